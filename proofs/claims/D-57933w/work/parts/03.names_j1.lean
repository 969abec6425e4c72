theorem q445 : (Jvm.Cond.sameMethod "[B" "java/lang/Object" "clone" "()Ljava/lang/Object;") ∈ lw_all := lw_g (lw_at lw_m2 71 rfl) rfl
set_option maxRecDepth 100000
theorem q448 : (Jvm.Cond.selects "[B" ({ cls := "[B", name := "clone", desc := "()Ljava/lang/Object;" } : Jvm.MethodName) ({ cls := "java/lang/Object", name := "clone", desc := "()Ljava/lang/Object;" } : Jvm.MethodName)) ∈ lw_all := lw_g (lw_at lw_m2 74 rfl) rfl
theorem q449 : (Jvm.Cond.castable "[B" "java/lang/Cloneable") ∈ lw_tbl := lw_at lw_m2 75 rfl
theorem q3168 : (Jvm.Cond.castable "[B" "java/lang/Object") ∈ lw_tbl := lw_at lw_m13 154 rfl
theorem q3169 : (Jvm.Cond.castable "[I" "java/lang/Object") ∈ lw_tbl := lw_at lw_m13 155 rfl
set_option maxRecDepth 100000
theorem q3172 : (Jvm.Cond.castable "[J" "java/lang/Object") ∈ lw_tbl := lw_at lw_m13 158 rfl
set_option maxRecDepth 100000
theorem q3165 : (Jvm.Cond.sameMethod "[Ljava/lang/Object;" "java/lang/Object" "getClass" "()Ljava/lang/Class;") ∈ lw_all := lw_g (lw_at lw_m13 151 rfl) rfl
set_option maxRecDepth 100000
theorem q3166 : (Jvm.Cond.selects "[Ljava/lang/Object;" ({ cls := "java/lang/Object", name := "getClass", desc := "()Ljava/lang/Class;" } : Jvm.MethodName) ({ cls := "java/lang/Object", name := "getClass", desc := "()Ljava/lang/Class;" } : Jvm.MethodName)) ∈ lw_all := lw_g (lw_at lw_m13 152 rfl) rfl
theorem q3170 : (Jvm.Cond.castable "[Ljava/lang/Object;" "java/lang/Object") ∈ lw_tbl := lw_at lw_m13 156 rfl
theorem q3171 : (Jvm.Cond.castable "[Z" "java/lang/Object") ∈ lw_tbl := lw_at lw_m13 157 rfl
set_option maxRecDepth 100000
theorem q1974 : (Jvm.Cond.interfaceMethod "java/lang/Comparable" "java/lang/Comparable" "compareTo" "(Ljava/lang/Object;)I") ∈ lw_tbl := lw_at lw_m8 160 rfl
set_option maxRecDepth 100000
theorem q1975 : (Jvm.Cond.declares ({ cls := "java/lang/Comparable", name := "compareTo", desc := "(Ljava/lang/Object;)I" } : Jvm.MethodName)) ∈ lw_tbl := lw_at lw_m8 161 rfl
theorem q141 : (Jvm.Cond.initialized "java/lang/Integer$IntegerCache") ∈ lw_all := lw_g (lw_at lw_m1 7 rfl) rfl
set_option maxRecDepth 100000
theorem q230 : (Jvm.Cond.laysStatic "java/lang/Integer$IntegerCache" "high" "I") ∈ lw_tbl := lw_at lw_m1 96 rfl
theorem q232 : (Jvm.Cond.laysStatic "java/lang/Integer$IntegerCache" "cache" "[Ljava/lang/Integer;") ∈ lw_tbl := lw_at lw_m1 98 rfl
theorem q145 : (Jvm.Cond.initialized "java/lang/System") ∈ lw_all := lw_g (lw_at lw_m1 11 rfl) rfl
set_option maxRecDepth 100000
theorem q325 : (Jvm.Cond.static ({ cls := "java/lang/System", name := "arraycopy", desc := "(Ljava/lang/Object;ILjava/lang/Object;II)V" } : Jvm.MethodName)) ∈ lw_all := lw_g (lw_at lw_m1 191 rfl) rfl
theorem q326 : (Jvm.Cond.native ({ cls := "java/lang/System", name := "arraycopy", desc := "(Ljava/lang/Object;ILjava/lang/Object;II)V" } : Jvm.MethodName)) ∈ lw_all := lw_g (lw_at lw_m1 192 rfl) rfl
theorem q248 : (Jvm.Cond.interfaceMethod "java/util/List" "java/util/List" "add" "(Ljava/lang/Object;)Z") ∈ lw_tbl := lw_at lw_m1 114 rfl
set_option maxRecDepth 100000
theorem q249 : (Jvm.Cond.declares ({ cls := "java/util/List", name := "add", desc := "(Ljava/lang/Object;)Z" } : Jvm.MethodName)) ∈ lw_tbl := lw_at lw_m1 115 rfl
theorem q665 : (Jvm.Cond.interfaceMethod "java/util/List" "java/util/List" "size" "()I") ∈ lw_tbl := lw_at lw_m3 51 rfl
theorem q666 : (Jvm.Cond.declares ({ cls := "java/util/List", name := "size", desc := "()I" } : Jvm.MethodName)) ∈ lw_tbl := lw_at lw_m3 52 rfl
theorem q674 : (Jvm.Cond.interfaceMethod "java/util/List" "java/util/List" "get" "(I)Ljava/lang/Object;") ∈ lw_tbl := lw_at lw_m3 60 rfl
theorem q675 : (Jvm.Cond.declares ({ cls := "java/util/List", name := "get", desc := "(I)Ljava/lang/Object;" } : Jvm.MethodName)) ∈ lw_tbl := lw_at lw_m3 61 rfl
theorem q768 : (Jvm.Cond.interfaceMethod "java/util/List" "java/util/List" "isEmpty" "()Z") ∈ lw_tbl := lw_at lw_m3 154 rfl
theorem q769 : (Jvm.Cond.declares ({ cls := "java/util/List", name := "isEmpty", desc := "()Z" } : Jvm.MethodName)) ∈ lw_tbl := lw_at lw_m3 155 rfl
theorem q1424 : (Jvm.Cond.interfaceMethod "java/util/List" "java/util/List" "remove" "(I)Ljava/lang/Object;") ∈ lw_tbl := lw_at lw_m6 90 rfl
theorem q1425 : (Jvm.Cond.declares ({ cls := "java/util/List", name := "remove", desc := "(I)Ljava/lang/Object;" } : Jvm.MethodName)) ∈ lw_tbl := lw_at lw_m6 91 rfl
theorem q1438 : (Jvm.Cond.interfaceMethod "java/util/List" "java/util/List" "add" "(ILjava/lang/Object;)V") ∈ lw_tbl := lw_at lw_m6 104 rfl
theorem q1439 : (Jvm.Cond.declares ({ cls := "java/util/List", name := "add", desc := "(ILjava/lang/Object;)V" } : Jvm.MethodName)) ∈ lw_tbl := lw_at lw_m6 105 rfl
theorem q1552 : (Jvm.Cond.interfaceMethod "java/util/List" "java/util/List" "iterator" "()Ljava/util/Iterator;") ∈ lw_tbl := lw_at lw_m6 218 rfl
theorem q1553 : (Jvm.Cond.declares ({ cls := "java/util/List", name := "iterator", desc := "()Ljava/util/Iterator;" } : Jvm.MethodName)) ∈ lw_tbl := lw_at lw_m6 219 rfl
theorem q1131 : (Jvm.Cond.interfaceMethod "jdk/internal/access/JavaLangAccess" "jdk/internal/access/JavaLangAccess" "getUTF16Char" "([BI)C") ∈ lw_tbl := lw_at lw_m5 37 rfl
set_option maxRecDepth 100000
theorem q1132 : (Jvm.Cond.declares ({ cls := "jdk/internal/access/JavaLangAccess", name := "getUTF16Char", desc := "([BI)C" } : Jvm.MethodName)) ∈ lw_tbl := lw_at lw_m5 38 rfl
theorem q181 : (Jvm.Cond.initialized "jdk/internal/misc/UnsafeConstants") ∈ lw_all := lw_g (lw_at lw_m1 47 rfl) rfl
set_option maxRecDepth 100000
theorem q2046 : (Jvm.Cond.laysStatic "jdk/internal/misc/UnsafeConstants" "BIG_ENDIAN" "Z") ∈ lw_tbl := lw_at lw_m8 232 rfl
theorem q224 : (Jvm.Cond.arrayClass Jvm.ClassFile.FieldType.byte) ∈ lw_all := lw_g (lw_at lw_m1 90 rfl) rfl
set_option maxRecDepth 100000
theorem q225 : (Jvm.Cond.arrayClass Jvm.ClassFile.FieldType.int) ∈ lw_all := lw_g (lw_at lw_m1 91 rfl) rfl
theorem q319 : (Jvm.Cond.arrayOver (Jvm.ClassFile.FieldType.object "java/lang/Object")) ∈ lw_tbl := lw_at lw_m1 185 rfl
theorem q1578 : (Jvm.Cond.arrayClass Jvm.ClassFile.FieldType.boolean) ∈ lw_all := lw_g (lw_at lw_m7 4 rfl) rfl
theorem q3108 : (Jvm.Cond.arrayClass Jvm.ClassFile.FieldType.long) ∈ lw_all := lw_g (lw_at lw_m13 94 rfl) rfl
theorem q3173 : (Jvm.Cond.arrayClass Jvm.ClassFile.FieldType.char) ∈ lw_all := lw_g (lw_at lw_m13 159 rfl) rfl
theorem q3174 : (Jvm.Cond.arrayClass Jvm.ClassFile.FieldType.short) ∈ lw_all := lw_g (lw_at lw_m13 160 rfl) rfl
/-! java/util/AbstractCollection -/
set_option maxRecDepth 100000
def RJ0 : String := "java/util/AbstractCollection"
abbrev cJ0_init : ByteArray := prog_47_method_1_code
def yJ0_init : MethodName := ⟨RJ0, "<init>", "()V"⟩
theorem dJ0_init_0 : decode cJ0_init 0 = .ok (.aload_n 0, 1) := by decide +kernel
theorem dJ0_init_1 : decode cJ0_init 1 = .ok (.invokespecial 1, 3) := by decide +kernel
theorem dJ0_init_4 : decode cJ0_init 4 = .ok (.return_, 1) := by decide +kernel
theorem q136 : (Jvm.Cond.initialized "java/util/AbstractCollection") ∈ lw_all := lw_g (lw_at lw_m1 2 rfl) rfl
theorem q204 : (Jvm.Cond.instanceMethod ({ cls := "java/util/AbstractCollection", name := "<init>", desc := "()V" } : Jvm.MethodName)) ∈ lw_all := lw_g (lw_at lw_m1 70 rfl) rfl
theorem q205 : (Jvm.Cond.code ({ cls := "java/util/AbstractCollection", name := "<init>", desc := "()V" } : Jvm.MethodName) prog_47_method_1_code (1 : Nat) (Option.none : Option Jvm.ClassFile.FieldType)) ∈ lw_all := lw_g (lw_at lw_m1 71 rfl) rfl
theorem q206 : (Jvm.Cond.methodLink "java/util/AbstractCollection" (1 : Nat) ({ cls := "java/lang/Object", name := "<init>", desc := "()V" } : Jvm.MethodName)) ∈ lw_all := lw_g (lw_at lw_m1 72 rfl) rfl
/-! java/util/AbstractList -/
set_option maxRecDepth 100000
def RJ1 : String := "java/util/AbstractList"
abbrev cJ1_init : ByteArray := prog_48_method_1_code
def yJ1_init : MethodName := ⟨RJ1, "<init>", "()V"⟩
def dkwJ1_init_0 : List UInt8 := [42, 183, 0, 1, 42, 3, 181, 0, 7, 177]
abbrev dktJ1_init_0 : List UInt8 := dkwJ1_init_0 ++ []
theorem dksJ1_init_0 : cJ1_init.data.toList.drop 0 = dktJ1_init_0 := by decide +kernel
theorem dJ1_init_0 : decode cJ1_init 0 = .ok (.aload_n 0, 1) := dk_42 (dk_at dksJ1_init_0 0 rfl rfl)
theorem dJ1_init_1 : decode cJ1_init 1 = .ok (.invokespecial 1, 3) := dk_183 0 1 (dk_at dksJ1_init_0 1 rfl rfl)
theorem dJ1_init_4 : decode cJ1_init 4 = .ok (.aload_n 0, 1) := dk_42 (dk_at dksJ1_init_0 4 rfl rfl)
theorem dJ1_init_5 : decode cJ1_init 5 = .ok (.iconst 0, 1) := dk_3 (dk_at dksJ1_init_0 5 rfl rfl)
theorem dJ1_init_6 : decode cJ1_init 6 = .ok (.putfield 7, 3) := dk_181 0 7 (dk_at dksJ1_init_0 6 rfl rfl)
theorem dJ1_init_9 : decode cJ1_init 9 = .ok (.return_, 1) := dk_177 (dk_at dksJ1_init_0 9 rfl rfl)
theorem q137 : (Jvm.Cond.initialized "java/util/AbstractList") ∈ lw_all := lw_g (lw_at lw_m1 3 rfl) rfl
theorem q201 : (Jvm.Cond.instanceMethod ({ cls := "java/util/AbstractList", name := "<init>", desc := "()V" } : Jvm.MethodName)) ∈ lw_all := lw_g (lw_at lw_m1 67 rfl) rfl
theorem q202 : (Jvm.Cond.code ({ cls := "java/util/AbstractList", name := "<init>", desc := "()V" } : Jvm.MethodName) prog_48_method_1_code (1 : Nat) (Option.none : Option Jvm.ClassFile.FieldType)) ∈ lw_all := lw_g (lw_at lw_m1 68 rfl) rfl
theorem q203 : (Jvm.Cond.methodLink "java/util/AbstractList" (1 : Nat) ({ cls := "java/util/AbstractCollection", name := "<init>", desc := "()V" } : Jvm.MethodName)) ∈ lw_all := lw_g (lw_at lw_m1 69 rfl) rfl
theorem q213 : (Jvm.Cond.fieldLink "java/util/AbstractList" (7 : Nat) "java/util/AbstractList" "modCount" "I") ∈ lw_all := lw_g (lw_at lw_m1 79 rfl) rfl
theorem q222 : (Jvm.Cond.soleField "java/util/AbstractList" "modCount") ∈ lw_all := lw_g (lw_at lw_m1 88 rfl) rfl
/-! java/util/ArrayList -/
set_option maxRecDepth 100000
def RJ2 : String := "java/util/ArrayList"
def TJ2 : u_T := fun k => match k with
  | 0 => ("java/util/AbstractList", "modCount", "I", false)
  | 1 => ("java/util/ArrayList", "elementData", "[Ljava/lang/Object;", false)
  | _ => ("java/util/ArrayList", "size", "I", false)
def tyJ2 : Nat → FieldType := fun k => match k with
  | 0 => .int
  | 1 => .array (.object "java/lang/Object")
  | _ => .int
abbrev wsJ20 : List Cond := u_ws RJ2 TJ2 3
theorem nmJ2 : ∀ a, a < 3 → ∀ b, b < 3 → a ≠ b → (TJ2 a).2.1 ≠ (TJ2 b).2.1 := by decide +kernel
theorem tyJ2_ok : ∀ k, k < 3 → parseFieldDescriptor (TJ2 k).2.2.1 = some (tyJ2 k) := by decide +kernel
abbrev cJ2_init : ByteArray := prog_50_method_2_code
def yJ2_init : MethodName := ⟨RJ2, "<init>", "()V"⟩
def dkwJ2_init_0 : List UInt8 := [42, 183, 0, 1, 42, 178, 0, 39, 181, 0, 9, 177]
abbrev dktJ2_init_0 : List UInt8 := dkwJ2_init_0 ++ []
theorem dksJ2_init_0 : cJ2_init.data.toList.drop 0 = dktJ2_init_0 := by decide +kernel
theorem dJ2_init_0 : decode cJ2_init 0 = .ok (.aload_n 0, 1) := dk_42 (dk_at dksJ2_init_0 0 rfl rfl)
theorem dJ2_init_1 : decode cJ2_init 1 = .ok (.invokespecial 1, 3) := dk_183 0 1 (dk_at dksJ2_init_0 1 rfl rfl)
theorem dJ2_init_4 : decode cJ2_init 4 = .ok (.aload_n 0, 1) := dk_42 (dk_at dksJ2_init_0 4 rfl rfl)
theorem dJ2_init_5 : decode cJ2_init 5 = .ok (.getstatic 39, 3) := dk_178 0 39 (dk_at dksJ2_init_0 5 rfl rfl)
theorem dJ2_init_8 : decode cJ2_init 8 = .ok (.putfield 9, 3) := dk_181 0 9 (dk_at dksJ2_init_0 8 rfl rfl)
theorem dJ2_init_11 : decode cJ2_init 11 = .ok (.return_, 1) := dk_177 (dk_at dksJ2_init_0 11 rfl rfl)
abbrev cJ2_add : ByteArray := prog_50_method_25_code
def yJ2_add : MethodName := ⟨RJ2, "add", "(Ljava/lang/Object;)Z"⟩
def dkwJ2_add_1 : List UInt8 := [172]
abbrev dktJ2_add_1 : List UInt8 := dkwJ2_add_1 ++ []
def dkwJ2_add_0 : List UInt8 := [42, 89, 180, 0, 63, 4, 96, 181, 0, 63, 42, 43, 42, 180, 0, 9, 42, 180, 0, 48, 182, 0, 131, 4]
abbrev dktJ2_add_0 : List UInt8 := dkwJ2_add_0 ++ dktJ2_add_1
theorem dksJ2_add_0 : cJ2_add.data.toList.drop 0 = dktJ2_add_0 := by decide +kernel
theorem dksJ2_add_1 : cJ2_add.data.toList.drop 24 = dktJ2_add_1 := dk_seg dksJ2_add_0 24 rfl rfl
theorem dJ2_add_0 : decode cJ2_add 0 = .ok (.aload_n 0, 1) := dk_42 (dk_at dksJ2_add_0 0 rfl rfl)
theorem dJ2_add_1 : decode cJ2_add 1 = .ok (.dup, 1) := dk_89 (dk_at dksJ2_add_0 1 rfl rfl)
theorem dJ2_add_2 : decode cJ2_add 2 = .ok (.getfield 63, 3) := dk_180 0 63 (dk_at dksJ2_add_0 2 rfl rfl)
theorem dJ2_add_5 : decode cJ2_add 5 = .ok (.iconst 1, 1) := dk_4 (dk_at dksJ2_add_0 5 rfl rfl)
theorem dJ2_add_6 : decode cJ2_add 6 = .ok (.iadd, 1) := dk_96 (dk_at dksJ2_add_0 6 rfl rfl)
theorem dJ2_add_7 : decode cJ2_add 7 = .ok (.putfield 63, 3) := dk_181 0 63 (dk_at dksJ2_add_0 7 rfl rfl)
theorem dJ2_add_10 : decode cJ2_add 10 = .ok (.aload_n 0, 1) := dk_42 (dk_at dksJ2_add_0 10 rfl rfl)
theorem dJ2_add_11 : decode cJ2_add 11 = .ok (.aload_n 1, 1) := dk_43 (dk_at dksJ2_add_0 11 rfl rfl)
theorem dJ2_add_12 : decode cJ2_add 12 = .ok (.aload_n 0, 1) := dk_42 (dk_at dksJ2_add_0 12 rfl rfl)
theorem dJ2_add_13 : decode cJ2_add 13 = .ok (.getfield 9, 3) := dk_180 0 9 (dk_at dksJ2_add_0 13 rfl rfl)
theorem dJ2_add_16 : decode cJ2_add 16 = .ok (.aload_n 0, 1) := dk_42 (dk_at dksJ2_add_0 16 rfl rfl)
theorem dJ2_add_17 : decode cJ2_add 17 = .ok (.getfield 48, 3) := dk_180 0 48 (dk_at dksJ2_add_0 17 rfl rfl)
theorem dJ2_add_20 : decode cJ2_add 20 = .ok (.invokevirtual 131, 3) := dk_182 0 131 (dk_at dksJ2_add_0 20 rfl rfl)
theorem dJ2_add_23 : decode cJ2_add 23 = .ok (.iconst 1, 1) := dk_4 (dk_at dksJ2_add_0 23 rfl rfl)
theorem dJ2_add_24 : decode cJ2_add 24 = .ok (.ireturn, 1) := dk_172 (dk_at dksJ2_add_1 0 rfl rfl)
abbrev cJ2_add_2 : ByteArray := prog_50_method_24_code
def yJ2_add_2 : MethodName := ⟨RJ2, "add", "(Ljava/lang/Object;[Ljava/lang/Object;I)V"⟩
def dkwJ2_add_2_0 : List UInt8 := [29, 44, 190, 160, 0, 8, 42, 182, 0, 129, 77, 44, 29, 43, 83, 42, 29, 4, 96, 181, 0, 48, 177]
abbrev dktJ2_add_2_0 : List UInt8 := dkwJ2_add_2_0 ++ []
theorem dksJ2_add_2_0 : cJ2_add_2.data.toList.drop 0 = dktJ2_add_2_0 := by decide +kernel
theorem dJ2_add_2_0 : decode cJ2_add_2 0 = .ok (.iload_n 3, 1) := dk_29 (dk_at dksJ2_add_2_0 0 rfl rfl)
theorem dJ2_add_2_1 : decode cJ2_add_2 1 = .ok (.aload_n 2, 1) := dk_44 (dk_at dksJ2_add_2_0 1 rfl rfl)
theorem dJ2_add_2_2 : decode cJ2_add_2 2 = .ok (.arraylength, 1) := dk_190 (dk_at dksJ2_add_2_0 2 rfl rfl)
theorem dJ2_add_2_3 : decode cJ2_add_2 3 = .ok (.if_icmp .ne 8, 3) := dk_160 0 8 (dk_at dksJ2_add_2_0 3 rfl rfl)
theorem dJ2_add_2_6 : decode cJ2_add_2 6 = .ok (.aload_n 0, 1) := dk_42 (dk_at dksJ2_add_2_0 6 rfl rfl)
theorem dJ2_add_2_7 : decode cJ2_add_2 7 = .ok (.invokevirtual 129, 3) := dk_182 0 129 (dk_at dksJ2_add_2_0 7 rfl rfl)
theorem dJ2_add_2_10 : decode cJ2_add_2 10 = .ok (.astore_n 2, 1) := dk_77 (dk_at dksJ2_add_2_0 10 rfl rfl)
theorem dJ2_add_2_11 : decode cJ2_add_2 11 = .ok (.aload_n 2, 1) := dk_44 (dk_at dksJ2_add_2_0 11 rfl rfl)
theorem dJ2_add_2_12 : decode cJ2_add_2 12 = .ok (.iload_n 3, 1) := dk_29 (dk_at dksJ2_add_2_0 12 rfl rfl)
theorem dJ2_add_2_13 : decode cJ2_add_2 13 = .ok (.aload_n 1, 1) := dk_43 (dk_at dksJ2_add_2_0 13 rfl rfl)
theorem dJ2_add_2_14 : decode cJ2_add_2 14 = .ok (.aastore, 1) := dk_83 (dk_at dksJ2_add_2_0 14 rfl rfl)
theorem dJ2_add_2_15 : decode cJ2_add_2 15 = .ok (.aload_n 0, 1) := dk_42 (dk_at dksJ2_add_2_0 15 rfl rfl)
theorem dJ2_add_2_16 : decode cJ2_add_2 16 = .ok (.iload_n 3, 1) := dk_29 (dk_at dksJ2_add_2_0 16 rfl rfl)
theorem dJ2_add_2_17 : decode cJ2_add_2 17 = .ok (.iconst 1, 1) := dk_4 (dk_at dksJ2_add_2_0 17 rfl rfl)
theorem dJ2_add_2_18 : decode cJ2_add_2 18 = .ok (.iadd, 1) := dk_96 (dk_at dksJ2_add_2_0 18 rfl rfl)
theorem dJ2_add_2_19 : decode cJ2_add_2 19 = .ok (.putfield 48, 3) := dk_181 0 48 (dk_at dksJ2_add_2_0 19 rfl rfl)
theorem dJ2_add_2_22 : decode cJ2_add_2 22 = .ok (.return_, 1) := dk_177 (dk_at dksJ2_add_2_0 22 rfl rfl)
abbrev cJ2_grow : ByteArray := prog_50_method_7_code
def yJ2_grow : MethodName := ⟨RJ2, "grow", "()[Ljava/lang/Object;"⟩
def dkwJ2_grow_0 : List UInt8 := [42, 42, 180, 0, 48, 4, 96, 182, 0, 69, 176]
abbrev dktJ2_grow_0 : List UInt8 := dkwJ2_grow_0 ++ []
theorem dksJ2_grow_0 : cJ2_grow.data.toList.drop 0 = dktJ2_grow_0 := by decide +kernel
theorem dJ2_grow_0 : decode cJ2_grow 0 = .ok (.aload_n 0, 1) := dk_42 (dk_at dksJ2_grow_0 0 rfl rfl)
theorem dJ2_grow_1 : decode cJ2_grow 1 = .ok (.aload_n 0, 1) := dk_42 (dk_at dksJ2_grow_0 1 rfl rfl)
theorem dJ2_grow_2 : decode cJ2_grow 2 = .ok (.getfield 48, 3) := dk_180 0 48 (dk_at dksJ2_grow_0 2 rfl rfl)
theorem dJ2_grow_5 : decode cJ2_grow 5 = .ok (.iconst 1, 1) := dk_4 (dk_at dksJ2_grow_0 5 rfl rfl)
theorem dJ2_grow_6 : decode cJ2_grow 6 = .ok (.iadd, 1) := dk_96 (dk_at dksJ2_grow_0 6 rfl rfl)
theorem dJ2_grow_7 : decode cJ2_grow 7 = .ok (.invokevirtual 69, 3) := dk_182 0 69 (dk_at dksJ2_grow_0 7 rfl rfl)
theorem dJ2_grow_10 : decode cJ2_grow 10 = .ok (.areturn, 1) := dk_176 (dk_at dksJ2_grow_0 10 rfl rfl)
abbrev cJ2_grow_2 : ByteArray := prog_50_method_6_code
def yJ2_grow_2 : MethodName := ⟨RJ2, "grow", "(I)[Ljava/lang/Object;"⟩
def dkwJ2_grow_2_2 : List UInt8 := [27, 184, 0, 79, 189, 0, 7, 90, 181, 0, 9, 176]
abbrev dktJ2_grow_2_2 : List UInt8 := dkwJ2_grow_2_2 ++ []
def dkwJ2_grow_2_1 : List UInt8 := [28, 4, 122, 184, 0, 73, 62, 42, 42, 180, 0, 9, 29, 184, 0, 66, 90, 181, 0, 9, 176, 42, 16, 10]
abbrev dktJ2_grow_2_1 : List UInt8 := dkwJ2_grow_2_1 ++ dktJ2_grow_2_2
def dkwJ2_grow_2_0 : List UInt8 := [42, 180, 0, 9, 190, 61, 28, 157, 0, 13, 42, 180, 0, 9, 178, 0, 39, 165, 0, 28, 28, 27, 28, 100]
abbrev dktJ2_grow_2_0 : List UInt8 := dkwJ2_grow_2_0 ++ dktJ2_grow_2_1
theorem dksJ2_grow_2_0 : cJ2_grow_2.data.toList.drop 0 = dktJ2_grow_2_0 := by decide +kernel
theorem dksJ2_grow_2_1 : cJ2_grow_2.data.toList.drop 24 = dktJ2_grow_2_1 := dk_seg dksJ2_grow_2_0 24 rfl rfl
theorem dksJ2_grow_2_2 : cJ2_grow_2.data.toList.drop 48 = dktJ2_grow_2_2 := dk_seg dksJ2_grow_2_1 24 rfl rfl
theorem dJ2_grow_2_0 : decode cJ2_grow_2 0 = .ok (.aload_n 0, 1) := dk_42 (dk_at dksJ2_grow_2_0 0 rfl rfl)
theorem dJ2_grow_2_1 : decode cJ2_grow_2 1 = .ok (.getfield 9, 3) := dk_180 0 9 (dk_at dksJ2_grow_2_0 1 rfl rfl)
theorem dJ2_grow_2_4 : decode cJ2_grow_2 4 = .ok (.arraylength, 1) := dk_190 (dk_at dksJ2_grow_2_0 4 rfl rfl)
theorem dJ2_grow_2_5 : decode cJ2_grow_2 5 = .ok (.istore_n 2, 1) := dk_61 (dk_at dksJ2_grow_2_0 5 rfl rfl)
theorem dJ2_grow_2_6 : decode cJ2_grow_2 6 = .ok (.iload_n 2, 1) := dk_28 (dk_at dksJ2_grow_2_0 6 rfl rfl)
theorem dJ2_grow_2_7 : decode cJ2_grow_2 7 = .ok (.ifCond .gt 13, 3) := dk_157 0 13 (dk_at dksJ2_grow_2_0 7 rfl rfl)
theorem dJ2_grow_2_10 : decode cJ2_grow_2 10 = .ok (.aload_n 0, 1) := dk_42 (dk_at dksJ2_grow_2_0 10 rfl rfl)
theorem dJ2_grow_2_11 : decode cJ2_grow_2 11 = .ok (.getfield 9, 3) := dk_180 0 9 (dk_at dksJ2_grow_2_0 11 rfl rfl)
theorem dJ2_grow_2_14 : decode cJ2_grow_2 14 = .ok (.getstatic 39, 3) := dk_178 0 39 (dk_at dksJ2_grow_2_0 14 rfl rfl)
theorem dJ2_grow_2_17 : decode cJ2_grow_2 17 = .ok (.if_acmp .eq 28, 3) := dk_165 0 28 (dk_at dksJ2_grow_2_0 17 rfl rfl)
theorem dJ2_grow_2_20 : decode cJ2_grow_2 20 = .ok (.iload_n 2, 1) := dk_28 (dk_at dksJ2_grow_2_0 20 rfl rfl)
theorem dJ2_grow_2_21 : decode cJ2_grow_2 21 = .ok (.iload_n 1, 1) := dk_27 (dk_at dksJ2_grow_2_0 21 rfl rfl)
theorem dJ2_grow_2_22 : decode cJ2_grow_2 22 = .ok (.iload_n 2, 1) := dk_28 (dk_at dksJ2_grow_2_0 22 rfl rfl)
theorem dJ2_grow_2_23 : decode cJ2_grow_2 23 = .ok (.isub, 1) := dk_100 (dk_at dksJ2_grow_2_0 23 rfl rfl)
theorem dJ2_grow_2_24 : decode cJ2_grow_2 24 = .ok (.iload_n 2, 1) := dk_28 (dk_at dksJ2_grow_2_1 0 rfl rfl)
theorem dJ2_grow_2_25 : decode cJ2_grow_2 25 = .ok (.iconst 1, 1) := dk_4 (dk_at dksJ2_grow_2_1 1 rfl rfl)
theorem dJ2_grow_2_26 : decode cJ2_grow_2 26 = .ok (.ishr, 1) := dk_122 (dk_at dksJ2_grow_2_1 2 rfl rfl)
theorem dJ2_grow_2_27 : decode cJ2_grow_2 27 = .ok (.invokestatic 73, 3) := dk_184 0 73 (dk_at dksJ2_grow_2_1 3 rfl rfl)
theorem dJ2_grow_2_30 : decode cJ2_grow_2 30 = .ok (.istore_n 3, 1) := dk_62 (dk_at dksJ2_grow_2_1 6 rfl rfl)
theorem dJ2_grow_2_31 : decode cJ2_grow_2 31 = .ok (.aload_n 0, 1) := dk_42 (dk_at dksJ2_grow_2_1 7 rfl rfl)
theorem dJ2_grow_2_32 : decode cJ2_grow_2 32 = .ok (.aload_n 0, 1) := dk_42 (dk_at dksJ2_grow_2_1 8 rfl rfl)
theorem dJ2_grow_2_33 : decode cJ2_grow_2 33 = .ok (.getfield 9, 3) := dk_180 0 9 (dk_at dksJ2_grow_2_1 9 rfl rfl)
theorem dJ2_grow_2_36 : decode cJ2_grow_2 36 = .ok (.iload_n 3, 1) := dk_29 (dk_at dksJ2_grow_2_1 12 rfl rfl)
theorem dJ2_grow_2_37 : decode cJ2_grow_2 37 = .ok (.invokestatic 66, 3) := dk_184 0 66 (dk_at dksJ2_grow_2_1 13 rfl rfl)
theorem dJ2_grow_2_40 : decode cJ2_grow_2 40 = .ok (.dup_x1, 1) := dk_90 (dk_at dksJ2_grow_2_1 16 rfl rfl)
theorem dJ2_grow_2_41 : decode cJ2_grow_2 41 = .ok (.putfield 9, 3) := dk_181 0 9 (dk_at dksJ2_grow_2_1 17 rfl rfl)
theorem dJ2_grow_2_44 : decode cJ2_grow_2 44 = .ok (.areturn, 1) := dk_176 (dk_at dksJ2_grow_2_1 20 rfl rfl)
theorem dJ2_grow_2_45 : decode cJ2_grow_2 45 = .ok (.aload_n 0, 1) := dk_42 (dk_at dksJ2_grow_2_1 21 rfl rfl)
theorem dJ2_grow_2_46 : decode cJ2_grow_2 46 = .ok (.bipush 10, 2) := dk_16 10 (dk_at dksJ2_grow_2_1 22 rfl rfl)
theorem dJ2_grow_2_48 : decode cJ2_grow_2 48 = .ok (.iload_n 1, 1) := dk_27 (dk_at dksJ2_grow_2_2 0 rfl rfl)
theorem dJ2_grow_2_49 : decode cJ2_grow_2 49 = .ok (.invokestatic 79, 3) := dk_184 0 79 (dk_at dksJ2_grow_2_2 1 rfl rfl)
theorem dJ2_grow_2_52 : decode cJ2_grow_2 52 = .ok (.anewarray 7, 3) := dk_189 0 7 (dk_at dksJ2_grow_2_2 4 rfl rfl)
theorem dJ2_grow_2_55 : decode cJ2_grow_2 55 = .ok (.dup_x1, 1) := dk_90 (dk_at dksJ2_grow_2_2 7 rfl rfl)
theorem dJ2_grow_2_56 : decode cJ2_grow_2 56 = .ok (.putfield 9, 3) := dk_181 0 9 (dk_at dksJ2_grow_2_2 8 rfl rfl)
theorem dJ2_grow_2_59 : decode cJ2_grow_2 59 = .ok (.areturn, 1) := dk_176 (dk_at dksJ2_grow_2_2 11 rfl rfl)
abbrev cJ2_init_2 : ByteArray := prog_50_method_1_code
def yJ2_init_2 : MethodName := ⟨RJ2, "<init>", "(I)V"⟩
def dkwJ2_init_2_2 : List UInt8 := [182, 0, 25, 27, 182, 0, 29, 182, 0, 32, 183, 0, 36, 191, 177]
abbrev dktJ2_init_2_2 : List UInt8 := dkwJ2_init_2_2 ++ []
def dkwJ2_init_2_1 : List UInt8 := [178, 0, 15, 181, 0, 9, 167, 0, 30, 187, 0, 18, 89, 187, 0, 20, 89, 183, 0, 22, 18, 23]
abbrev dktJ2_init_2_1 : List UInt8 := dkwJ2_init_2_1 ++ dktJ2_init_2_2
def dkwJ2_init_2_0 : List UInt8 := [42, 183, 0, 1, 27, 158, 0, 14, 42, 27, 189, 0, 7, 181, 0, 9, 167, 0, 44, 27, 154, 0, 13, 42]
abbrev dktJ2_init_2_0 : List UInt8 := dkwJ2_init_2_0 ++ dktJ2_init_2_1
theorem dksJ2_init_2_0 : cJ2_init_2.data.toList.drop 0 = dktJ2_init_2_0 := by decide +kernel
theorem dksJ2_init_2_1 : cJ2_init_2.data.toList.drop 24 = dktJ2_init_2_1 := dk_seg dksJ2_init_2_0 24 rfl rfl
theorem dksJ2_init_2_2 : cJ2_init_2.data.toList.drop 46 = dktJ2_init_2_2 := dk_seg dksJ2_init_2_1 22 rfl rfl
theorem dJ2_init_2_0 : decode cJ2_init_2 0 = .ok (.aload_n 0, 1) := dk_42 (dk_at dksJ2_init_2_0 0 rfl rfl)
theorem dJ2_init_2_1 : decode cJ2_init_2 1 = .ok (.invokespecial 1, 3) := dk_183 0 1 (dk_at dksJ2_init_2_0 1 rfl rfl)
theorem dJ2_init_2_4 : decode cJ2_init_2 4 = .ok (.iload_n 1, 1) := dk_27 (dk_at dksJ2_init_2_0 4 rfl rfl)
theorem dJ2_init_2_5 : decode cJ2_init_2 5 = .ok (.ifCond .le 14, 3) := dk_158 0 14 (dk_at dksJ2_init_2_0 5 rfl rfl)
theorem dJ2_init_2_8 : decode cJ2_init_2 8 = .ok (.aload_n 0, 1) := dk_42 (dk_at dksJ2_init_2_0 8 rfl rfl)
theorem dJ2_init_2_9 : decode cJ2_init_2 9 = .ok (.iload_n 1, 1) := dk_27 (dk_at dksJ2_init_2_0 9 rfl rfl)
theorem dJ2_init_2_10 : decode cJ2_init_2 10 = .ok (.anewarray 7, 3) := dk_189 0 7 (dk_at dksJ2_init_2_0 10 rfl rfl)
theorem dJ2_init_2_13 : decode cJ2_init_2 13 = .ok (.putfield 9, 3) := dk_181 0 9 (dk_at dksJ2_init_2_0 13 rfl rfl)
theorem dJ2_init_2_16 : decode cJ2_init_2 16 = .ok (.goto 44, 3) := dk_167 0 44 (dk_at dksJ2_init_2_0 16 rfl rfl)
theorem dJ2_init_2_19 : decode cJ2_init_2 19 = .ok (.iload_n 1, 1) := dk_27 (dk_at dksJ2_init_2_0 19 rfl rfl)
theorem dJ2_init_2_20 : decode cJ2_init_2 20 = .ok (.ifCond .ne 13, 3) := dk_154 0 13 (dk_at dksJ2_init_2_0 20 rfl rfl)
theorem dJ2_init_2_23 : decode cJ2_init_2 23 = .ok (.aload_n 0, 1) := dk_42 (dk_at dksJ2_init_2_0 23 rfl rfl)
theorem dJ2_init_2_24 : decode cJ2_init_2 24 = .ok (.getstatic 15, 3) := dk_178 0 15 (dk_at dksJ2_init_2_1 0 rfl rfl)
theorem dJ2_init_2_27 : decode cJ2_init_2 27 = .ok (.putfield 9, 3) := dk_181 0 9 (dk_at dksJ2_init_2_1 3 rfl rfl)
theorem dJ2_init_2_30 : decode cJ2_init_2 30 = .ok (.goto 30, 3) := dk_167 0 30 (dk_at dksJ2_init_2_1 6 rfl rfl)
theorem dJ2_init_2_33 : decode cJ2_init_2 33 = .ok (.new 18, 3) := dk_187 0 18 (dk_at dksJ2_init_2_1 9 rfl rfl)
theorem dJ2_init_2_36 : decode cJ2_init_2 36 = .ok (.dup, 1) := dk_89 (dk_at dksJ2_init_2_1 12 rfl rfl)
theorem dJ2_init_2_37 : decode cJ2_init_2 37 = .ok (.new 20, 3) := dk_187 0 20 (dk_at dksJ2_init_2_1 13 rfl rfl)
theorem dJ2_init_2_40 : decode cJ2_init_2 40 = .ok (.dup, 1) := dk_89 (dk_at dksJ2_init_2_1 16 rfl rfl)
theorem dJ2_init_2_41 : decode cJ2_init_2 41 = .ok (.invokespecial 22, 3) := dk_183 0 22 (dk_at dksJ2_init_2_1 17 rfl rfl)
theorem dJ2_init_2_44 : decode cJ2_init_2 44 = .ok (.ldc 23, 2) := dk_18 23 (dk_at dksJ2_init_2_1 20 rfl rfl)
theorem dJ2_init_2_46 : decode cJ2_init_2 46 = .ok (.invokevirtual 25, 3) := dk_182 0 25 (dk_at dksJ2_init_2_2 0 rfl rfl)
theorem dJ2_init_2_49 : decode cJ2_init_2 49 = .ok (.iload_n 1, 1) := dk_27 (dk_at dksJ2_init_2_2 3 rfl rfl)
theorem dJ2_init_2_50 : decode cJ2_init_2 50 = .ok (.invokevirtual 29, 3) := dk_182 0 29 (dk_at dksJ2_init_2_2 4 rfl rfl)
theorem dJ2_init_2_53 : decode cJ2_init_2 53 = .ok (.invokevirtual 32, 3) := dk_182 0 32 (dk_at dksJ2_init_2_2 7 rfl rfl)
theorem dJ2_init_2_56 : decode cJ2_init_2 56 = .ok (.invokespecial 36, 3) := dk_183 0 36 (dk_at dksJ2_init_2_2 10 rfl rfl)
theorem dJ2_init_2_59 : decode cJ2_init_2 59 = .ok (.athrow, 1) := dk_191 (dk_at dksJ2_init_2_2 13 rfl rfl)
theorem dJ2_init_2_60 : decode cJ2_init_2 60 = .ok (.return_, 1) := dk_177 (dk_at dksJ2_init_2_2 14 rfl rfl)
abbrev cJ2_size : ByteArray := prog_50_method_8_code
def yJ2_size : MethodName := ⟨RJ2, "size", "()I"⟩
theorem dJ2_size_0 : decode cJ2_size 0 = .ok (.aload_n 0, 1) := by decide +kernel
theorem dJ2_size_1 : decode cJ2_size 1 = .ok (.getfield 48, 3) := by decide +kernel
theorem dJ2_size_4 : decode cJ2_size 4 = .ok (.ireturn, 1) := by decide +kernel
abbrev cJ2_get : ByteArray := prog_50_method_20_code
def yJ2_get : MethodName := ⟨RJ2, "get", "(I)Ljava/lang/Object;"⟩
def dkwJ2_get_0 : List UInt8 := [27, 42, 180, 0, 48, 184, 0, 118, 87, 42, 27, 182, 0, 123, 176]
abbrev dktJ2_get_0 : List UInt8 := dkwJ2_get_0 ++ []
theorem dksJ2_get_0 : cJ2_get.data.toList.drop 0 = dktJ2_get_0 := by decide +kernel
theorem dJ2_get_0 : decode cJ2_get 0 = .ok (.iload_n 1, 1) := dk_27 (dk_at dksJ2_get_0 0 rfl rfl)
theorem dJ2_get_1 : decode cJ2_get 1 = .ok (.aload_n 0, 1) := dk_42 (dk_at dksJ2_get_0 1 rfl rfl)
theorem dJ2_get_2 : decode cJ2_get 2 = .ok (.getfield 48, 3) := dk_180 0 48 (dk_at dksJ2_get_0 2 rfl rfl)
theorem dJ2_get_5 : decode cJ2_get 5 = .ok (.invokestatic 118, 3) := dk_184 0 118 (dk_at dksJ2_get_0 5 rfl rfl)
theorem dJ2_get_8 : decode cJ2_get 8 = .ok (.pop, 1) := dk_87 (dk_at dksJ2_get_0 8 rfl rfl)
theorem dJ2_get_9 : decode cJ2_get 9 = .ok (.aload_n 0, 1) := dk_42 (dk_at dksJ2_get_0 9 rfl rfl)
theorem dJ2_get_10 : decode cJ2_get 10 = .ok (.iload_n 1, 1) := dk_27 (dk_at dksJ2_get_0 10 rfl rfl)
theorem dJ2_get_11 : decode cJ2_get 11 = .ok (.invokevirtual 123, 3) := dk_182 0 123 (dk_at dksJ2_get_0 11 rfl rfl)
theorem dJ2_get_14 : decode cJ2_get 14 = .ok (.areturn, 1) := dk_176 (dk_at dksJ2_get_0 14 rfl rfl)
abbrev cJ2_elementData : ByteArray := prog_50_method_18_code
def yJ2_elementData : MethodName := ⟨RJ2, "elementData", "(I)Ljava/lang/Object;"⟩
def dkwJ2_elementData_0 : List UInt8 := [42, 180, 0, 9, 27, 50, 176]
abbrev dktJ2_elementData_0 : List UInt8 := dkwJ2_elementData_0 ++ []
theorem dksJ2_elementData_0 : cJ2_elementData.data.toList.drop 0 = dktJ2_elementData_0 := by decide +kernel
theorem dJ2_elementData_0 : decode cJ2_elementData 0 = .ok (.aload_n 0, 1) := dk_42 (dk_at dksJ2_elementData_0 0 rfl rfl)
theorem dJ2_elementData_1 : decode cJ2_elementData 1 = .ok (.getfield 9, 3) := dk_180 0 9 (dk_at dksJ2_elementData_0 1 rfl rfl)
theorem dJ2_elementData_4 : decode cJ2_elementData 4 = .ok (.iload_n 1, 1) := dk_27 (dk_at dksJ2_elementData_0 4 rfl rfl)
theorem dJ2_elementData_5 : decode cJ2_elementData 5 = .ok (.aaload, 1) := dk_50 (dk_at dksJ2_elementData_0 5 rfl rfl)
theorem dJ2_elementData_6 : decode cJ2_elementData 6 = .ok (.areturn, 1) := dk_176 (dk_at dksJ2_elementData_0 6 rfl rfl)
abbrev cJ2_isEmpty : ByteArray := prog_50_method_9_code
def yJ2_isEmpty : MethodName := ⟨RJ2, "isEmpty", "()Z"⟩
def dkwJ2_isEmpty_0 : List UInt8 := [42, 180, 0, 48, 154, 0, 7, 4, 167, 0, 4, 3, 172]
abbrev dktJ2_isEmpty_0 : List UInt8 := dkwJ2_isEmpty_0 ++ []
theorem dksJ2_isEmpty_0 : cJ2_isEmpty.data.toList.drop 0 = dktJ2_isEmpty_0 := by decide +kernel
theorem dJ2_isEmpty_0 : decode cJ2_isEmpty 0 = .ok (.aload_n 0, 1) := dk_42 (dk_at dksJ2_isEmpty_0 0 rfl rfl)
theorem dJ2_isEmpty_1 : decode cJ2_isEmpty 1 = .ok (.getfield 48, 3) := dk_180 0 48 (dk_at dksJ2_isEmpty_0 1 rfl rfl)
theorem dJ2_isEmpty_4 : decode cJ2_isEmpty 4 = .ok (.ifCond .ne 7, 3) := dk_154 0 7 (dk_at dksJ2_isEmpty_0 4 rfl rfl)
theorem dJ2_isEmpty_7 : decode cJ2_isEmpty 7 = .ok (.iconst 1, 1) := dk_4 (dk_at dksJ2_isEmpty_0 7 rfl rfl)
theorem dJ2_isEmpty_8 : decode cJ2_isEmpty 8 = .ok (.goto 4, 3) := dk_167 0 4 (dk_at dksJ2_isEmpty_0 8 rfl rfl)
theorem dJ2_isEmpty_11 : decode cJ2_isEmpty 11 = .ok (.iconst 0, 1) := dk_3 (dk_at dksJ2_isEmpty_0 11 rfl rfl)
theorem dJ2_isEmpty_12 : decode cJ2_isEmpty 12 = .ok (.ireturn, 1) := dk_172 (dk_at dksJ2_isEmpty_0 12 rfl rfl)
abbrev cJ2_remove : ByteArray := prog_50_method_29_code
def yJ2_remove : MethodName := ⟨RJ2, "remove", "(I)Ljava/lang/Object;"⟩
def dkwJ2_remove_1 : List UInt8 := [45, 176]
abbrev dktJ2_remove_1 : List UInt8 := dkwJ2_remove_1 ++ []
def dkwJ2_remove_0 : List UInt8 := [27, 42, 180, 0, 48, 184, 0, 118, 87, 42, 180, 0, 9, 77, 44, 27, 50, 78, 42, 44, 27, 182, 0, 144]
abbrev dktJ2_remove_0 : List UInt8 := dkwJ2_remove_0 ++ dktJ2_remove_1
theorem dksJ2_remove_0 : cJ2_remove.data.toList.drop 0 = dktJ2_remove_0 := by decide +kernel
theorem dksJ2_remove_1 : cJ2_remove.data.toList.drop 24 = dktJ2_remove_1 := dk_seg dksJ2_remove_0 24 rfl rfl
theorem dJ2_remove_0 : decode cJ2_remove 0 = .ok (.iload_n 1, 1) := dk_27 (dk_at dksJ2_remove_0 0 rfl rfl)
theorem dJ2_remove_1 : decode cJ2_remove 1 = .ok (.aload_n 0, 1) := dk_42 (dk_at dksJ2_remove_0 1 rfl rfl)
theorem dJ2_remove_2 : decode cJ2_remove 2 = .ok (.getfield 48, 3) := dk_180 0 48 (dk_at dksJ2_remove_0 2 rfl rfl)
theorem dJ2_remove_5 : decode cJ2_remove 5 = .ok (.invokestatic 118, 3) := dk_184 0 118 (dk_at dksJ2_remove_0 5 rfl rfl)
theorem dJ2_remove_8 : decode cJ2_remove 8 = .ok (.pop, 1) := dk_87 (dk_at dksJ2_remove_0 8 rfl rfl)
theorem dJ2_remove_9 : decode cJ2_remove 9 = .ok (.aload_n 0, 1) := dk_42 (dk_at dksJ2_remove_0 9 rfl rfl)
theorem dJ2_remove_10 : decode cJ2_remove 10 = .ok (.getfield 9, 3) := dk_180 0 9 (dk_at dksJ2_remove_0 10 rfl rfl)
theorem dJ2_remove_13 : decode cJ2_remove 13 = .ok (.astore_n 2, 1) := dk_77 (dk_at dksJ2_remove_0 13 rfl rfl)
theorem dJ2_remove_14 : decode cJ2_remove 14 = .ok (.aload_n 2, 1) := dk_44 (dk_at dksJ2_remove_0 14 rfl rfl)
theorem dJ2_remove_15 : decode cJ2_remove 15 = .ok (.iload_n 1, 1) := dk_27 (dk_at dksJ2_remove_0 15 rfl rfl)
theorem dJ2_remove_16 : decode cJ2_remove 16 = .ok (.aaload, 1) := dk_50 (dk_at dksJ2_remove_0 16 rfl rfl)
theorem dJ2_remove_17 : decode cJ2_remove 17 = .ok (.astore_n 3, 1) := dk_78 (dk_at dksJ2_remove_0 17 rfl rfl)
theorem dJ2_remove_18 : decode cJ2_remove 18 = .ok (.aload_n 0, 1) := dk_42 (dk_at dksJ2_remove_0 18 rfl rfl)
theorem dJ2_remove_19 : decode cJ2_remove 19 = .ok (.aload_n 2, 1) := dk_44 (dk_at dksJ2_remove_0 19 rfl rfl)
theorem dJ2_remove_20 : decode cJ2_remove 20 = .ok (.iload_n 1, 1) := dk_27 (dk_at dksJ2_remove_0 20 rfl rfl)
theorem dJ2_remove_21 : decode cJ2_remove 21 = .ok (.invokevirtual 144, 3) := dk_182 0 144 (dk_at dksJ2_remove_0 21 rfl rfl)
theorem dJ2_remove_24 : decode cJ2_remove 24 = .ok (.aload_n 3, 1) := dk_45 (dk_at dksJ2_remove_1 0 rfl rfl)
theorem dJ2_remove_25 : decode cJ2_remove 25 = .ok (.areturn, 1) := dk_176 (dk_at dksJ2_remove_1 1 rfl rfl)
abbrev cJ2_fastRemove : ByteArray := prog_50_method_39_code
def yJ2_fastRemove : MethodName := ⟨RJ2, "fastRemove", "([Ljava/lang/Object;I)V"⟩
def dkwJ2_fastRemove_1 : List UInt8 := [4, 96, 43, 28, 29, 28, 100, 184, 0, 112, 43, 42, 29, 90, 181, 0, 48, 1, 83, 177]
abbrev dktJ2_fastRemove_1 : List UInt8 := dkwJ2_fastRemove_1 ++ []
def dkwJ2_fastRemove_0 : List UInt8 := [42, 89, 180, 0, 63, 4, 96, 181, 0, 63, 42, 180, 0, 48, 4, 100, 89, 62, 28, 164, 0, 15, 43, 28]
abbrev dktJ2_fastRemove_0 : List UInt8 := dkwJ2_fastRemove_0 ++ dktJ2_fastRemove_1
theorem dksJ2_fastRemove_0 : cJ2_fastRemove.data.toList.drop 0 = dktJ2_fastRemove_0 := by decide +kernel
theorem dksJ2_fastRemove_1 : cJ2_fastRemove.data.toList.drop 24 = dktJ2_fastRemove_1 := dk_seg dksJ2_fastRemove_0 24 rfl rfl
theorem dJ2_fastRemove_0 : decode cJ2_fastRemove 0 = .ok (.aload_n 0, 1) := dk_42 (dk_at dksJ2_fastRemove_0 0 rfl rfl)
theorem dJ2_fastRemove_1 : decode cJ2_fastRemove 1 = .ok (.dup, 1) := dk_89 (dk_at dksJ2_fastRemove_0 1 rfl rfl)
theorem dJ2_fastRemove_2 : decode cJ2_fastRemove 2 = .ok (.getfield 63, 3) := dk_180 0 63 (dk_at dksJ2_fastRemove_0 2 rfl rfl)
theorem dJ2_fastRemove_5 : decode cJ2_fastRemove 5 = .ok (.iconst 1, 1) := dk_4 (dk_at dksJ2_fastRemove_0 5 rfl rfl)
theorem dJ2_fastRemove_6 : decode cJ2_fastRemove 6 = .ok (.iadd, 1) := dk_96 (dk_at dksJ2_fastRemove_0 6 rfl rfl)
theorem dJ2_fastRemove_7 : decode cJ2_fastRemove 7 = .ok (.putfield 63, 3) := dk_181 0 63 (dk_at dksJ2_fastRemove_0 7 rfl rfl)
theorem dJ2_fastRemove_10 : decode cJ2_fastRemove 10 = .ok (.aload_n 0, 1) := dk_42 (dk_at dksJ2_fastRemove_0 10 rfl rfl)
theorem dJ2_fastRemove_11 : decode cJ2_fastRemove 11 = .ok (.getfield 48, 3) := dk_180 0 48 (dk_at dksJ2_fastRemove_0 11 rfl rfl)
theorem dJ2_fastRemove_14 : decode cJ2_fastRemove 14 = .ok (.iconst 1, 1) := dk_4 (dk_at dksJ2_fastRemove_0 14 rfl rfl)
theorem dJ2_fastRemove_15 : decode cJ2_fastRemove 15 = .ok (.isub, 1) := dk_100 (dk_at dksJ2_fastRemove_0 15 rfl rfl)
theorem dJ2_fastRemove_16 : decode cJ2_fastRemove 16 = .ok (.dup, 1) := dk_89 (dk_at dksJ2_fastRemove_0 16 rfl rfl)
theorem dJ2_fastRemove_17 : decode cJ2_fastRemove 17 = .ok (.istore_n 3, 1) := dk_62 (dk_at dksJ2_fastRemove_0 17 rfl rfl)
theorem dJ2_fastRemove_18 : decode cJ2_fastRemove 18 = .ok (.iload_n 2, 1) := dk_28 (dk_at dksJ2_fastRemove_0 18 rfl rfl)
theorem dJ2_fastRemove_19 : decode cJ2_fastRemove 19 = .ok (.if_icmp .le 15, 3) := dk_164 0 15 (dk_at dksJ2_fastRemove_0 19 rfl rfl)
theorem dJ2_fastRemove_22 : decode cJ2_fastRemove 22 = .ok (.aload_n 1, 1) := dk_43 (dk_at dksJ2_fastRemove_0 22 rfl rfl)
theorem dJ2_fastRemove_23 : decode cJ2_fastRemove 23 = .ok (.iload_n 2, 1) := dk_28 (dk_at dksJ2_fastRemove_0 23 rfl rfl)
theorem dJ2_fastRemove_24 : decode cJ2_fastRemove 24 = .ok (.iconst 1, 1) := dk_4 (dk_at dksJ2_fastRemove_1 0 rfl rfl)
theorem dJ2_fastRemove_25 : decode cJ2_fastRemove 25 = .ok (.iadd, 1) := dk_96 (dk_at dksJ2_fastRemove_1 1 rfl rfl)
theorem dJ2_fastRemove_26 : decode cJ2_fastRemove 26 = .ok (.aload_n 1, 1) := dk_43 (dk_at dksJ2_fastRemove_1 2 rfl rfl)
theorem dJ2_fastRemove_27 : decode cJ2_fastRemove 27 = .ok (.iload_n 2, 1) := dk_28 (dk_at dksJ2_fastRemove_1 3 rfl rfl)
theorem dJ2_fastRemove_28 : decode cJ2_fastRemove 28 = .ok (.iload_n 3, 1) := dk_29 (dk_at dksJ2_fastRemove_1 4 rfl rfl)
theorem dJ2_fastRemove_29 : decode cJ2_fastRemove 29 = .ok (.iload_n 2, 1) := dk_28 (dk_at dksJ2_fastRemove_1 5 rfl rfl)
theorem dJ2_fastRemove_30 : decode cJ2_fastRemove 30 = .ok (.isub, 1) := dk_100 (dk_at dksJ2_fastRemove_1 6 rfl rfl)
theorem dJ2_fastRemove_31 : decode cJ2_fastRemove 31 = .ok (.invokestatic 112, 3) := dk_184 0 112 (dk_at dksJ2_fastRemove_1 7 rfl rfl)
theorem dJ2_fastRemove_34 : decode cJ2_fastRemove 34 = .ok (.aload_n 1, 1) := dk_43 (dk_at dksJ2_fastRemove_1 10 rfl rfl)
theorem dJ2_fastRemove_35 : decode cJ2_fastRemove 35 = .ok (.aload_n 0, 1) := dk_42 (dk_at dksJ2_fastRemove_1 11 rfl rfl)
theorem dJ2_fastRemove_36 : decode cJ2_fastRemove 36 = .ok (.iload_n 3, 1) := dk_29 (dk_at dksJ2_fastRemove_1 12 rfl rfl)
theorem dJ2_fastRemove_37 : decode cJ2_fastRemove 37 = .ok (.dup_x1, 1) := dk_90 (dk_at dksJ2_fastRemove_1 13 rfl rfl)
theorem dJ2_fastRemove_38 : decode cJ2_fastRemove 38 = .ok (.putfield 48, 3) := dk_181 0 48 (dk_at dksJ2_fastRemove_1 14 rfl rfl)
theorem dJ2_fastRemove_41 : decode cJ2_fastRemove 41 = .ok (.aconst_null, 1) := dk_1 (dk_at dksJ2_fastRemove_1 17 rfl rfl)
theorem dJ2_fastRemove_42 : decode cJ2_fastRemove 42 = .ok (.aastore, 1) := dk_83 (dk_at dksJ2_fastRemove_1 18 rfl rfl)
theorem dJ2_fastRemove_43 : decode cJ2_fastRemove 43 = .ok (.return_, 1) := dk_177 (dk_at dksJ2_fastRemove_1 19 rfl rfl)
abbrev cJ2_add_3 : ByteArray := prog_50_method_26_code
def yJ2_add_3 : MethodName := ⟨RJ2, "add", "(ILjava/lang/Object;)V"⟩
def dkwJ2_add_3_2 : List UInt8 := [29, 27, 100, 184, 0, 112, 25, 4, 27, 44, 83, 42, 29, 4, 96, 181, 0, 48, 177]
abbrev dktJ2_add_3_2 : List UInt8 := dkwJ2_add_3_2 ++ []
def dkwJ2_add_3_1 : List UInt8 := [180, 0, 9, 89, 58, 4, 190, 160, 0, 9, 42, 182, 0, 129, 58, 4, 25, 4, 27, 25, 4, 27, 4, 96]
abbrev dktJ2_add_3_1 : List UInt8 := dkwJ2_add_3_1 ++ dktJ2_add_3_2
def dkwJ2_add_3_0 : List UInt8 := [42, 27, 182, 0, 135, 42, 89, 180, 0, 63, 4, 96, 181, 0, 63, 42, 180, 0, 48, 89, 62, 42]
abbrev dktJ2_add_3_0 : List UInt8 := dkwJ2_add_3_0 ++ dktJ2_add_3_1
theorem dksJ2_add_3_0 : cJ2_add_3.data.toList.drop 0 = dktJ2_add_3_0 := by decide +kernel
theorem dksJ2_add_3_1 : cJ2_add_3.data.toList.drop 22 = dktJ2_add_3_1 := dk_seg dksJ2_add_3_0 22 rfl rfl
theorem dksJ2_add_3_2 : cJ2_add_3.data.toList.drop 46 = dktJ2_add_3_2 := dk_seg dksJ2_add_3_1 24 rfl rfl
theorem dJ2_add_3_0 : decode cJ2_add_3 0 = .ok (.aload_n 0, 1) := dk_42 (dk_at dksJ2_add_3_0 0 rfl rfl)
theorem dJ2_add_3_1 : decode cJ2_add_3 1 = .ok (.iload_n 1, 1) := dk_27 (dk_at dksJ2_add_3_0 1 rfl rfl)
theorem dJ2_add_3_2 : decode cJ2_add_3 2 = .ok (.invokevirtual 135, 3) := dk_182 0 135 (dk_at dksJ2_add_3_0 2 rfl rfl)
theorem dJ2_add_3_5 : decode cJ2_add_3 5 = .ok (.aload_n 0, 1) := dk_42 (dk_at dksJ2_add_3_0 5 rfl rfl)
theorem dJ2_add_3_6 : decode cJ2_add_3 6 = .ok (.dup, 1) := dk_89 (dk_at dksJ2_add_3_0 6 rfl rfl)
theorem dJ2_add_3_7 : decode cJ2_add_3 7 = .ok (.getfield 63, 3) := dk_180 0 63 (dk_at dksJ2_add_3_0 7 rfl rfl)
theorem dJ2_add_3_10 : decode cJ2_add_3 10 = .ok (.iconst 1, 1) := dk_4 (dk_at dksJ2_add_3_0 10 rfl rfl)
theorem dJ2_add_3_11 : decode cJ2_add_3 11 = .ok (.iadd, 1) := dk_96 (dk_at dksJ2_add_3_0 11 rfl rfl)
theorem dJ2_add_3_12 : decode cJ2_add_3 12 = .ok (.putfield 63, 3) := dk_181 0 63 (dk_at dksJ2_add_3_0 12 rfl rfl)
theorem dJ2_add_3_15 : decode cJ2_add_3 15 = .ok (.aload_n 0, 1) := dk_42 (dk_at dksJ2_add_3_0 15 rfl rfl)
theorem dJ2_add_3_16 : decode cJ2_add_3 16 = .ok (.getfield 48, 3) := dk_180 0 48 (dk_at dksJ2_add_3_0 16 rfl rfl)
theorem dJ2_add_3_19 : decode cJ2_add_3 19 = .ok (.dup, 1) := dk_89 (dk_at dksJ2_add_3_0 19 rfl rfl)
theorem dJ2_add_3_20 : decode cJ2_add_3 20 = .ok (.istore_n 3, 1) := dk_62 (dk_at dksJ2_add_3_0 20 rfl rfl)
theorem dJ2_add_3_21 : decode cJ2_add_3 21 = .ok (.aload_n 0, 1) := dk_42 (dk_at dksJ2_add_3_0 21 rfl rfl)
theorem dJ2_add_3_22 : decode cJ2_add_3 22 = .ok (.getfield 9, 3) := dk_180 0 9 (dk_at dksJ2_add_3_1 0 rfl rfl)
theorem dJ2_add_3_25 : decode cJ2_add_3 25 = .ok (.dup, 1) := dk_89 (dk_at dksJ2_add_3_1 3 rfl rfl)
theorem dJ2_add_3_26 : decode cJ2_add_3 26 = .ok (.astore 4, 2) := dk_58 4 (dk_at dksJ2_add_3_1 4 rfl rfl)
theorem dJ2_add_3_28 : decode cJ2_add_3 28 = .ok (.arraylength, 1) := dk_190 (dk_at dksJ2_add_3_1 6 rfl rfl)
theorem dJ2_add_3_29 : decode cJ2_add_3 29 = .ok (.if_icmp .ne 9, 3) := dk_160 0 9 (dk_at dksJ2_add_3_1 7 rfl rfl)
theorem dJ2_add_3_32 : decode cJ2_add_3 32 = .ok (.aload_n 0, 1) := dk_42 (dk_at dksJ2_add_3_1 10 rfl rfl)
theorem dJ2_add_3_33 : decode cJ2_add_3 33 = .ok (.invokevirtual 129, 3) := dk_182 0 129 (dk_at dksJ2_add_3_1 11 rfl rfl)
theorem dJ2_add_3_36 : decode cJ2_add_3 36 = .ok (.astore 4, 2) := dk_58 4 (dk_at dksJ2_add_3_1 14 rfl rfl)
theorem dJ2_add_3_38 : decode cJ2_add_3 38 = .ok (.aload 4, 2) := dk_25 4 (dk_at dksJ2_add_3_1 16 rfl rfl)
theorem dJ2_add_3_40 : decode cJ2_add_3 40 = .ok (.iload_n 1, 1) := dk_27 (dk_at dksJ2_add_3_1 18 rfl rfl)
theorem dJ2_add_3_41 : decode cJ2_add_3 41 = .ok (.aload 4, 2) := dk_25 4 (dk_at dksJ2_add_3_1 19 rfl rfl)
theorem dJ2_add_3_43 : decode cJ2_add_3 43 = .ok (.iload_n 1, 1) := dk_27 (dk_at dksJ2_add_3_1 21 rfl rfl)
theorem dJ2_add_3_44 : decode cJ2_add_3 44 = .ok (.iconst 1, 1) := dk_4 (dk_at dksJ2_add_3_1 22 rfl rfl)
theorem dJ2_add_3_45 : decode cJ2_add_3 45 = .ok (.iadd, 1) := dk_96 (dk_at dksJ2_add_3_1 23 rfl rfl)
theorem dJ2_add_3_46 : decode cJ2_add_3 46 = .ok (.iload_n 3, 1) := dk_29 (dk_at dksJ2_add_3_2 0 rfl rfl)
theorem dJ2_add_3_47 : decode cJ2_add_3 47 = .ok (.iload_n 1, 1) := dk_27 (dk_at dksJ2_add_3_2 1 rfl rfl)
theorem dJ2_add_3_48 : decode cJ2_add_3 48 = .ok (.isub, 1) := dk_100 (dk_at dksJ2_add_3_2 2 rfl rfl)
theorem dJ2_add_3_49 : decode cJ2_add_3 49 = .ok (.invokestatic 112, 3) := dk_184 0 112 (dk_at dksJ2_add_3_2 3 rfl rfl)
theorem dJ2_add_3_52 : decode cJ2_add_3 52 = .ok (.aload 4, 2) := dk_25 4 (dk_at dksJ2_add_3_2 6 rfl rfl)
theorem dJ2_add_3_54 : decode cJ2_add_3 54 = .ok (.iload_n 1, 1) := dk_27 (dk_at dksJ2_add_3_2 8 rfl rfl)
theorem dJ2_add_3_55 : decode cJ2_add_3 55 = .ok (.aload_n 2, 1) := dk_44 (dk_at dksJ2_add_3_2 9 rfl rfl)
theorem dJ2_add_3_56 : decode cJ2_add_3 56 = .ok (.aastore, 1) := dk_83 (dk_at dksJ2_add_3_2 10 rfl rfl)
theorem dJ2_add_3_57 : decode cJ2_add_3 57 = .ok (.aload_n 0, 1) := dk_42 (dk_at dksJ2_add_3_2 11 rfl rfl)
theorem dJ2_add_3_58 : decode cJ2_add_3 58 = .ok (.iload_n 3, 1) := dk_29 (dk_at dksJ2_add_3_2 12 rfl rfl)
theorem dJ2_add_3_59 : decode cJ2_add_3 59 = .ok (.iconst 1, 1) := dk_4 (dk_at dksJ2_add_3_2 13 rfl rfl)
theorem dJ2_add_3_60 : decode cJ2_add_3 60 = .ok (.iadd, 1) := dk_96 (dk_at dksJ2_add_3_2 14 rfl rfl)
theorem dJ2_add_3_61 : decode cJ2_add_3 61 = .ok (.putfield 48, 3) := dk_181 0 48 (dk_at dksJ2_add_3_2 15 rfl rfl)
theorem dJ2_add_3_64 : decode cJ2_add_3 64 = .ok (.return_, 1) := dk_177 (dk_at dksJ2_add_3_2 18 rfl rfl)
abbrev cJ2_rangeCheckForAdd : ByteArray := prog_50_method_45_code
def yJ2_rangeCheckForAdd : MethodName := ⟨RJ2, "rangeCheckForAdd", "(I)V"⟩
def dkwJ2_rangeCheckForAdd_1 : List UInt8 := [191, 177]
abbrev dktJ2_rangeCheckForAdd_1 : List UInt8 := dkwJ2_rangeCheckForAdd_1 ++ []
def dkwJ2_rangeCheckForAdd_0 : List UInt8 := [27, 42, 180, 0, 48, 163, 0, 7, 27, 156, 0, 16, 187, 0, 187, 89, 42, 27, 182, 0, 198, 183, 0, 193]
abbrev dktJ2_rangeCheckForAdd_0 : List UInt8 := dkwJ2_rangeCheckForAdd_0 ++ dktJ2_rangeCheckForAdd_1
theorem dksJ2_rangeCheckForAdd_0 : cJ2_rangeCheckForAdd.data.toList.drop 0 = dktJ2_rangeCheckForAdd_0 := by decide +kernel
theorem dksJ2_rangeCheckForAdd_1 : cJ2_rangeCheckForAdd.data.toList.drop 24 = dktJ2_rangeCheckForAdd_1 := dk_seg dksJ2_rangeCheckForAdd_0 24 rfl rfl
theorem dJ2_rangeCheckForAdd_0 : decode cJ2_rangeCheckForAdd 0 = .ok (.iload_n 1, 1) := dk_27 (dk_at dksJ2_rangeCheckForAdd_0 0 rfl rfl)
theorem dJ2_rangeCheckForAdd_1 : decode cJ2_rangeCheckForAdd 1 = .ok (.aload_n 0, 1) := dk_42 (dk_at dksJ2_rangeCheckForAdd_0 1 rfl rfl)
theorem dJ2_rangeCheckForAdd_2 : decode cJ2_rangeCheckForAdd 2 = .ok (.getfield 48, 3) := dk_180 0 48 (dk_at dksJ2_rangeCheckForAdd_0 2 rfl rfl)
theorem dJ2_rangeCheckForAdd_5 : decode cJ2_rangeCheckForAdd 5 = .ok (.if_icmp .gt 7, 3) := dk_163 0 7 (dk_at dksJ2_rangeCheckForAdd_0 5 rfl rfl)
theorem dJ2_rangeCheckForAdd_8 : decode cJ2_rangeCheckForAdd 8 = .ok (.iload_n 1, 1) := dk_27 (dk_at dksJ2_rangeCheckForAdd_0 8 rfl rfl)
theorem dJ2_rangeCheckForAdd_9 : decode cJ2_rangeCheckForAdd 9 = .ok (.ifCond .ge 16, 3) := dk_156 0 16 (dk_at dksJ2_rangeCheckForAdd_0 9 rfl rfl)
theorem dJ2_rangeCheckForAdd_12 : decode cJ2_rangeCheckForAdd 12 = .ok (.new 187, 3) := dk_187 0 187 (dk_at dksJ2_rangeCheckForAdd_0 12 rfl rfl)
theorem dJ2_rangeCheckForAdd_15 : decode cJ2_rangeCheckForAdd 15 = .ok (.dup, 1) := dk_89 (dk_at dksJ2_rangeCheckForAdd_0 15 rfl rfl)
theorem dJ2_rangeCheckForAdd_16 : decode cJ2_rangeCheckForAdd 16 = .ok (.aload_n 0, 1) := dk_42 (dk_at dksJ2_rangeCheckForAdd_0 16 rfl rfl)
theorem dJ2_rangeCheckForAdd_17 : decode cJ2_rangeCheckForAdd 17 = .ok (.iload_n 1, 1) := dk_27 (dk_at dksJ2_rangeCheckForAdd_0 17 rfl rfl)
theorem dJ2_rangeCheckForAdd_18 : decode cJ2_rangeCheckForAdd 18 = .ok (.invokevirtual 198, 3) := dk_182 0 198 (dk_at dksJ2_rangeCheckForAdd_0 18 rfl rfl)
theorem dJ2_rangeCheckForAdd_21 : decode cJ2_rangeCheckForAdd 21 = .ok (.invokespecial 193, 3) := dk_183 0 193 (dk_at dksJ2_rangeCheckForAdd_0 21 rfl rfl)
theorem dJ2_rangeCheckForAdd_24 : decode cJ2_rangeCheckForAdd 24 = .ok (.athrow, 1) := dk_191 (dk_at dksJ2_rangeCheckForAdd_1 0 rfl rfl)
theorem dJ2_rangeCheckForAdd_25 : decode cJ2_rangeCheckForAdd 25 = .ok (.return_, 1) := dk_177 (dk_at dksJ2_rangeCheckForAdd_1 1 rfl rfl)
abbrev cJ2_outOfBoundsMsg : ByteArray := prog_50_method_46_code
def yJ2_outOfBoundsMsg : MethodName := ⟨RJ2, "outOfBoundsMsg", "(I)Ljava/lang/String;"⟩
def dkwJ2_outOfBoundsMsg_1 : List UInt8 := [180, 0, 48, 182, 0, 29, 182, 0, 32, 176]
abbrev dktJ2_outOfBoundsMsg_1 : List UInt8 := dkwJ2_outOfBoundsMsg_1 ++ []
def dkwJ2_outOfBoundsMsg_0 : List UInt8 := [187, 0, 20, 89, 183, 0, 22, 18, 201, 182, 0, 25, 27, 182, 0, 29, 18, 203, 182, 0, 25, 42]
abbrev dktJ2_outOfBoundsMsg_0 : List UInt8 := dkwJ2_outOfBoundsMsg_0 ++ dktJ2_outOfBoundsMsg_1
theorem dksJ2_outOfBoundsMsg_0 : cJ2_outOfBoundsMsg.data.toList.drop 0 = dktJ2_outOfBoundsMsg_0 := by decide +kernel
theorem dksJ2_outOfBoundsMsg_1 : cJ2_outOfBoundsMsg.data.toList.drop 22 = dktJ2_outOfBoundsMsg_1 := dk_seg dksJ2_outOfBoundsMsg_0 22 rfl rfl
theorem dJ2_outOfBoundsMsg_0 : decode cJ2_outOfBoundsMsg 0 = .ok (.new 20, 3) := dk_187 0 20 (dk_at dksJ2_outOfBoundsMsg_0 0 rfl rfl)
theorem dJ2_outOfBoundsMsg_3 : decode cJ2_outOfBoundsMsg 3 = .ok (.dup, 1) := dk_89 (dk_at dksJ2_outOfBoundsMsg_0 3 rfl rfl)
theorem dJ2_outOfBoundsMsg_4 : decode cJ2_outOfBoundsMsg 4 = .ok (.invokespecial 22, 3) := dk_183 0 22 (dk_at dksJ2_outOfBoundsMsg_0 4 rfl rfl)
theorem dJ2_outOfBoundsMsg_7 : decode cJ2_outOfBoundsMsg 7 = .ok (.ldc 201, 2) := dk_18 201 (dk_at dksJ2_outOfBoundsMsg_0 7 rfl rfl)
theorem dJ2_outOfBoundsMsg_9 : decode cJ2_outOfBoundsMsg 9 = .ok (.invokevirtual 25, 3) := dk_182 0 25 (dk_at dksJ2_outOfBoundsMsg_0 9 rfl rfl)
theorem dJ2_outOfBoundsMsg_12 : decode cJ2_outOfBoundsMsg 12 = .ok (.iload_n 1, 1) := dk_27 (dk_at dksJ2_outOfBoundsMsg_0 12 rfl rfl)
theorem dJ2_outOfBoundsMsg_13 : decode cJ2_outOfBoundsMsg 13 = .ok (.invokevirtual 29, 3) := dk_182 0 29 (dk_at dksJ2_outOfBoundsMsg_0 13 rfl rfl)
theorem dJ2_outOfBoundsMsg_16 : decode cJ2_outOfBoundsMsg 16 = .ok (.ldc 203, 2) := dk_18 203 (dk_at dksJ2_outOfBoundsMsg_0 16 rfl rfl)
theorem dJ2_outOfBoundsMsg_18 : decode cJ2_outOfBoundsMsg 18 = .ok (.invokevirtual 25, 3) := dk_182 0 25 (dk_at dksJ2_outOfBoundsMsg_0 18 rfl rfl)
theorem dJ2_outOfBoundsMsg_21 : decode cJ2_outOfBoundsMsg 21 = .ok (.aload_n 0, 1) := dk_42 (dk_at dksJ2_outOfBoundsMsg_0 21 rfl rfl)
theorem dJ2_outOfBoundsMsg_22 : decode cJ2_outOfBoundsMsg 22 = .ok (.getfield 48, 3) := dk_180 0 48 (dk_at dksJ2_outOfBoundsMsg_1 0 rfl rfl)
theorem dJ2_outOfBoundsMsg_25 : decode cJ2_outOfBoundsMsg 25 = .ok (.invokevirtual 29, 3) := dk_182 0 29 (dk_at dksJ2_outOfBoundsMsg_1 3 rfl rfl)
theorem dJ2_outOfBoundsMsg_28 : decode cJ2_outOfBoundsMsg 28 = .ok (.invokevirtual 32, 3) := dk_182 0 32 (dk_at dksJ2_outOfBoundsMsg_1 6 rfl rfl)
theorem dJ2_outOfBoundsMsg_31 : decode cJ2_outOfBoundsMsg 31 = .ok (.areturn, 1) := dk_176 (dk_at dksJ2_outOfBoundsMsg_1 9 rfl rfl)
abbrev cJ2_iterator : ByteArray := prog_50_method_55_code
def yJ2_iterator : MethodName := ⟨RJ2, "iterator", "()Ljava/util/Iterator;"⟩
def dkwJ2_iterator_0 : List UInt8 := [187, 1, 11, 89, 42, 183, 1, 13, 176]
abbrev dktJ2_iterator_0 : List UInt8 := dkwJ2_iterator_0 ++ []
theorem dksJ2_iterator_0 : cJ2_iterator.data.toList.drop 0 = dktJ2_iterator_0 := by decide +kernel
theorem dJ2_iterator_0 : decode cJ2_iterator 0 = .ok (.new 267, 3) := dk_187 1 11 (dk_at dksJ2_iterator_0 0 rfl rfl)
theorem dJ2_iterator_3 : decode cJ2_iterator 3 = .ok (.dup, 1) := dk_89 (dk_at dksJ2_iterator_0 3 rfl rfl)
theorem dJ2_iterator_4 : decode cJ2_iterator 4 = .ok (.aload_n 0, 1) := dk_42 (dk_at dksJ2_iterator_0 4 rfl rfl)
theorem dJ2_iterator_5 : decode cJ2_iterator 5 = .ok (.invokespecial 269, 3) := dk_183 1 13 (dk_at dksJ2_iterator_0 5 rfl rfl)
theorem dJ2_iterator_8 : decode cJ2_iterator 8 = .ok (.areturn, 1) := dk_176 (dk_at dksJ2_iterator_0 8 rfl rfl)
theorem q138 : (Jvm.Cond.initialized "java/util/ArrayList") ∈ lw_all := lw_g (lw_at lw_m1 4 rfl) rfl
theorem q196 : (Jvm.Cond.instantiable "java/util/ArrayList" (3 : Nat)) ∈ lw_all := lw_g (lw_at lw_m1 62 rfl) rfl
theorem q198 : (Jvm.Cond.instanceMethod ({ cls := "java/util/ArrayList", name := "<init>", desc := "()V" } : Jvm.MethodName)) ∈ lw_all := lw_g (lw_at lw_m1 64 rfl) rfl
theorem q199 : (Jvm.Cond.code ({ cls := "java/util/ArrayList", name := "<init>", desc := "()V" } : Jvm.MethodName) prog_50_method_2_code (1 : Nat) (Option.none : Option Jvm.ClassFile.FieldType)) ∈ lw_all := lw_g (lw_at lw_m1 65 rfl) rfl
theorem q200 : (Jvm.Cond.methodLink "java/util/ArrayList" (1 : Nat) ({ cls := "java/util/AbstractList", name := "<init>", desc := "()V" } : Jvm.MethodName)) ∈ lw_all := lw_g (lw_at lw_m1 66 rfl) rfl
theorem q207 : (Jvm.Cond.fieldLink "java/util/ArrayList" (39 : Nat) "java/util/ArrayList" "DEFAULTCAPACITY_EMPTY_ELEMENTDATA" "[Ljava/lang/Object;") ∈ lw_all := lw_g (lw_at lw_m1 73 rfl) rfl
theorem q208 : (Jvm.Cond.laysStatic "java/util/ArrayList" "DEFAULTCAPACITY_EMPTY_ELEMENTDATA" "[Ljava/lang/Object;") ∈ lw_tbl := lw_at lw_m1 74 rfl
theorem q209 : (Jvm.Cond.fieldLink "java/util/ArrayList" (9 : Nat) "java/util/ArrayList" "elementData" "[Ljava/lang/Object;") ∈ lw_all := lw_g (lw_at lw_m1 75 rfl) rfl
theorem q212 : (Jvm.Cond.fieldLink "java/util/ArrayList" (48 : Nat) "java/util/ArrayList" "size" "I") ∈ lw_all := lw_g (lw_at lw_m1 78 rfl) rfl
theorem q215 : (Jvm.Cond.sameField "java/util/ArrayList" "java/util/AbstractList" "modCount" "I") ∈ lw_all := lw_g (lw_at lw_m1 81 rfl) rfl
theorem q216 : (Jvm.Cond.fieldLink "java/util/ArrayList" (63 : Nat) "java/util/ArrayList" "modCount" "I") ∈ lw_all := lw_g (lw_at lw_m1 82 rfl) rfl
theorem q217 : (Jvm.Cond.lays "java/util/ArrayList" "java/util/ArrayList" "elementData" "[Ljava/lang/Object;") ∈ lw_all := lw_g (lw_at lw_m1 83 rfl) rfl
theorem q218 : (Jvm.Cond.soleField "java/util/ArrayList" "elementData") ∈ lw_all := lw_g (lw_at lw_m1 84 rfl) rfl
theorem q219 : (Jvm.Cond.lays "java/util/ArrayList" "java/util/ArrayList" "size" "I") ∈ lw_all := lw_g (lw_at lw_m1 85 rfl) rfl
theorem q220 : (Jvm.Cond.soleField "java/util/ArrayList" "size") ∈ lw_all := lw_g (lw_at lw_m1 86 rfl) rfl
theorem q221 : (Jvm.Cond.lays "java/util/ArrayList" "java/util/AbstractList" "modCount" "I") ∈ lw_all := lw_g (lw_at lw_m1 87 rfl) rfl
theorem q223 : (Jvm.Cond.superclass "java/util/ArrayList" "java/util/AbstractList") ∈ lw_all := lw_g (lw_at lw_m1 89 rfl) rfl
theorem q250 : (Jvm.Cond.castable "java/util/ArrayList" "java/util/List") ∈ lw_tbl := lw_at lw_m1 116 rfl
theorem q251 : (Jvm.Cond.selects "java/util/ArrayList" ({ cls := "java/util/List", name := "add", desc := "(Ljava/lang/Object;)Z" } : Jvm.MethodName) ({ cls := "java/util/ArrayList", name := "add", desc := "(Ljava/lang/Object;)Z" } : Jvm.MethodName)) ∈ lw_all := lw_g (lw_at lw_m1 117 rfl) rfl
theorem q252 : (Jvm.Cond.unhidden "java/util/ArrayList" "add" "(Ljava/lang/Object;)Z") ∈ lw_tbl := lw_at lw_m1 118 rfl
theorem q253 : (Jvm.Cond.instanceMethod ({ cls := "java/util/ArrayList", name := "add", desc := "(Ljava/lang/Object;)Z" } : Jvm.MethodName)) ∈ lw_all := lw_g (lw_at lw_m1 119 rfl) rfl
theorem q254 : (Jvm.Cond.publicMethod ({ cls := "java/util/ArrayList", name := "add", desc := "(Ljava/lang/Object;)Z" } : Jvm.MethodName)) ∈ lw_tbl := lw_at lw_m1 120 rfl
theorem q255 : (Jvm.Cond.code ({ cls := "java/util/ArrayList", name := "add", desc := "(Ljava/lang/Object;)Z" } : Jvm.MethodName) prog_50_method_25_code (2 : Nat) (Option.some Jvm.ClassFile.FieldType.boolean)) ∈ lw_all := lw_g (lw_at lw_m1 121 rfl) rfl
theorem q256 : (Jvm.Cond.methodLink "java/util/ArrayList" (131 : Nat) ({ cls := "java/util/ArrayList", name := "add", desc := "(Ljava/lang/Object;[Ljava/lang/Object;I)V" } : Jvm.MethodName)) ∈ lw_all := lw_g (lw_at lw_m1 122 rfl) rfl
theorem q257 : (Jvm.Cond.privateMethod ({ cls := "java/util/ArrayList", name := "add", desc := "(Ljava/lang/Object;[Ljava/lang/Object;I)V" } : Jvm.MethodName)) ∈ lw_tbl := lw_at lw_m1 123 rfl
theorem q258 : (Jvm.Cond.instanceMethod ({ cls := "java/util/ArrayList", name := "add", desc := "(Ljava/lang/Object;[Ljava/lang/Object;I)V" } : Jvm.MethodName)) ∈ lw_all := lw_g (lw_at lw_m1 124 rfl) rfl
theorem q259 : (Jvm.Cond.code ({ cls := "java/util/ArrayList", name := "add", desc := "(Ljava/lang/Object;[Ljava/lang/Object;I)V" } : Jvm.MethodName) prog_50_method_24_code (4 : Nat) (Option.none : Option Jvm.ClassFile.FieldType)) ∈ lw_all := lw_g (lw_at lw_m1 125 rfl) rfl
theorem q260 : (Jvm.Cond.methodLink "java/util/ArrayList" (129 : Nat) ({ cls := "java/util/ArrayList", name := "grow", desc := "()[Ljava/lang/Object;" } : Jvm.MethodName)) ∈ lw_all := lw_g (lw_at lw_m1 126 rfl) rfl
theorem q261 : (Jvm.Cond.privateMethod ({ cls := "java/util/ArrayList", name := "grow", desc := "()[Ljava/lang/Object;" } : Jvm.MethodName)) ∈ lw_tbl := lw_at lw_m1 127 rfl
theorem q262 : (Jvm.Cond.instanceMethod ({ cls := "java/util/ArrayList", name := "grow", desc := "()[Ljava/lang/Object;" } : Jvm.MethodName)) ∈ lw_all := lw_g (lw_at lw_m1 128 rfl) rfl
theorem q263 : (Jvm.Cond.code ({ cls := "java/util/ArrayList", name := "grow", desc := "()[Ljava/lang/Object;" } : Jvm.MethodName) prog_50_method_7_code (1 : Nat) (Option.some (Jvm.ClassFile.FieldType.array (Jvm.ClassFile.FieldType.object "java/lang/Object")))) ∈ lw_all := lw_g (lw_at lw_m1 129 rfl) rfl
theorem q264 : (Jvm.Cond.methodLink "java/util/ArrayList" (69 : Nat) ({ cls := "java/util/ArrayList", name := "grow", desc := "(I)[Ljava/lang/Object;" } : Jvm.MethodName)) ∈ lw_all := lw_g (lw_at lw_m1 130 rfl) rfl
theorem q265 : (Jvm.Cond.privateMethod ({ cls := "java/util/ArrayList", name := "grow", desc := "(I)[Ljava/lang/Object;" } : Jvm.MethodName)) ∈ lw_tbl := lw_at lw_m1 131 rfl
theorem q266 : (Jvm.Cond.instanceMethod ({ cls := "java/util/ArrayList", name := "grow", desc := "(I)[Ljava/lang/Object;" } : Jvm.MethodName)) ∈ lw_all := lw_g (lw_at lw_m1 132 rfl) rfl
theorem q267 : (Jvm.Cond.code ({ cls := "java/util/ArrayList", name := "grow", desc := "(I)[Ljava/lang/Object;" } : Jvm.MethodName) prog_50_method_6_code (4 : Nat) (Option.some (Jvm.ClassFile.FieldType.array (Jvm.ClassFile.FieldType.object "java/lang/Object")))) ∈ lw_all := lw_g (lw_at lw_m1 133 rfl) rfl
theorem q268 : (Jvm.Cond.methodLink "java/util/ArrayList" (73 : Nat) ({ cls := "jdk/internal/util/ArraysSupport", name := "newLength", desc := "(III)I" } : Jvm.MethodName)) ∈ lw_all := lw_g (lw_at lw_m1 134 rfl) rfl
theorem q278 : (Jvm.Cond.methodLink "java/util/ArrayList" (66 : Nat) ({ cls := "java/util/Arrays", name := "copyOf", desc := "([Ljava/lang/Object;I)[Ljava/lang/Object;" } : Jvm.MethodName)) ∈ lw_all := lw_g (lw_at lw_m1 144 rfl) rfl
theorem q309 : (Jvm.Cond.selects "java/util/ArrayList" ({ cls := "java/lang/Object", name := "getClass", desc := "()Ljava/lang/Class;" } : Jvm.MethodName) ({ cls := "java/lang/Object", name := "getClass", desc := "()Ljava/lang/Class;" } : Jvm.MethodName)) ∈ lw_all := lw_g (lw_at lw_m1 175 rfl) rfl
theorem q327 : (Jvm.Cond.methodLink "java/util/ArrayList" (79 : Nat) ({ cls := "java/lang/Math", name := "max", desc := "(II)I" } : Jvm.MethodName)) ∈ lw_all := lw_g (lw_at lw_m1 193 rfl) rfl
theorem q328 : (Jvm.Cond.classLink "java/util/ArrayList" (7 : Nat) "java/lang/Object") ∈ lw_all := lw_g (lw_at lw_m1 194 rfl) rfl
theorem q337 : (Jvm.Cond.instanceMethod ({ cls := "java/util/ArrayList", name := "<init>", desc := "(I)V" } : Jvm.MethodName)) ∈ lw_all := lw_g (lw_at lw_m1 203 rfl) rfl
theorem q338 : (Jvm.Cond.code ({ cls := "java/util/ArrayList", name := "<init>", desc := "(I)V" } : Jvm.MethodName) prog_50_method_1_code (2 : Nat) (Option.none : Option Jvm.ClassFile.FieldType)) ∈ lw_all := lw_g (lw_at lw_m1 204 rfl) rfl
theorem q339 : (Jvm.Cond.fieldLink "java/util/ArrayList" (15 : Nat) "java/util/ArrayList" "EMPTY_ELEMENTDATA" "[Ljava/lang/Object;") ∈ lw_all := lw_g (lw_at lw_m1 205 rfl) rfl
theorem q340 : (Jvm.Cond.laysStatic "java/util/ArrayList" "EMPTY_ELEMENTDATA" "[Ljava/lang/Object;") ∈ lw_tbl := lw_at lw_m1 206 rfl
theorem q341 : (Jvm.Cond.classLink "java/util/ArrayList" (18 : Nat) "java/lang/IllegalArgumentException") ∈ lw_all := lw_g (lw_at lw_m1 207 rfl) rfl
theorem q387 : (Jvm.Cond.classLink "java/util/ArrayList" (20 : Nat) "java/lang/StringBuilder") ∈ lw_all := lw_g (lw_at lw_m2 13 rfl) rfl
theorem q389 : (Jvm.Cond.methodLink "java/util/ArrayList" (22 : Nat) ({ cls := "java/lang/StringBuilder", name := "<init>", desc := "()V" } : Jvm.MethodName)) ∈ lw_all := lw_g (lw_at lw_m2 15 rfl) rfl
theorem q419 : (Jvm.Cond.stringRef "java/util/ArrayList" (23 : Nat) "Illegal Capacity: ") ∈ lw_tbl := lw_at lw_m2 45 rfl
theorem q420 : (Jvm.Cond.methodLink "java/util/ArrayList" (25 : Nat) ({ cls := "java/lang/StringBuilder", name := "append", desc := "(Ljava/lang/String;)Ljava/lang/StringBuilder;" } : Jvm.MethodName)) ∈ lw_all := lw_g (lw_at lw_m2 46 rfl) rfl
theorem q525 : (Jvm.Cond.methodLink "java/util/ArrayList" (29 : Nat) ({ cls := "java/lang/StringBuilder", name := "append", desc := "(I)Ljava/lang/StringBuilder;" } : Jvm.MethodName)) ∈ lw_all := lw_g (lw_at lw_m2 151 rfl) rfl
theorem q550 : (Jvm.Cond.methodLink "java/util/ArrayList" (32 : Nat) ({ cls := "java/lang/StringBuilder", name := "toString", desc := "()Ljava/lang/String;" } : Jvm.MethodName)) ∈ lw_all := lw_g (lw_at lw_m2 176 rfl) rfl
theorem q644 : (Jvm.Cond.methodLink "java/util/ArrayList" (36 : Nat) ({ cls := "java/lang/IllegalArgumentException", name := "<init>", desc := "(Ljava/lang/String;)V" } : Jvm.MethodName)) ∈ lw_all := lw_g (lw_at lw_m3 30 rfl) rfl
theorem q667 : (Jvm.Cond.selects "java/util/ArrayList" ({ cls := "java/util/List", name := "size", desc := "()I" } : Jvm.MethodName) ({ cls := "java/util/ArrayList", name := "size", desc := "()I" } : Jvm.MethodName)) ∈ lw_all := lw_g (lw_at lw_m3 53 rfl) rfl
theorem q668 : (Jvm.Cond.unhidden "java/util/ArrayList" "size" "()I") ∈ lw_tbl := lw_at lw_m3 54 rfl
theorem q669 : (Jvm.Cond.instanceMethod ({ cls := "java/util/ArrayList", name := "size", desc := "()I" } : Jvm.MethodName)) ∈ lw_all := lw_g (lw_at lw_m3 55 rfl) rfl
theorem q670 : (Jvm.Cond.publicMethod ({ cls := "java/util/ArrayList", name := "size", desc := "()I" } : Jvm.MethodName)) ∈ lw_tbl := lw_at lw_m3 56 rfl
theorem q671 : (Jvm.Cond.code ({ cls := "java/util/ArrayList", name := "size", desc := "()I" } : Jvm.MethodName) prog_50_method_8_code (1 : Nat) (Option.some Jvm.ClassFile.FieldType.int)) ∈ lw_all := lw_g (lw_at lw_m3 57 rfl) rfl
theorem q676 : (Jvm.Cond.selects "java/util/ArrayList" ({ cls := "java/util/List", name := "get", desc := "(I)Ljava/lang/Object;" } : Jvm.MethodName) ({ cls := "java/util/ArrayList", name := "get", desc := "(I)Ljava/lang/Object;" } : Jvm.MethodName)) ∈ lw_all := lw_g (lw_at lw_m3 62 rfl) rfl
theorem q677 : (Jvm.Cond.unhidden "java/util/ArrayList" "get" "(I)Ljava/lang/Object;") ∈ lw_tbl := lw_at lw_m3 63 rfl
theorem q678 : (Jvm.Cond.instanceMethod ({ cls := "java/util/ArrayList", name := "get", desc := "(I)Ljava/lang/Object;" } : Jvm.MethodName)) ∈ lw_all := lw_g (lw_at lw_m3 64 rfl) rfl
theorem q679 : (Jvm.Cond.publicMethod ({ cls := "java/util/ArrayList", name := "get", desc := "(I)Ljava/lang/Object;" } : Jvm.MethodName)) ∈ lw_tbl := lw_at lw_m3 65 rfl
theorem q680 : (Jvm.Cond.code ({ cls := "java/util/ArrayList", name := "get", desc := "(I)Ljava/lang/Object;" } : Jvm.MethodName) prog_50_method_20_code (2 : Nat) (Option.some (Jvm.ClassFile.FieldType.object "java/lang/Object"))) ∈ lw_all := lw_g (lw_at lw_m3 66 rfl) rfl
theorem q681 : (Jvm.Cond.methodLink "java/util/ArrayList" (118 : Nat) ({ cls := "java/util/Objects", name := "checkIndex", desc := "(II)I" } : Jvm.MethodName)) ∈ lw_all := lw_g (lw_at lw_m3 67 rfl) rfl
theorem q687 : (Jvm.Cond.methodLink "java/util/ArrayList" (123 : Nat) ({ cls := "java/util/ArrayList", name := "elementData", desc := "(I)Ljava/lang/Object;" } : Jvm.MethodName)) ∈ lw_all := lw_g (lw_at lw_m3 73 rfl) rfl
theorem q688 : (Jvm.Cond.instanceMethod ({ cls := "java/util/ArrayList", name := "elementData", desc := "(I)Ljava/lang/Object;" } : Jvm.MethodName)) ∈ lw_all := lw_g (lw_at lw_m3 74 rfl) rfl
theorem q689 : (Jvm.Cond.selects "java/util/ArrayList" ({ cls := "java/util/ArrayList", name := "elementData", desc := "(I)Ljava/lang/Object;" } : Jvm.MethodName) ({ cls := "java/util/ArrayList", name := "elementData", desc := "(I)Ljava/lang/Object;" } : Jvm.MethodName)) ∈ lw_all := lw_g (lw_at lw_m3 75 rfl) rfl
theorem q690 : (Jvm.Cond.code ({ cls := "java/util/ArrayList", name := "elementData", desc := "(I)Ljava/lang/Object;" } : Jvm.MethodName) prog_50_method_18_code (2 : Nat) (Option.some (Jvm.ClassFile.FieldType.object "java/lang/Object"))) ∈ lw_all := lw_g (lw_at lw_m3 76 rfl) rfl
theorem q770 : (Jvm.Cond.selects "java/util/ArrayList" ({ cls := "java/util/List", name := "isEmpty", desc := "()Z" } : Jvm.MethodName) ({ cls := "java/util/ArrayList", name := "isEmpty", desc := "()Z" } : Jvm.MethodName)) ∈ lw_all := lw_g (lw_at lw_m3 156 rfl) rfl
theorem q771 : (Jvm.Cond.unhidden "java/util/ArrayList" "isEmpty" "()Z") ∈ lw_tbl := lw_at lw_m3 157 rfl
theorem q772 : (Jvm.Cond.instanceMethod ({ cls := "java/util/ArrayList", name := "isEmpty", desc := "()Z" } : Jvm.MethodName)) ∈ lw_all := lw_g (lw_at lw_m3 158 rfl) rfl
theorem q773 : (Jvm.Cond.publicMethod ({ cls := "java/util/ArrayList", name := "isEmpty", desc := "()Z" } : Jvm.MethodName)) ∈ lw_tbl := lw_at lw_m3 159 rfl
theorem q774 : (Jvm.Cond.code ({ cls := "java/util/ArrayList", name := "isEmpty", desc := "()Z" } : Jvm.MethodName) prog_50_method_9_code (1 : Nat) (Option.some Jvm.ClassFile.FieldType.boolean)) ∈ lw_all := lw_g (lw_at lw_m3 160 rfl) rfl
theorem q1426 : (Jvm.Cond.selects "java/util/ArrayList" ({ cls := "java/util/List", name := "remove", desc := "(I)Ljava/lang/Object;" } : Jvm.MethodName) ({ cls := "java/util/ArrayList", name := "remove", desc := "(I)Ljava/lang/Object;" } : Jvm.MethodName)) ∈ lw_all := lw_g (lw_at lw_m6 92 rfl) rfl
theorem q1427 : (Jvm.Cond.unhidden "java/util/ArrayList" "remove" "(I)Ljava/lang/Object;") ∈ lw_tbl := lw_at lw_m6 93 rfl
theorem q1428 : (Jvm.Cond.instanceMethod ({ cls := "java/util/ArrayList", name := "remove", desc := "(I)Ljava/lang/Object;" } : Jvm.MethodName)) ∈ lw_all := lw_g (lw_at lw_m6 94 rfl) rfl
theorem q1429 : (Jvm.Cond.publicMethod ({ cls := "java/util/ArrayList", name := "remove", desc := "(I)Ljava/lang/Object;" } : Jvm.MethodName)) ∈ lw_tbl := lw_at lw_m6 95 rfl
theorem q1430 : (Jvm.Cond.code ({ cls := "java/util/ArrayList", name := "remove", desc := "(I)Ljava/lang/Object;" } : Jvm.MethodName) prog_50_method_29_code (4 : Nat) (Option.some (Jvm.ClassFile.FieldType.object "java/lang/Object"))) ∈ lw_all := lw_g (lw_at lw_m6 96 rfl) rfl
theorem q1431 : (Jvm.Cond.methodLink "java/util/ArrayList" (144 : Nat) ({ cls := "java/util/ArrayList", name := "fastRemove", desc := "([Ljava/lang/Object;I)V" } : Jvm.MethodName)) ∈ lw_all := lw_g (lw_at lw_m6 97 rfl) rfl
theorem q1432 : (Jvm.Cond.privateMethod ({ cls := "java/util/ArrayList", name := "fastRemove", desc := "([Ljava/lang/Object;I)V" } : Jvm.MethodName)) ∈ lw_tbl := lw_at lw_m6 98 rfl
theorem q1433 : (Jvm.Cond.instanceMethod ({ cls := "java/util/ArrayList", name := "fastRemove", desc := "([Ljava/lang/Object;I)V" } : Jvm.MethodName)) ∈ lw_all := lw_g (lw_at lw_m6 99 rfl) rfl
theorem q1434 : (Jvm.Cond.code ({ cls := "java/util/ArrayList", name := "fastRemove", desc := "([Ljava/lang/Object;I)V" } : Jvm.MethodName) prog_50_method_39_code (4 : Nat) (Option.none : Option Jvm.ClassFile.FieldType)) ∈ lw_all := lw_g (lw_at lw_m6 100 rfl) rfl
theorem q1435 : (Jvm.Cond.methodLink "java/util/ArrayList" (112 : Nat) ({ cls := "java/lang/System", name := "arraycopy", desc := "(Ljava/lang/Object;ILjava/lang/Object;II)V" } : Jvm.MethodName)) ∈ lw_all := lw_g (lw_at lw_m6 101 rfl) rfl
theorem q1440 : (Jvm.Cond.selects "java/util/ArrayList" ({ cls := "java/util/List", name := "add", desc := "(ILjava/lang/Object;)V" } : Jvm.MethodName) ({ cls := "java/util/ArrayList", name := "add", desc := "(ILjava/lang/Object;)V" } : Jvm.MethodName)) ∈ lw_all := lw_g (lw_at lw_m6 106 rfl) rfl
theorem q1441 : (Jvm.Cond.unhidden "java/util/ArrayList" "add" "(ILjava/lang/Object;)V") ∈ lw_tbl := lw_at lw_m6 107 rfl
theorem q1442 : (Jvm.Cond.instanceMethod ({ cls := "java/util/ArrayList", name := "add", desc := "(ILjava/lang/Object;)V" } : Jvm.MethodName)) ∈ lw_all := lw_g (lw_at lw_m6 108 rfl) rfl
theorem q1443 : (Jvm.Cond.publicMethod ({ cls := "java/util/ArrayList", name := "add", desc := "(ILjava/lang/Object;)V" } : Jvm.MethodName)) ∈ lw_tbl := lw_at lw_m6 109 rfl
theorem q1444 : (Jvm.Cond.code ({ cls := "java/util/ArrayList", name := "add", desc := "(ILjava/lang/Object;)V" } : Jvm.MethodName) prog_50_method_26_code (5 : Nat) (Option.none : Option Jvm.ClassFile.FieldType)) ∈ lw_all := lw_g (lw_at lw_m6 110 rfl) rfl
theorem q1445 : (Jvm.Cond.methodLink "java/util/ArrayList" (135 : Nat) ({ cls := "java/util/ArrayList", name := "rangeCheckForAdd", desc := "(I)V" } : Jvm.MethodName)) ∈ lw_all := lw_g (lw_at lw_m6 111 rfl) rfl
theorem q1446 : (Jvm.Cond.privateMethod ({ cls := "java/util/ArrayList", name := "rangeCheckForAdd", desc := "(I)V" } : Jvm.MethodName)) ∈ lw_tbl := lw_at lw_m6 112 rfl
theorem q1447 : (Jvm.Cond.instanceMethod ({ cls := "java/util/ArrayList", name := "rangeCheckForAdd", desc := "(I)V" } : Jvm.MethodName)) ∈ lw_all := lw_g (lw_at lw_m6 113 rfl) rfl
theorem q1448 : (Jvm.Cond.code ({ cls := "java/util/ArrayList", name := "rangeCheckForAdd", desc := "(I)V" } : Jvm.MethodName) prog_50_method_45_code (2 : Nat) (Option.none : Option Jvm.ClassFile.FieldType)) ∈ lw_all := lw_g (lw_at lw_m6 114 rfl) rfl
theorem q1449 : (Jvm.Cond.classLink "java/util/ArrayList" (187 : Nat) "java/lang/IndexOutOfBoundsException") ∈ lw_all := lw_g (lw_at lw_m6 115 rfl) rfl
theorem q1458 : (Jvm.Cond.methodLink "java/util/ArrayList" (198 : Nat) ({ cls := "java/util/ArrayList", name := "outOfBoundsMsg", desc := "(I)Ljava/lang/String;" } : Jvm.MethodName)) ∈ lw_all := lw_g (lw_at lw_m6 124 rfl) rfl
theorem q1459 : (Jvm.Cond.privateMethod ({ cls := "java/util/ArrayList", name := "outOfBoundsMsg", desc := "(I)Ljava/lang/String;" } : Jvm.MethodName)) ∈ lw_tbl := lw_at lw_m6 125 rfl
theorem q1460 : (Jvm.Cond.instanceMethod ({ cls := "java/util/ArrayList", name := "outOfBoundsMsg", desc := "(I)Ljava/lang/String;" } : Jvm.MethodName)) ∈ lw_all := lw_g (lw_at lw_m6 126 rfl) rfl
theorem q1461 : (Jvm.Cond.code ({ cls := "java/util/ArrayList", name := "outOfBoundsMsg", desc := "(I)Ljava/lang/String;" } : Jvm.MethodName) prog_50_method_46_code (2 : Nat) (Option.some (Jvm.ClassFile.FieldType.object "java/lang/String"))) ∈ lw_all := lw_g (lw_at lw_m6 127 rfl) rfl
theorem q1462 : (Jvm.Cond.stringRef "java/util/ArrayList" (201 : Nat) "Index: ") ∈ lw_tbl := lw_at lw_m6 128 rfl
theorem q1463 : (Jvm.Cond.stringRef "java/util/ArrayList" (203 : Nat) ", Size: ") ∈ lw_tbl := lw_at lw_m6 129 rfl
theorem q1464 : (Jvm.Cond.methodLink "java/util/ArrayList" (193 : Nat) ({ cls := "java/lang/IndexOutOfBoundsException", name := "<init>", desc := "(Ljava/lang/String;)V" } : Jvm.MethodName)) ∈ lw_all := lw_g (lw_at lw_m6 130 rfl) rfl
theorem q1554 : (Jvm.Cond.selects "java/util/ArrayList" ({ cls := "java/util/List", name := "iterator", desc := "()Ljava/util/Iterator;" } : Jvm.MethodName) ({ cls := "java/util/ArrayList", name := "iterator", desc := "()Ljava/util/Iterator;" } : Jvm.MethodName)) ∈ lw_all := lw_g (lw_at lw_m6 220 rfl) rfl
theorem q1555 : (Jvm.Cond.unhidden "java/util/ArrayList" "iterator" "()Ljava/util/Iterator;") ∈ lw_tbl := lw_at lw_m6 221 rfl
theorem q1556 : (Jvm.Cond.instanceMethod ({ cls := "java/util/ArrayList", name := "iterator", desc := "()Ljava/util/Iterator;" } : Jvm.MethodName)) ∈ lw_all := lw_g (lw_at lw_m6 222 rfl) rfl
theorem q1557 : (Jvm.Cond.publicMethod ({ cls := "java/util/ArrayList", name := "iterator", desc := "()Ljava/util/Iterator;" } : Jvm.MethodName)) ∈ lw_tbl := lw_at lw_m6 223 rfl
theorem q1558 : (Jvm.Cond.code ({ cls := "java/util/ArrayList", name := "iterator", desc := "()Ljava/util/Iterator;" } : Jvm.MethodName) prog_50_method_55_code (1 : Nat) (Option.some (Jvm.ClassFile.FieldType.object "java/util/Iterator"))) ∈ lw_all := lw_g (lw_at lw_m6 224 rfl) rfl
theorem q1559 : (Jvm.Cond.classLink "java/util/ArrayList" (267 : Nat) "java/util/ArrayList$Itr") ∈ lw_all := lw_g (lw_at lw_m6 225 rfl) rfl
theorem q1561 : (Jvm.Cond.methodLink "java/util/ArrayList" (269 : Nat) ({ cls := "java/util/ArrayList$Itr", name := "<init>", desc := "(Ljava/util/ArrayList;)V" } : Jvm.MethodName)) ∈ lw_all := lw_g (lw_at lw_m6 227 rfl) rfl
theorem q3119 : (Jvm.Cond.selects "java/util/ArrayList" ({ cls := "java/util/ArrayList", name := "remove", desc := "(I)Ljava/lang/Object;" } : Jvm.MethodName) ({ cls := "java/util/ArrayList", name := "remove", desc := "(I)Ljava/lang/Object;" } : Jvm.MethodName)) ∈ lw_all := lw_g (lw_at lw_m13 105 rfl) rfl
theorem q3135 : (Jvm.Cond.castable "java/util/ArrayList" "java/lang/Object") ∈ lw_tbl := lw_at lw_m13 121 rfl
theorem in_J2 : ∀ w ∈ wsJ20, w ∈ lw_all := lw_in wsJ20 [221, 217, 219] (by decide +kernel) (by decide +kernel)
/-! java/lang/Number -/
set_option maxRecDepth 100000
def RJ3 : String := "java/lang/Number"
abbrev cJ3_init : ByteArray := prog_35_method_1_code
def yJ3_init : MethodName := ⟨RJ3, "<init>", "()V"⟩
theorem dJ3_init_0 : decode cJ3_init 0 = .ok (.aload_n 0, 1) := by decide +kernel
theorem dJ3_init_1 : decode cJ3_init 1 = .ok (.invokespecial 1, 3) := by decide +kernel
theorem dJ3_init_4 : decode cJ3_init 4 = .ok (.return_, 1) := by decide +kernel
theorem q139 : (Jvm.Cond.initialized "java/lang/Number") ∈ lw_all := lw_g (lw_at lw_m1 5 rfl) rfl
theorem q239 : (Jvm.Cond.instanceMethod ({ cls := "java/lang/Number", name := "<init>", desc := "()V" } : Jvm.MethodName)) ∈ lw_all := lw_g (lw_at lw_m1 105 rfl) rfl
theorem q240 : (Jvm.Cond.code ({ cls := "java/lang/Number", name := "<init>", desc := "()V" } : Jvm.MethodName) prog_35_method_1_code (1 : Nat) (Option.none : Option Jvm.ClassFile.FieldType)) ∈ lw_all := lw_g (lw_at lw_m1 106 rfl) rfl
theorem q241 : (Jvm.Cond.methodLink "java/lang/Number" (1 : Nat) ({ cls := "java/lang/Object", name := "<init>", desc := "()V" } : Jvm.MethodName)) ∈ lw_all := lw_g (lw_at lw_m1 107 rfl) rfl
/-! java/lang/Integer -/
set_option maxRecDepth 100000
def RJ4 : String := "java/lang/Integer"
def TJ4 : u_T := fun k => match k with
  | _ => ("java/lang/Integer", "value", "I", true)
def tyJ4 : Nat → FieldType := fun k => match k with
  | _ => .int
abbrev wsJ40 : List Cond := u_ws RJ4 TJ4 1
theorem nmJ4 : ∀ a, a < 1 → ∀ b, b < 1 → a ≠ b → (TJ4 a).2.1 ≠ (TJ4 b).2.1 := by decide +kernel
theorem tyJ4_ok : ∀ k, k < 1 → parseFieldDescriptor (TJ4 k).2.2.1 = some (tyJ4 k) := by decide +kernel
abbrev cJ4_valueOf : ByteArray := prog_30_method_22_code
def yJ4_valueOf : MethodName := ⟨RJ4, "valueOf", "(I)Ljava/lang/Integer;"⟩
def dkwJ4_valueOf_1 : List UInt8 := [187, 0, 1, 89, 26, 183, 0, 199, 176]
abbrev dktJ4_valueOf_1 : List UInt8 := dkwJ4_valueOf_1 ++ []
def dkwJ4_valueOf_0 : List UInt8 := [26, 16, 128, 161, 0, 20, 26, 178, 0, 191, 163, 0, 13, 178, 0, 195, 26, 17, 0, 128, 96, 50, 176]
abbrev dktJ4_valueOf_0 : List UInt8 := dkwJ4_valueOf_0 ++ dktJ4_valueOf_1
theorem dksJ4_valueOf_0 : cJ4_valueOf.data.toList.drop 0 = dktJ4_valueOf_0 := by decide +kernel
theorem dksJ4_valueOf_1 : cJ4_valueOf.data.toList.drop 23 = dktJ4_valueOf_1 := dk_seg dksJ4_valueOf_0 23 rfl rfl
theorem dJ4_valueOf_0 : decode cJ4_valueOf 0 = .ok (.iload_n 0, 1) := dk_26 (dk_at dksJ4_valueOf_0 0 rfl rfl)
theorem dJ4_valueOf_1 : decode cJ4_valueOf 1 = .ok (.bipush (-128), 2) := dk_16 128 (dk_at dksJ4_valueOf_0 1 rfl rfl)
theorem dJ4_valueOf_3 : decode cJ4_valueOf 3 = .ok (.if_icmp .lt 20, 3) := dk_161 0 20 (dk_at dksJ4_valueOf_0 3 rfl rfl)
theorem dJ4_valueOf_6 : decode cJ4_valueOf 6 = .ok (.iload_n 0, 1) := dk_26 (dk_at dksJ4_valueOf_0 6 rfl rfl)
theorem dJ4_valueOf_7 : decode cJ4_valueOf 7 = .ok (.getstatic 191, 3) := dk_178 0 191 (dk_at dksJ4_valueOf_0 7 rfl rfl)
theorem dJ4_valueOf_10 : decode cJ4_valueOf 10 = .ok (.if_icmp .gt 13, 3) := dk_163 0 13 (dk_at dksJ4_valueOf_0 10 rfl rfl)
theorem dJ4_valueOf_13 : decode cJ4_valueOf 13 = .ok (.getstatic 195, 3) := dk_178 0 195 (dk_at dksJ4_valueOf_0 13 rfl rfl)
theorem dJ4_valueOf_16 : decode cJ4_valueOf 16 = .ok (.iload_n 0, 1) := dk_26 (dk_at dksJ4_valueOf_0 16 rfl rfl)
theorem dJ4_valueOf_17 : decode cJ4_valueOf 17 = .ok (.sipush 128, 3) := dk_17 0 128 (dk_at dksJ4_valueOf_0 17 rfl rfl)
theorem dJ4_valueOf_20 : decode cJ4_valueOf 20 = .ok (.iadd, 1) := dk_96 (dk_at dksJ4_valueOf_0 20 rfl rfl)
theorem dJ4_valueOf_21 : decode cJ4_valueOf 21 = .ok (.aaload, 1) := dk_50 (dk_at dksJ4_valueOf_0 21 rfl rfl)
theorem dJ4_valueOf_22 : decode cJ4_valueOf 22 = .ok (.areturn, 1) := dk_176 (dk_at dksJ4_valueOf_0 22 rfl rfl)
theorem dJ4_valueOf_23 : decode cJ4_valueOf 23 = .ok (.new 1, 3) := dk_187 0 1 (dk_at dksJ4_valueOf_1 0 rfl rfl)
theorem dJ4_valueOf_26 : decode cJ4_valueOf 26 = .ok (.dup, 1) := dk_89 (dk_at dksJ4_valueOf_1 3 rfl rfl)
theorem dJ4_valueOf_27 : decode cJ4_valueOf 27 = .ok (.iload_n 0, 1) := dk_26 (dk_at dksJ4_valueOf_1 4 rfl rfl)
theorem dJ4_valueOf_28 : decode cJ4_valueOf 28 = .ok (.invokespecial 199, 3) := dk_183 0 199 (dk_at dksJ4_valueOf_1 5 rfl rfl)
theorem dJ4_valueOf_31 : decode cJ4_valueOf 31 = .ok (.areturn, 1) := dk_176 (dk_at dksJ4_valueOf_1 8 rfl rfl)
abbrev cJ4_init : ByteArray := prog_30_method_23_code
def yJ4_init : MethodName := ⟨RJ4, "<init>", "(I)V"⟩
def dkwJ4_init_0 : List UInt8 := [42, 183, 0, 202, 42, 27, 181, 0, 205, 177]
abbrev dktJ4_init_0 : List UInt8 := dkwJ4_init_0 ++ []
theorem dksJ4_init_0 : cJ4_init.data.toList.drop 0 = dktJ4_init_0 := by decide +kernel
theorem dJ4_init_0 : decode cJ4_init 0 = .ok (.aload_n 0, 1) := dk_42 (dk_at dksJ4_init_0 0 rfl rfl)
theorem dJ4_init_1 : decode cJ4_init 1 = .ok (.invokespecial 202, 3) := dk_183 0 202 (dk_at dksJ4_init_0 1 rfl rfl)
theorem dJ4_init_4 : decode cJ4_init 4 = .ok (.aload_n 0, 1) := dk_42 (dk_at dksJ4_init_0 4 rfl rfl)
theorem dJ4_init_5 : decode cJ4_init 5 = .ok (.iload_n 1, 1) := dk_27 (dk_at dksJ4_init_0 5 rfl rfl)
theorem dJ4_init_6 : decode cJ4_init 6 = .ok (.putfield 205, 3) := dk_181 0 205 (dk_at dksJ4_init_0 6 rfl rfl)
theorem dJ4_init_9 : decode cJ4_init 9 = .ok (.return_, 1) := dk_177 (dk_at dksJ4_init_0 9 rfl rfl)
abbrev cJ4_stringSize : ByteArray := prog_30_method_13_code
def yJ4_stringSize : MethodName := ⟨RJ4, "stringSize", "(I)I"⟩
def dkwJ4_stringSize_1 : List UInt8 := [164, 0, 7, 29, 27, 96, 172, 16, 10, 28, 104, 61, 132, 3, 1, 167, 255, 233, 16, 10, 27, 96, 172]
abbrev dktJ4_stringSize_1 : List UInt8 := dkwJ4_stringSize_1 ++ []
def dkwJ4_stringSize_0 : List UInt8 := [4, 60, 26, 155, 0, 8, 3, 60, 26, 116, 59, 16, 246, 61, 4, 62, 29, 16, 10, 162, 0, 23, 26, 28]
abbrev dktJ4_stringSize_0 : List UInt8 := dkwJ4_stringSize_0 ++ dktJ4_stringSize_1
theorem dksJ4_stringSize_0 : cJ4_stringSize.data.toList.drop 0 = dktJ4_stringSize_0 := by decide +kernel
theorem dksJ4_stringSize_1 : cJ4_stringSize.data.toList.drop 24 = dktJ4_stringSize_1 := dk_seg dksJ4_stringSize_0 24 rfl rfl
theorem dJ4_stringSize_0 : decode cJ4_stringSize 0 = .ok (.iconst 1, 1) := dk_4 (dk_at dksJ4_stringSize_0 0 rfl rfl)
theorem dJ4_stringSize_1 : decode cJ4_stringSize 1 = .ok (.istore_n 1, 1) := dk_60 (dk_at dksJ4_stringSize_0 1 rfl rfl)
theorem dJ4_stringSize_2 : decode cJ4_stringSize 2 = .ok (.iload_n 0, 1) := dk_26 (dk_at dksJ4_stringSize_0 2 rfl rfl)
theorem dJ4_stringSize_3 : decode cJ4_stringSize 3 = .ok (.ifCond .lt 8, 3) := dk_155 0 8 (dk_at dksJ4_stringSize_0 3 rfl rfl)
theorem dJ4_stringSize_6 : decode cJ4_stringSize 6 = .ok (.iconst 0, 1) := dk_3 (dk_at dksJ4_stringSize_0 6 rfl rfl)
theorem dJ4_stringSize_7 : decode cJ4_stringSize 7 = .ok (.istore_n 1, 1) := dk_60 (dk_at dksJ4_stringSize_0 7 rfl rfl)
theorem dJ4_stringSize_8 : decode cJ4_stringSize 8 = .ok (.iload_n 0, 1) := dk_26 (dk_at dksJ4_stringSize_0 8 rfl rfl)
theorem dJ4_stringSize_9 : decode cJ4_stringSize 9 = .ok (.ineg, 1) := dk_116 (dk_at dksJ4_stringSize_0 9 rfl rfl)
theorem dJ4_stringSize_10 : decode cJ4_stringSize 10 = .ok (.istore_n 0, 1) := dk_59 (dk_at dksJ4_stringSize_0 10 rfl rfl)
theorem dJ4_stringSize_11 : decode cJ4_stringSize 11 = .ok (.bipush (-10), 2) := dk_16 246 (dk_at dksJ4_stringSize_0 11 rfl rfl)
theorem dJ4_stringSize_13 : decode cJ4_stringSize 13 = .ok (.istore_n 2, 1) := dk_61 (dk_at dksJ4_stringSize_0 13 rfl rfl)
theorem dJ4_stringSize_14 : decode cJ4_stringSize 14 = .ok (.iconst 1, 1) := dk_4 (dk_at dksJ4_stringSize_0 14 rfl rfl)
theorem dJ4_stringSize_15 : decode cJ4_stringSize 15 = .ok (.istore_n 3, 1) := dk_62 (dk_at dksJ4_stringSize_0 15 rfl rfl)
theorem dJ4_stringSize_16 : decode cJ4_stringSize 16 = .ok (.iload_n 3, 1) := dk_29 (dk_at dksJ4_stringSize_0 16 rfl rfl)
theorem dJ4_stringSize_17 : decode cJ4_stringSize 17 = .ok (.bipush 10, 2) := dk_16 10 (dk_at dksJ4_stringSize_0 17 rfl rfl)
theorem dJ4_stringSize_19 : decode cJ4_stringSize 19 = .ok (.if_icmp .ge 23, 3) := dk_162 0 23 (dk_at dksJ4_stringSize_0 19 rfl rfl)
theorem dJ4_stringSize_22 : decode cJ4_stringSize 22 = .ok (.iload_n 0, 1) := dk_26 (dk_at dksJ4_stringSize_0 22 rfl rfl)
theorem dJ4_stringSize_23 : decode cJ4_stringSize 23 = .ok (.iload_n 2, 1) := dk_28 (dk_at dksJ4_stringSize_0 23 rfl rfl)
theorem dJ4_stringSize_24 : decode cJ4_stringSize 24 = .ok (.if_icmp .le 7, 3) := dk_164 0 7 (dk_at dksJ4_stringSize_1 0 rfl rfl)
theorem dJ4_stringSize_27 : decode cJ4_stringSize 27 = .ok (.iload_n 3, 1) := dk_29 (dk_at dksJ4_stringSize_1 3 rfl rfl)
theorem dJ4_stringSize_28 : decode cJ4_stringSize 28 = .ok (.iload_n 1, 1) := dk_27 (dk_at dksJ4_stringSize_1 4 rfl rfl)
theorem dJ4_stringSize_29 : decode cJ4_stringSize 29 = .ok (.iadd, 1) := dk_96 (dk_at dksJ4_stringSize_1 5 rfl rfl)
theorem dJ4_stringSize_30 : decode cJ4_stringSize 30 = .ok (.ireturn, 1) := dk_172 (dk_at dksJ4_stringSize_1 6 rfl rfl)
theorem dJ4_stringSize_31 : decode cJ4_stringSize 31 = .ok (.bipush 10, 2) := dk_16 10 (dk_at dksJ4_stringSize_1 7 rfl rfl)
theorem dJ4_stringSize_33 : decode cJ4_stringSize 33 = .ok (.iload_n 2, 1) := dk_28 (dk_at dksJ4_stringSize_1 9 rfl rfl)
theorem dJ4_stringSize_34 : decode cJ4_stringSize 34 = .ok (.imul, 1) := dk_104 (dk_at dksJ4_stringSize_1 10 rfl rfl)
theorem dJ4_stringSize_35 : decode cJ4_stringSize 35 = .ok (.istore_n 2, 1) := dk_61 (dk_at dksJ4_stringSize_1 11 rfl rfl)
theorem dJ4_stringSize_36 : decode cJ4_stringSize 36 = .ok (.iinc 3 1, 3) := dk_132 3 1 (dk_at dksJ4_stringSize_1 12 rfl rfl)
theorem dJ4_stringSize_39 : decode cJ4_stringSize 39 = .ok (.goto (-23), 3) := dk_167 255 233 (dk_at dksJ4_stringSize_1 15 rfl rfl)
theorem dJ4_stringSize_42 : decode cJ4_stringSize 42 = .ok (.bipush 10, 2) := dk_16 10 (dk_at dksJ4_stringSize_1 18 rfl rfl)
theorem dJ4_stringSize_44 : decode cJ4_stringSize 44 = .ok (.iload_n 1, 1) := dk_27 (dk_at dksJ4_stringSize_1 20 rfl rfl)
theorem dJ4_stringSize_45 : decode cJ4_stringSize 45 = .ok (.iadd, 1) := dk_96 (dk_at dksJ4_stringSize_1 21 rfl rfl)
theorem dJ4_stringSize_46 : decode cJ4_stringSize 46 = .ok (.ireturn, 1) := dk_172 (dk_at dksJ4_stringSize_1 22 rfl rfl)
abbrev cJ4_getChars : ByteArray := prog_30_method_12_code
def yJ4_getChars : MethodName := ⟨RJ4, "getChars", "(II[B)I"⟩
def dkwJ4_getChars_5 : List UInt8 := [16, 45, 84, 21, 5, 172]
abbrev dktJ4_getChars_5 : List UInt8 := dkwJ4_getChars_5 ++ []
def dkwJ4_getChars_4 : List UInt8 := [132, 5, 255, 21, 5, 178, 0, 87, 26, 116, 51, 84, 21, 6, 153, 0, 12, 44, 132, 5, 255, 21, 5]
abbrev dktJ4_getChars_4 : List UInt8 := dkwJ4_getChars_4 ++ dktJ4_getChars_5
def dkwJ4_getChars_3 : List UInt8 := [167, 255, 209, 44, 132, 5, 255, 21, 5, 178, 0, 83, 26, 116, 51, 84, 26, 16, 247, 162, 0, 16, 44]
abbrev dktJ4_getChars_3 : List UInt8 := dkwJ4_getChars_3 ++ dktJ4_getChars_4
def dkwJ4_getChars_2 : List UInt8 := [21, 5, 178, 0, 83, 21, 4, 51, 84, 44, 132, 5, 255, 21, 5, 178, 0, 87, 21, 4, 51, 84]
abbrev dktJ4_getChars_2 : List UInt8 := dkwJ4_getChars_2 ++ dktJ4_getChars_3
def dkwJ4_getChars_1 : List UInt8 := [16, 156, 163, 0, 47, 26, 16, 100, 108, 62, 29, 16, 100, 104, 26, 100, 54, 4, 29, 59, 44, 132, 5, 255]
abbrev dktJ4_getChars_1 : List UInt8 := dkwJ4_getChars_1 ++ dktJ4_getChars_2
def dkwJ4_getChars_0 : List UInt8 := [27, 54, 5, 26, 156, 0, 7, 4, 167, 0, 4, 3, 54, 6, 21, 6, 154, 0, 6, 26, 116, 59, 26]
abbrev dktJ4_getChars_0 : List UInt8 := dkwJ4_getChars_0 ++ dktJ4_getChars_1
theorem dksJ4_getChars_0 : cJ4_getChars.data.toList.drop 0 = dktJ4_getChars_0 := by decide +kernel
theorem dksJ4_getChars_1 : cJ4_getChars.data.toList.drop 23 = dktJ4_getChars_1 := dk_seg dksJ4_getChars_0 23 rfl rfl
theorem dksJ4_getChars_2 : cJ4_getChars.data.toList.drop 47 = dktJ4_getChars_2 := dk_seg dksJ4_getChars_1 24 rfl rfl
theorem dksJ4_getChars_3 : cJ4_getChars.data.toList.drop 69 = dktJ4_getChars_3 := dk_seg dksJ4_getChars_2 22 rfl rfl
theorem dksJ4_getChars_4 : cJ4_getChars.data.toList.drop 92 = dktJ4_getChars_4 := dk_seg dksJ4_getChars_3 23 rfl rfl
theorem dksJ4_getChars_5 : cJ4_getChars.data.toList.drop 115 = dktJ4_getChars_5 := dk_seg dksJ4_getChars_4 23 rfl rfl
theorem dJ4_getChars_0 : decode cJ4_getChars 0 = .ok (.iload_n 1, 1) := dk_27 (dk_at dksJ4_getChars_0 0 rfl rfl)
theorem dJ4_getChars_1 : decode cJ4_getChars 1 = .ok (.istore 5, 2) := dk_54 5 (dk_at dksJ4_getChars_0 1 rfl rfl)
theorem dJ4_getChars_3 : decode cJ4_getChars 3 = .ok (.iload_n 0, 1) := dk_26 (dk_at dksJ4_getChars_0 3 rfl rfl)
theorem dJ4_getChars_4 : decode cJ4_getChars 4 = .ok (.ifCond .ge 7, 3) := dk_156 0 7 (dk_at dksJ4_getChars_0 4 rfl rfl)
theorem dJ4_getChars_7 : decode cJ4_getChars 7 = .ok (.iconst 1, 1) := dk_4 (dk_at dksJ4_getChars_0 7 rfl rfl)
theorem dJ4_getChars_8 : decode cJ4_getChars 8 = .ok (.goto 4, 3) := dk_167 0 4 (dk_at dksJ4_getChars_0 8 rfl rfl)
theorem dJ4_getChars_11 : decode cJ4_getChars 11 = .ok (.iconst 0, 1) := dk_3 (dk_at dksJ4_getChars_0 11 rfl rfl)
theorem dJ4_getChars_12 : decode cJ4_getChars 12 = .ok (.istore 6, 2) := dk_54 6 (dk_at dksJ4_getChars_0 12 rfl rfl)
theorem dJ4_getChars_14 : decode cJ4_getChars 14 = .ok (.iload 6, 2) := dk_21 6 (dk_at dksJ4_getChars_0 14 rfl rfl)
theorem dJ4_getChars_16 : decode cJ4_getChars 16 = .ok (.ifCond .ne 6, 3) := dk_154 0 6 (dk_at dksJ4_getChars_0 16 rfl rfl)
theorem dJ4_getChars_19 : decode cJ4_getChars 19 = .ok (.iload_n 0, 1) := dk_26 (dk_at dksJ4_getChars_0 19 rfl rfl)
theorem dJ4_getChars_20 : decode cJ4_getChars 20 = .ok (.ineg, 1) := dk_116 (dk_at dksJ4_getChars_0 20 rfl rfl)
theorem dJ4_getChars_21 : decode cJ4_getChars 21 = .ok (.istore_n 0, 1) := dk_59 (dk_at dksJ4_getChars_0 21 rfl rfl)
theorem dJ4_getChars_22 : decode cJ4_getChars 22 = .ok (.iload_n 0, 1) := dk_26 (dk_at dksJ4_getChars_0 22 rfl rfl)
theorem dJ4_getChars_23 : decode cJ4_getChars 23 = .ok (.bipush (-100), 2) := dk_16 156 (dk_at dksJ4_getChars_1 0 rfl rfl)
theorem dJ4_getChars_25 : decode cJ4_getChars 25 = .ok (.if_icmp .gt 47, 3) := dk_163 0 47 (dk_at dksJ4_getChars_1 2 rfl rfl)
theorem dJ4_getChars_28 : decode cJ4_getChars 28 = .ok (.iload_n 0, 1) := dk_26 (dk_at dksJ4_getChars_1 5 rfl rfl)
theorem dJ4_getChars_29 : decode cJ4_getChars 29 = .ok (.bipush 100, 2) := dk_16 100 (dk_at dksJ4_getChars_1 6 rfl rfl)
theorem dJ4_getChars_31 : decode cJ4_getChars 31 = .ok (.idiv, 1) := dk_108 (dk_at dksJ4_getChars_1 8 rfl rfl)
theorem dJ4_getChars_32 : decode cJ4_getChars 32 = .ok (.istore_n 3, 1) := dk_62 (dk_at dksJ4_getChars_1 9 rfl rfl)
theorem dJ4_getChars_33 : decode cJ4_getChars 33 = .ok (.iload_n 3, 1) := dk_29 (dk_at dksJ4_getChars_1 10 rfl rfl)
theorem dJ4_getChars_34 : decode cJ4_getChars 34 = .ok (.bipush 100, 2) := dk_16 100 (dk_at dksJ4_getChars_1 11 rfl rfl)
theorem dJ4_getChars_36 : decode cJ4_getChars 36 = .ok (.imul, 1) := dk_104 (dk_at dksJ4_getChars_1 13 rfl rfl)
theorem dJ4_getChars_37 : decode cJ4_getChars 37 = .ok (.iload_n 0, 1) := dk_26 (dk_at dksJ4_getChars_1 14 rfl rfl)
theorem dJ4_getChars_38 : decode cJ4_getChars 38 = .ok (.isub, 1) := dk_100 (dk_at dksJ4_getChars_1 15 rfl rfl)
theorem dJ4_getChars_39 : decode cJ4_getChars 39 = .ok (.istore 4, 2) := dk_54 4 (dk_at dksJ4_getChars_1 16 rfl rfl)
theorem dJ4_getChars_41 : decode cJ4_getChars 41 = .ok (.iload_n 3, 1) := dk_29 (dk_at dksJ4_getChars_1 18 rfl rfl)
theorem dJ4_getChars_42 : decode cJ4_getChars 42 = .ok (.istore_n 0, 1) := dk_59 (dk_at dksJ4_getChars_1 19 rfl rfl)
theorem dJ4_getChars_43 : decode cJ4_getChars 43 = .ok (.aload_n 2, 1) := dk_44 (dk_at dksJ4_getChars_1 20 rfl rfl)
theorem dJ4_getChars_44 : decode cJ4_getChars 44 = .ok (.iinc 5 (-1), 3) := dk_132 5 255 (dk_at dksJ4_getChars_1 21 rfl rfl)
theorem dJ4_getChars_47 : decode cJ4_getChars 47 = .ok (.iload 5, 2) := dk_21 5 (dk_at dksJ4_getChars_2 0 rfl rfl)
theorem dJ4_getChars_49 : decode cJ4_getChars 49 = .ok (.getstatic 83, 3) := dk_178 0 83 (dk_at dksJ4_getChars_2 2 rfl rfl)
theorem dJ4_getChars_52 : decode cJ4_getChars 52 = .ok (.iload 4, 2) := dk_21 4 (dk_at dksJ4_getChars_2 5 rfl rfl)
theorem dJ4_getChars_54 : decode cJ4_getChars 54 = .ok (.baload, 1) := dk_51 (dk_at dksJ4_getChars_2 7 rfl rfl)
theorem dJ4_getChars_55 : decode cJ4_getChars 55 = .ok (.bastore, 1) := dk_84 (dk_at dksJ4_getChars_2 8 rfl rfl)
theorem dJ4_getChars_56 : decode cJ4_getChars 56 = .ok (.aload_n 2, 1) := dk_44 (dk_at dksJ4_getChars_2 9 rfl rfl)
theorem dJ4_getChars_57 : decode cJ4_getChars 57 = .ok (.iinc 5 (-1), 3) := dk_132 5 255 (dk_at dksJ4_getChars_2 10 rfl rfl)
theorem dJ4_getChars_60 : decode cJ4_getChars 60 = .ok (.iload 5, 2) := dk_21 5 (dk_at dksJ4_getChars_2 13 rfl rfl)
theorem dJ4_getChars_62 : decode cJ4_getChars 62 = .ok (.getstatic 87, 3) := dk_178 0 87 (dk_at dksJ4_getChars_2 15 rfl rfl)
theorem dJ4_getChars_65 : decode cJ4_getChars 65 = .ok (.iload 4, 2) := dk_21 4 (dk_at dksJ4_getChars_2 18 rfl rfl)
theorem dJ4_getChars_67 : decode cJ4_getChars 67 = .ok (.baload, 1) := dk_51 (dk_at dksJ4_getChars_2 20 rfl rfl)
theorem dJ4_getChars_68 : decode cJ4_getChars 68 = .ok (.bastore, 1) := dk_84 (dk_at dksJ4_getChars_2 21 rfl rfl)
theorem dJ4_getChars_69 : decode cJ4_getChars 69 = .ok (.goto (-47), 3) := dk_167 255 209 (dk_at dksJ4_getChars_3 0 rfl rfl)
theorem dJ4_getChars_72 : decode cJ4_getChars 72 = .ok (.aload_n 2, 1) := dk_44 (dk_at dksJ4_getChars_3 3 rfl rfl)
theorem dJ4_getChars_73 : decode cJ4_getChars 73 = .ok (.iinc 5 (-1), 3) := dk_132 5 255 (dk_at dksJ4_getChars_3 4 rfl rfl)
theorem dJ4_getChars_76 : decode cJ4_getChars 76 = .ok (.iload 5, 2) := dk_21 5 (dk_at dksJ4_getChars_3 7 rfl rfl)
theorem dJ4_getChars_78 : decode cJ4_getChars 78 = .ok (.getstatic 83, 3) := dk_178 0 83 (dk_at dksJ4_getChars_3 9 rfl rfl)
theorem dJ4_getChars_81 : decode cJ4_getChars 81 = .ok (.iload_n 0, 1) := dk_26 (dk_at dksJ4_getChars_3 12 rfl rfl)
theorem dJ4_getChars_82 : decode cJ4_getChars 82 = .ok (.ineg, 1) := dk_116 (dk_at dksJ4_getChars_3 13 rfl rfl)
theorem dJ4_getChars_83 : decode cJ4_getChars 83 = .ok (.baload, 1) := dk_51 (dk_at dksJ4_getChars_3 14 rfl rfl)
theorem dJ4_getChars_84 : decode cJ4_getChars 84 = .ok (.bastore, 1) := dk_84 (dk_at dksJ4_getChars_3 15 rfl rfl)
theorem dJ4_getChars_85 : decode cJ4_getChars 85 = .ok (.iload_n 0, 1) := dk_26 (dk_at dksJ4_getChars_3 16 rfl rfl)
theorem dJ4_getChars_86 : decode cJ4_getChars 86 = .ok (.bipush (-9), 2) := dk_16 247 (dk_at dksJ4_getChars_3 17 rfl rfl)
theorem dJ4_getChars_88 : decode cJ4_getChars 88 = .ok (.if_icmp .ge 16, 3) := dk_162 0 16 (dk_at dksJ4_getChars_3 19 rfl rfl)
theorem dJ4_getChars_91 : decode cJ4_getChars 91 = .ok (.aload_n 2, 1) := dk_44 (dk_at dksJ4_getChars_3 22 rfl rfl)
theorem dJ4_getChars_92 : decode cJ4_getChars 92 = .ok (.iinc 5 (-1), 3) := dk_132 5 255 (dk_at dksJ4_getChars_4 0 rfl rfl)
theorem dJ4_getChars_95 : decode cJ4_getChars 95 = .ok (.iload 5, 2) := dk_21 5 (dk_at dksJ4_getChars_4 3 rfl rfl)
theorem dJ4_getChars_97 : decode cJ4_getChars 97 = .ok (.getstatic 87, 3) := dk_178 0 87 (dk_at dksJ4_getChars_4 5 rfl rfl)
theorem dJ4_getChars_100 : decode cJ4_getChars 100 = .ok (.iload_n 0, 1) := dk_26 (dk_at dksJ4_getChars_4 8 rfl rfl)
theorem dJ4_getChars_101 : decode cJ4_getChars 101 = .ok (.ineg, 1) := dk_116 (dk_at dksJ4_getChars_4 9 rfl rfl)
theorem dJ4_getChars_102 : decode cJ4_getChars 102 = .ok (.baload, 1) := dk_51 (dk_at dksJ4_getChars_4 10 rfl rfl)
theorem dJ4_getChars_103 : decode cJ4_getChars 103 = .ok (.bastore, 1) := dk_84 (dk_at dksJ4_getChars_4 11 rfl rfl)
theorem dJ4_getChars_104 : decode cJ4_getChars 104 = .ok (.iload 6, 2) := dk_21 6 (dk_at dksJ4_getChars_4 12 rfl rfl)
theorem dJ4_getChars_106 : decode cJ4_getChars 106 = .ok (.ifCond .eq 12, 3) := dk_153 0 12 (dk_at dksJ4_getChars_4 14 rfl rfl)
theorem dJ4_getChars_109 : decode cJ4_getChars 109 = .ok (.aload_n 2, 1) := dk_44 (dk_at dksJ4_getChars_4 17 rfl rfl)
theorem dJ4_getChars_110 : decode cJ4_getChars 110 = .ok (.iinc 5 (-1), 3) := dk_132 5 255 (dk_at dksJ4_getChars_4 18 rfl rfl)
theorem dJ4_getChars_113 : decode cJ4_getChars 113 = .ok (.iload 5, 2) := dk_21 5 (dk_at dksJ4_getChars_4 21 rfl rfl)
theorem dJ4_getChars_115 : decode cJ4_getChars 115 = .ok (.bipush 45, 2) := dk_16 45 (dk_at dksJ4_getChars_5 0 rfl rfl)
theorem dJ4_getChars_117 : decode cJ4_getChars 117 = .ok (.bastore, 1) := dk_84 (dk_at dksJ4_getChars_5 2 rfl rfl)
theorem dJ4_getChars_118 : decode cJ4_getChars 118 = .ok (.iload 5, 2) := dk_21 5 (dk_at dksJ4_getChars_5 3 rfl rfl)
theorem dJ4_getChars_120 : decode cJ4_getChars 120 = .ok (.ireturn, 1) := dk_172 (dk_at dksJ4_getChars_5 5 rfl rfl)
abbrev cJ4_intValue : ByteArray := prog_30_method_27_code
def yJ4_intValue : MethodName := ⟨RJ4, "intValue", "()I"⟩
theorem dJ4_intValue_0 : decode cJ4_intValue 0 = .ok (.aload_n 0, 1) := by decide +kernel
theorem dJ4_intValue_1 : decode cJ4_intValue 1 = .ok (.getfield 205, 3) := by decide +kernel
theorem dJ4_intValue_4 : decode cJ4_intValue 4 = .ok (.ireturn, 1) := by decide +kernel
abbrev cJ4_compareTo : ByteArray := prog_30_method_63_code
def yJ4_compareTo : MethodName := ⟨RJ4, "compareTo", "(Ljava/lang/Object;)I"⟩
def dkwJ4_compareTo_0 : List UInt8 := [42, 43, 192, 0, 1, 182, 1, 28, 172]
abbrev dktJ4_compareTo_0 : List UInt8 := dkwJ4_compareTo_0 ++ []
theorem dksJ4_compareTo_0 : cJ4_compareTo.data.toList.drop 0 = dktJ4_compareTo_0 := by decide +kernel
theorem dJ4_compareTo_0 : decode cJ4_compareTo 0 = .ok (.aload_n 0, 1) := dk_42 (dk_at dksJ4_compareTo_0 0 rfl rfl)
theorem dJ4_compareTo_1 : decode cJ4_compareTo 1 = .ok (.aload_n 1, 1) := dk_43 (dk_at dksJ4_compareTo_0 1 rfl rfl)
theorem dJ4_compareTo_2 : decode cJ4_compareTo 2 = .ok (.checkcast 1, 3) := dk_192 0 1 (dk_at dksJ4_compareTo_0 2 rfl rfl)
theorem dJ4_compareTo_5 : decode cJ4_compareTo 5 = .ok (.invokevirtual 284, 3) := dk_182 1 28 (dk_at dksJ4_compareTo_0 5 rfl rfl)
theorem dJ4_compareTo_8 : decode cJ4_compareTo 8 = .ok (.ireturn, 1) := dk_172 (dk_at dksJ4_compareTo_0 8 rfl rfl)
abbrev cJ4_compareTo_2 : ByteArray := prog_30_method_39_code
def yJ4_compareTo_2 : MethodName := ⟨RJ4, "compareTo", "(Ljava/lang/Integer;)I"⟩
def dkwJ4_compareTo_2_0 : List UInt8 := [42, 180, 0, 205, 43, 180, 0, 205, 184, 1, 3, 172]
abbrev dktJ4_compareTo_2_0 : List UInt8 := dkwJ4_compareTo_2_0 ++ []
theorem dksJ4_compareTo_2_0 : cJ4_compareTo_2.data.toList.drop 0 = dktJ4_compareTo_2_0 := by decide +kernel
theorem dJ4_compareTo_2_0 : decode cJ4_compareTo_2 0 = .ok (.aload_n 0, 1) := dk_42 (dk_at dksJ4_compareTo_2_0 0 rfl rfl)
theorem dJ4_compareTo_2_1 : decode cJ4_compareTo_2 1 = .ok (.getfield 205, 3) := dk_180 0 205 (dk_at dksJ4_compareTo_2_0 1 rfl rfl)
theorem dJ4_compareTo_2_4 : decode cJ4_compareTo_2 4 = .ok (.aload_n 1, 1) := dk_43 (dk_at dksJ4_compareTo_2_0 4 rfl rfl)
theorem dJ4_compareTo_2_5 : decode cJ4_compareTo_2 5 = .ok (.getfield 205, 3) := dk_180 0 205 (dk_at dksJ4_compareTo_2_0 5 rfl rfl)
theorem dJ4_compareTo_2_8 : decode cJ4_compareTo_2 8 = .ok (.invokestatic 259, 3) := dk_184 1 3 (dk_at dksJ4_compareTo_2_0 8 rfl rfl)
theorem dJ4_compareTo_2_11 : decode cJ4_compareTo_2 11 = .ok (.ireturn, 1) := dk_172 (dk_at dksJ4_compareTo_2_0 11 rfl rfl)
abbrev cJ4_compare : ByteArray := prog_30_method_40_code
def yJ4_compare : MethodName := ⟨RJ4, "compare", "(II)I"⟩
def dkwJ4_compare_0 : List UInt8 := [26, 27, 162, 0, 7, 2, 167, 0, 13, 26, 27, 160, 0, 7, 3, 167, 0, 4, 4, 172]
abbrev dktJ4_compare_0 : List UInt8 := dkwJ4_compare_0 ++ []
theorem dksJ4_compare_0 : cJ4_compare.data.toList.drop 0 = dktJ4_compare_0 := by decide +kernel
theorem dJ4_compare_0 : decode cJ4_compare 0 = .ok (.iload_n 0, 1) := dk_26 (dk_at dksJ4_compare_0 0 rfl rfl)
theorem dJ4_compare_1 : decode cJ4_compare 1 = .ok (.iload_n 1, 1) := dk_27 (dk_at dksJ4_compare_0 1 rfl rfl)
theorem dJ4_compare_2 : decode cJ4_compare 2 = .ok (.if_icmp .ge 7, 3) := dk_162 0 7 (dk_at dksJ4_compare_0 2 rfl rfl)
theorem dJ4_compare_5 : decode cJ4_compare 5 = .ok (.iconst (-1), 1) := dk_2 (dk_at dksJ4_compare_0 5 rfl rfl)
theorem dJ4_compare_6 : decode cJ4_compare 6 = .ok (.goto 13, 3) := dk_167 0 13 (dk_at dksJ4_compare_0 6 rfl rfl)
theorem dJ4_compare_9 : decode cJ4_compare 9 = .ok (.iload_n 0, 1) := dk_26 (dk_at dksJ4_compare_0 9 rfl rfl)
theorem dJ4_compare_10 : decode cJ4_compare 10 = .ok (.iload_n 1, 1) := dk_27 (dk_at dksJ4_compare_0 10 rfl rfl)
theorem dJ4_compare_11 : decode cJ4_compare 11 = .ok (.if_icmp .ne 7, 3) := dk_160 0 7 (dk_at dksJ4_compare_0 11 rfl rfl)
theorem dJ4_compare_14 : decode cJ4_compare 14 = .ok (.iconst 0, 1) := dk_3 (dk_at dksJ4_compare_0 14 rfl rfl)
theorem dJ4_compare_15 : decode cJ4_compare 15 = .ok (.goto 4, 3) := dk_167 0 4 (dk_at dksJ4_compare_0 15 rfl rfl)
theorem dJ4_compare_18 : decode cJ4_compare 18 = .ok (.iconst 1, 1) := dk_4 (dk_at dksJ4_compare_0 18 rfl rfl)
theorem dJ4_compare_19 : decode cJ4_compare 19 = .ok (.ireturn, 1) := dk_172 (dk_at dksJ4_compare_0 19 rfl rfl)
abbrev cJ4_numberOfLeadingZeros : ByteArray := prog_30_method_47_code
def yJ4_numberOfLeadingZeros : MethodName := ⟨RJ4, "numberOfLeadingZeros", "(I)I"⟩
def dkwJ4_numberOfLeadingZeros_3 : List UInt8 := [5, 124, 59, 27, 26, 4, 124, 100, 172]
abbrev dktJ4_numberOfLeadingZeros_3 : List UInt8 := dkwJ4_numberOfLeadingZeros_3 ++ []
def dkwJ4_numberOfLeadingZeros_2 : List UInt8 := [124, 59, 26, 16, 16, 161, 0, 10, 132, 1, 252, 26, 7, 124, 59, 26, 7, 161, 0, 10, 132, 1, 254, 26]
abbrev dktJ4_numberOfLeadingZeros_2 : List UInt8 := dkwJ4_numberOfLeadingZeros_2 ++ dktJ4_numberOfLeadingZeros_3
def dkwJ4_numberOfLeadingZeros_1 : List UInt8 := [161, 0, 11, 132, 1, 240, 26, 16, 16, 124, 59, 26, 17, 1, 0, 161, 0, 11, 132, 1, 248, 26, 16, 8]
abbrev dktJ4_numberOfLeadingZeros_1 : List UInt8 := dkwJ4_numberOfLeadingZeros_1 ++ dktJ4_numberOfLeadingZeros_2
def dkwJ4_numberOfLeadingZeros_0 : List UInt8 := [26, 157, 0, 14, 26, 154, 0, 8, 16, 32, 167, 0, 4, 3, 172, 16, 31, 60, 26, 19, 1, 8]
abbrev dktJ4_numberOfLeadingZeros_0 : List UInt8 := dkwJ4_numberOfLeadingZeros_0 ++ dktJ4_numberOfLeadingZeros_1
theorem dksJ4_numberOfLeadingZeros_0 : cJ4_numberOfLeadingZeros.data.toList.drop 0 = dktJ4_numberOfLeadingZeros_0 := by decide +kernel
theorem dksJ4_numberOfLeadingZeros_1 : cJ4_numberOfLeadingZeros.data.toList.drop 22 = dktJ4_numberOfLeadingZeros_1 := dk_seg dksJ4_numberOfLeadingZeros_0 22 rfl rfl
theorem dksJ4_numberOfLeadingZeros_2 : cJ4_numberOfLeadingZeros.data.toList.drop 46 = dktJ4_numberOfLeadingZeros_2 := dk_seg dksJ4_numberOfLeadingZeros_1 24 rfl rfl
theorem dksJ4_numberOfLeadingZeros_3 : cJ4_numberOfLeadingZeros.data.toList.drop 70 = dktJ4_numberOfLeadingZeros_3 := dk_seg dksJ4_numberOfLeadingZeros_2 24 rfl rfl
theorem dJ4_numberOfLeadingZeros_0 : decode cJ4_numberOfLeadingZeros 0 = .ok (.iload_n 0, 1) := dk_26 (dk_at dksJ4_numberOfLeadingZeros_0 0 rfl rfl)
theorem dJ4_numberOfLeadingZeros_1 : decode cJ4_numberOfLeadingZeros 1 = .ok (.ifCond .gt 14, 3) := dk_157 0 14 (dk_at dksJ4_numberOfLeadingZeros_0 1 rfl rfl)
theorem dJ4_numberOfLeadingZeros_4 : decode cJ4_numberOfLeadingZeros 4 = .ok (.iload_n 0, 1) := dk_26 (dk_at dksJ4_numberOfLeadingZeros_0 4 rfl rfl)
theorem dJ4_numberOfLeadingZeros_5 : decode cJ4_numberOfLeadingZeros 5 = .ok (.ifCond .ne 8, 3) := dk_154 0 8 (dk_at dksJ4_numberOfLeadingZeros_0 5 rfl rfl)
theorem dJ4_numberOfLeadingZeros_8 : decode cJ4_numberOfLeadingZeros 8 = .ok (.bipush 32, 2) := dk_16 32 (dk_at dksJ4_numberOfLeadingZeros_0 8 rfl rfl)
theorem dJ4_numberOfLeadingZeros_10 : decode cJ4_numberOfLeadingZeros 10 = .ok (.goto 4, 3) := dk_167 0 4 (dk_at dksJ4_numberOfLeadingZeros_0 10 rfl rfl)
theorem dJ4_numberOfLeadingZeros_13 : decode cJ4_numberOfLeadingZeros 13 = .ok (.iconst 0, 1) := dk_3 (dk_at dksJ4_numberOfLeadingZeros_0 13 rfl rfl)
theorem dJ4_numberOfLeadingZeros_14 : decode cJ4_numberOfLeadingZeros 14 = .ok (.ireturn, 1) := dk_172 (dk_at dksJ4_numberOfLeadingZeros_0 14 rfl rfl)
theorem dJ4_numberOfLeadingZeros_15 : decode cJ4_numberOfLeadingZeros 15 = .ok (.bipush 31, 2) := dk_16 31 (dk_at dksJ4_numberOfLeadingZeros_0 15 rfl rfl)
theorem dJ4_numberOfLeadingZeros_17 : decode cJ4_numberOfLeadingZeros 17 = .ok (.istore_n 1, 1) := dk_60 (dk_at dksJ4_numberOfLeadingZeros_0 17 rfl rfl)
theorem dJ4_numberOfLeadingZeros_18 : decode cJ4_numberOfLeadingZeros 18 = .ok (.iload_n 0, 1) := dk_26 (dk_at dksJ4_numberOfLeadingZeros_0 18 rfl rfl)
theorem dJ4_numberOfLeadingZeros_19 : decode cJ4_numberOfLeadingZeros 19 = .ok (.ldc_w 264, 3) := dk_19 1 8 (dk_at dksJ4_numberOfLeadingZeros_0 19 rfl rfl)
theorem dJ4_numberOfLeadingZeros_22 : decode cJ4_numberOfLeadingZeros 22 = .ok (.if_icmp .lt 11, 3) := dk_161 0 11 (dk_at dksJ4_numberOfLeadingZeros_1 0 rfl rfl)
theorem dJ4_numberOfLeadingZeros_25 : decode cJ4_numberOfLeadingZeros 25 = .ok (.iinc 1 (-16), 3) := dk_132 1 240 (dk_at dksJ4_numberOfLeadingZeros_1 3 rfl rfl)
theorem dJ4_numberOfLeadingZeros_28 : decode cJ4_numberOfLeadingZeros 28 = .ok (.iload_n 0, 1) := dk_26 (dk_at dksJ4_numberOfLeadingZeros_1 6 rfl rfl)
theorem dJ4_numberOfLeadingZeros_29 : decode cJ4_numberOfLeadingZeros 29 = .ok (.bipush 16, 2) := dk_16 16 (dk_at dksJ4_numberOfLeadingZeros_1 7 rfl rfl)
theorem dJ4_numberOfLeadingZeros_31 : decode cJ4_numberOfLeadingZeros 31 = .ok (.iushr, 1) := dk_124 (dk_at dksJ4_numberOfLeadingZeros_1 9 rfl rfl)
theorem dJ4_numberOfLeadingZeros_32 : decode cJ4_numberOfLeadingZeros 32 = .ok (.istore_n 0, 1) := dk_59 (dk_at dksJ4_numberOfLeadingZeros_1 10 rfl rfl)
theorem dJ4_numberOfLeadingZeros_33 : decode cJ4_numberOfLeadingZeros 33 = .ok (.iload_n 0, 1) := dk_26 (dk_at dksJ4_numberOfLeadingZeros_1 11 rfl rfl)
theorem dJ4_numberOfLeadingZeros_34 : decode cJ4_numberOfLeadingZeros 34 = .ok (.sipush 256, 3) := dk_17 1 0 (dk_at dksJ4_numberOfLeadingZeros_1 12 rfl rfl)
theorem dJ4_numberOfLeadingZeros_37 : decode cJ4_numberOfLeadingZeros 37 = .ok (.if_icmp .lt 11, 3) := dk_161 0 11 (dk_at dksJ4_numberOfLeadingZeros_1 15 rfl rfl)
theorem dJ4_numberOfLeadingZeros_40 : decode cJ4_numberOfLeadingZeros 40 = .ok (.iinc 1 (-8), 3) := dk_132 1 248 (dk_at dksJ4_numberOfLeadingZeros_1 18 rfl rfl)
theorem dJ4_numberOfLeadingZeros_43 : decode cJ4_numberOfLeadingZeros 43 = .ok (.iload_n 0, 1) := dk_26 (dk_at dksJ4_numberOfLeadingZeros_1 21 rfl rfl)
theorem dJ4_numberOfLeadingZeros_44 : decode cJ4_numberOfLeadingZeros 44 = .ok (.bipush 8, 2) := dk_16 8 (dk_at dksJ4_numberOfLeadingZeros_1 22 rfl rfl)
theorem dJ4_numberOfLeadingZeros_46 : decode cJ4_numberOfLeadingZeros 46 = .ok (.iushr, 1) := dk_124 (dk_at dksJ4_numberOfLeadingZeros_2 0 rfl rfl)
theorem dJ4_numberOfLeadingZeros_47 : decode cJ4_numberOfLeadingZeros 47 = .ok (.istore_n 0, 1) := dk_59 (dk_at dksJ4_numberOfLeadingZeros_2 1 rfl rfl)
theorem dJ4_numberOfLeadingZeros_48 : decode cJ4_numberOfLeadingZeros 48 = .ok (.iload_n 0, 1) := dk_26 (dk_at dksJ4_numberOfLeadingZeros_2 2 rfl rfl)
theorem dJ4_numberOfLeadingZeros_49 : decode cJ4_numberOfLeadingZeros 49 = .ok (.bipush 16, 2) := dk_16 16 (dk_at dksJ4_numberOfLeadingZeros_2 3 rfl rfl)
theorem dJ4_numberOfLeadingZeros_51 : decode cJ4_numberOfLeadingZeros 51 = .ok (.if_icmp .lt 10, 3) := dk_161 0 10 (dk_at dksJ4_numberOfLeadingZeros_2 5 rfl rfl)
theorem dJ4_numberOfLeadingZeros_54 : decode cJ4_numberOfLeadingZeros 54 = .ok (.iinc 1 (-4), 3) := dk_132 1 252 (dk_at dksJ4_numberOfLeadingZeros_2 8 rfl rfl)
theorem dJ4_numberOfLeadingZeros_57 : decode cJ4_numberOfLeadingZeros 57 = .ok (.iload_n 0, 1) := dk_26 (dk_at dksJ4_numberOfLeadingZeros_2 11 rfl rfl)
theorem dJ4_numberOfLeadingZeros_58 : decode cJ4_numberOfLeadingZeros 58 = .ok (.iconst 4, 1) := dk_7 (dk_at dksJ4_numberOfLeadingZeros_2 12 rfl rfl)
theorem dJ4_numberOfLeadingZeros_59 : decode cJ4_numberOfLeadingZeros 59 = .ok (.iushr, 1) := dk_124 (dk_at dksJ4_numberOfLeadingZeros_2 13 rfl rfl)
theorem dJ4_numberOfLeadingZeros_60 : decode cJ4_numberOfLeadingZeros 60 = .ok (.istore_n 0, 1) := dk_59 (dk_at dksJ4_numberOfLeadingZeros_2 14 rfl rfl)
theorem dJ4_numberOfLeadingZeros_61 : decode cJ4_numberOfLeadingZeros 61 = .ok (.iload_n 0, 1) := dk_26 (dk_at dksJ4_numberOfLeadingZeros_2 15 rfl rfl)
theorem dJ4_numberOfLeadingZeros_62 : decode cJ4_numberOfLeadingZeros 62 = .ok (.iconst 4, 1) := dk_7 (dk_at dksJ4_numberOfLeadingZeros_2 16 rfl rfl)
theorem dJ4_numberOfLeadingZeros_63 : decode cJ4_numberOfLeadingZeros 63 = .ok (.if_icmp .lt 10, 3) := dk_161 0 10 (dk_at dksJ4_numberOfLeadingZeros_2 17 rfl rfl)
theorem dJ4_numberOfLeadingZeros_66 : decode cJ4_numberOfLeadingZeros 66 = .ok (.iinc 1 (-2), 3) := dk_132 1 254 (dk_at dksJ4_numberOfLeadingZeros_2 20 rfl rfl)
theorem dJ4_numberOfLeadingZeros_69 : decode cJ4_numberOfLeadingZeros 69 = .ok (.iload_n 0, 1) := dk_26 (dk_at dksJ4_numberOfLeadingZeros_2 23 rfl rfl)
theorem dJ4_numberOfLeadingZeros_70 : decode cJ4_numberOfLeadingZeros 70 = .ok (.iconst 2, 1) := dk_5 (dk_at dksJ4_numberOfLeadingZeros_3 0 rfl rfl)
theorem dJ4_numberOfLeadingZeros_71 : decode cJ4_numberOfLeadingZeros 71 = .ok (.iushr, 1) := dk_124 (dk_at dksJ4_numberOfLeadingZeros_3 1 rfl rfl)
theorem dJ4_numberOfLeadingZeros_72 : decode cJ4_numberOfLeadingZeros 72 = .ok (.istore_n 0, 1) := dk_59 (dk_at dksJ4_numberOfLeadingZeros_3 2 rfl rfl)
theorem dJ4_numberOfLeadingZeros_73 : decode cJ4_numberOfLeadingZeros 73 = .ok (.iload_n 1, 1) := dk_27 (dk_at dksJ4_numberOfLeadingZeros_3 3 rfl rfl)
theorem dJ4_numberOfLeadingZeros_74 : decode cJ4_numberOfLeadingZeros 74 = .ok (.iload_n 0, 1) := dk_26 (dk_at dksJ4_numberOfLeadingZeros_3 4 rfl rfl)
theorem dJ4_numberOfLeadingZeros_75 : decode cJ4_numberOfLeadingZeros 75 = .ok (.iconst 1, 1) := dk_4 (dk_at dksJ4_numberOfLeadingZeros_3 5 rfl rfl)
theorem dJ4_numberOfLeadingZeros_76 : decode cJ4_numberOfLeadingZeros 76 = .ok (.iushr, 1) := dk_124 (dk_at dksJ4_numberOfLeadingZeros_3 6 rfl rfl)
theorem dJ4_numberOfLeadingZeros_77 : decode cJ4_numberOfLeadingZeros 77 = .ok (.isub, 1) := dk_100 (dk_at dksJ4_numberOfLeadingZeros_3 7 rfl rfl)
theorem dJ4_numberOfLeadingZeros_78 : decode cJ4_numberOfLeadingZeros 78 = .ok (.ireturn, 1) := dk_172 (dk_at dksJ4_numberOfLeadingZeros_3 8 rfl rfl)
abbrev cJ4_numberOfTrailingZeros : ByteArray := prog_30_method_48_code
def yJ4_numberOfTrailingZeros : MethodName := ⟨RJ4, "numberOfTrailingZeros", "(I)I"⟩
def dkwJ4_numberOfTrailingZeros_3 : List UInt8 := [5, 124, 59, 27, 26, 4, 124, 96, 172]
abbrev dktJ4_numberOfTrailingZeros_3 : List UInt8 := dkwJ4_numberOfTrailingZeros_3 ++ []
def dkwJ4_numberOfTrailingZeros_2 : List UInt8 := [124, 59, 26, 16, 16, 164, 0, 10, 132, 1, 4, 26, 7, 124, 59, 26, 7, 164, 0, 10, 132, 1, 2, 26]
abbrev dktJ4_numberOfTrailingZeros_2 : List UInt8 := dkwJ4_numberOfTrailingZeros_2 ++ dktJ4_numberOfTrailingZeros_3
def dkwJ4_numberOfTrailingZeros_1 : List UInt8 := [164, 0, 11, 132, 1, 16, 26, 16, 16, 124, 59, 26, 17, 1, 0, 164, 0, 11, 132, 1, 8, 26, 16, 8]
abbrev dktJ4_numberOfTrailingZeros_1 : List UInt8 := dkwJ4_numberOfTrailingZeros_1 ++ dktJ4_numberOfTrailingZeros_2
def dkwJ4_numberOfTrailingZeros_0 : List UInt8 := [26, 2, 130, 26, 4, 100, 126, 59, 26, 157, 0, 8, 26, 16, 32, 126, 172, 4, 60, 26, 19, 1, 8]
abbrev dktJ4_numberOfTrailingZeros_0 : List UInt8 := dkwJ4_numberOfTrailingZeros_0 ++ dktJ4_numberOfTrailingZeros_1
theorem dksJ4_numberOfTrailingZeros_0 : cJ4_numberOfTrailingZeros.data.toList.drop 0 = dktJ4_numberOfTrailingZeros_0 := by decide +kernel
theorem dksJ4_numberOfTrailingZeros_1 : cJ4_numberOfTrailingZeros.data.toList.drop 23 = dktJ4_numberOfTrailingZeros_1 := dk_seg dksJ4_numberOfTrailingZeros_0 23 rfl rfl
theorem dksJ4_numberOfTrailingZeros_2 : cJ4_numberOfTrailingZeros.data.toList.drop 47 = dktJ4_numberOfTrailingZeros_2 := dk_seg dksJ4_numberOfTrailingZeros_1 24 rfl rfl
theorem dksJ4_numberOfTrailingZeros_3 : cJ4_numberOfTrailingZeros.data.toList.drop 71 = dktJ4_numberOfTrailingZeros_3 := dk_seg dksJ4_numberOfTrailingZeros_2 24 rfl rfl
theorem dJ4_numberOfTrailingZeros_0 : decode cJ4_numberOfTrailingZeros 0 = .ok (.iload_n 0, 1) := dk_26 (dk_at dksJ4_numberOfTrailingZeros_0 0 rfl rfl)
theorem dJ4_numberOfTrailingZeros_1 : decode cJ4_numberOfTrailingZeros 1 = .ok (.iconst (-1), 1) := dk_2 (dk_at dksJ4_numberOfTrailingZeros_0 1 rfl rfl)
theorem dJ4_numberOfTrailingZeros_2 : decode cJ4_numberOfTrailingZeros 2 = .ok (.ixor, 1) := dk_130 (dk_at dksJ4_numberOfTrailingZeros_0 2 rfl rfl)
theorem dJ4_numberOfTrailingZeros_3 : decode cJ4_numberOfTrailingZeros 3 = .ok (.iload_n 0, 1) := dk_26 (dk_at dksJ4_numberOfTrailingZeros_0 3 rfl rfl)
theorem dJ4_numberOfTrailingZeros_4 : decode cJ4_numberOfTrailingZeros 4 = .ok (.iconst 1, 1) := dk_4 (dk_at dksJ4_numberOfTrailingZeros_0 4 rfl rfl)
theorem dJ4_numberOfTrailingZeros_5 : decode cJ4_numberOfTrailingZeros 5 = .ok (.isub, 1) := dk_100 (dk_at dksJ4_numberOfTrailingZeros_0 5 rfl rfl)
theorem dJ4_numberOfTrailingZeros_6 : decode cJ4_numberOfTrailingZeros 6 = .ok (.iand, 1) := dk_126 (dk_at dksJ4_numberOfTrailingZeros_0 6 rfl rfl)
theorem dJ4_numberOfTrailingZeros_7 : decode cJ4_numberOfTrailingZeros 7 = .ok (.istore_n 0, 1) := dk_59 (dk_at dksJ4_numberOfTrailingZeros_0 7 rfl rfl)
theorem dJ4_numberOfTrailingZeros_8 : decode cJ4_numberOfTrailingZeros 8 = .ok (.iload_n 0, 1) := dk_26 (dk_at dksJ4_numberOfTrailingZeros_0 8 rfl rfl)
theorem dJ4_numberOfTrailingZeros_9 : decode cJ4_numberOfTrailingZeros 9 = .ok (.ifCond .gt 8, 3) := dk_157 0 8 (dk_at dksJ4_numberOfTrailingZeros_0 9 rfl rfl)
theorem dJ4_numberOfTrailingZeros_12 : decode cJ4_numberOfTrailingZeros 12 = .ok (.iload_n 0, 1) := dk_26 (dk_at dksJ4_numberOfTrailingZeros_0 12 rfl rfl)
theorem dJ4_numberOfTrailingZeros_13 : decode cJ4_numberOfTrailingZeros 13 = .ok (.bipush 32, 2) := dk_16 32 (dk_at dksJ4_numberOfTrailingZeros_0 13 rfl rfl)
theorem dJ4_numberOfTrailingZeros_15 : decode cJ4_numberOfTrailingZeros 15 = .ok (.iand, 1) := dk_126 (dk_at dksJ4_numberOfTrailingZeros_0 15 rfl rfl)
theorem dJ4_numberOfTrailingZeros_16 : decode cJ4_numberOfTrailingZeros 16 = .ok (.ireturn, 1) := dk_172 (dk_at dksJ4_numberOfTrailingZeros_0 16 rfl rfl)
theorem dJ4_numberOfTrailingZeros_17 : decode cJ4_numberOfTrailingZeros 17 = .ok (.iconst 1, 1) := dk_4 (dk_at dksJ4_numberOfTrailingZeros_0 17 rfl rfl)
theorem dJ4_numberOfTrailingZeros_18 : decode cJ4_numberOfTrailingZeros 18 = .ok (.istore_n 1, 1) := dk_60 (dk_at dksJ4_numberOfTrailingZeros_0 18 rfl rfl)
theorem dJ4_numberOfTrailingZeros_19 : decode cJ4_numberOfTrailingZeros 19 = .ok (.iload_n 0, 1) := dk_26 (dk_at dksJ4_numberOfTrailingZeros_0 19 rfl rfl)
theorem dJ4_numberOfTrailingZeros_20 : decode cJ4_numberOfTrailingZeros 20 = .ok (.ldc_w 264, 3) := dk_19 1 8 (dk_at dksJ4_numberOfTrailingZeros_0 20 rfl rfl)
theorem dJ4_numberOfTrailingZeros_23 : decode cJ4_numberOfTrailingZeros 23 = .ok (.if_icmp .le 11, 3) := dk_164 0 11 (dk_at dksJ4_numberOfTrailingZeros_1 0 rfl rfl)
theorem dJ4_numberOfTrailingZeros_26 : decode cJ4_numberOfTrailingZeros 26 = .ok (.iinc 1 16, 3) := dk_132 1 16 (dk_at dksJ4_numberOfTrailingZeros_1 3 rfl rfl)
theorem dJ4_numberOfTrailingZeros_29 : decode cJ4_numberOfTrailingZeros 29 = .ok (.iload_n 0, 1) := dk_26 (dk_at dksJ4_numberOfTrailingZeros_1 6 rfl rfl)
theorem dJ4_numberOfTrailingZeros_30 : decode cJ4_numberOfTrailingZeros 30 = .ok (.bipush 16, 2) := dk_16 16 (dk_at dksJ4_numberOfTrailingZeros_1 7 rfl rfl)
theorem dJ4_numberOfTrailingZeros_32 : decode cJ4_numberOfTrailingZeros 32 = .ok (.iushr, 1) := dk_124 (dk_at dksJ4_numberOfTrailingZeros_1 9 rfl rfl)
theorem dJ4_numberOfTrailingZeros_33 : decode cJ4_numberOfTrailingZeros 33 = .ok (.istore_n 0, 1) := dk_59 (dk_at dksJ4_numberOfTrailingZeros_1 10 rfl rfl)
theorem dJ4_numberOfTrailingZeros_34 : decode cJ4_numberOfTrailingZeros 34 = .ok (.iload_n 0, 1) := dk_26 (dk_at dksJ4_numberOfTrailingZeros_1 11 rfl rfl)
theorem dJ4_numberOfTrailingZeros_35 : decode cJ4_numberOfTrailingZeros 35 = .ok (.sipush 256, 3) := dk_17 1 0 (dk_at dksJ4_numberOfTrailingZeros_1 12 rfl rfl)
theorem dJ4_numberOfTrailingZeros_38 : decode cJ4_numberOfTrailingZeros 38 = .ok (.if_icmp .le 11, 3) := dk_164 0 11 (dk_at dksJ4_numberOfTrailingZeros_1 15 rfl rfl)
theorem dJ4_numberOfTrailingZeros_41 : decode cJ4_numberOfTrailingZeros 41 = .ok (.iinc 1 8, 3) := dk_132 1 8 (dk_at dksJ4_numberOfTrailingZeros_1 18 rfl rfl)
theorem dJ4_numberOfTrailingZeros_44 : decode cJ4_numberOfTrailingZeros 44 = .ok (.iload_n 0, 1) := dk_26 (dk_at dksJ4_numberOfTrailingZeros_1 21 rfl rfl)
theorem dJ4_numberOfTrailingZeros_45 : decode cJ4_numberOfTrailingZeros 45 = .ok (.bipush 8, 2) := dk_16 8 (dk_at dksJ4_numberOfTrailingZeros_1 22 rfl rfl)
theorem dJ4_numberOfTrailingZeros_47 : decode cJ4_numberOfTrailingZeros 47 = .ok (.iushr, 1) := dk_124 (dk_at dksJ4_numberOfTrailingZeros_2 0 rfl rfl)
theorem dJ4_numberOfTrailingZeros_48 : decode cJ4_numberOfTrailingZeros 48 = .ok (.istore_n 0, 1) := dk_59 (dk_at dksJ4_numberOfTrailingZeros_2 1 rfl rfl)
theorem dJ4_numberOfTrailingZeros_49 : decode cJ4_numberOfTrailingZeros 49 = .ok (.iload_n 0, 1) := dk_26 (dk_at dksJ4_numberOfTrailingZeros_2 2 rfl rfl)
theorem dJ4_numberOfTrailingZeros_50 : decode cJ4_numberOfTrailingZeros 50 = .ok (.bipush 16, 2) := dk_16 16 (dk_at dksJ4_numberOfTrailingZeros_2 3 rfl rfl)
theorem dJ4_numberOfTrailingZeros_52 : decode cJ4_numberOfTrailingZeros 52 = .ok (.if_icmp .le 10, 3) := dk_164 0 10 (dk_at dksJ4_numberOfTrailingZeros_2 5 rfl rfl)
theorem dJ4_numberOfTrailingZeros_55 : decode cJ4_numberOfTrailingZeros 55 = .ok (.iinc 1 4, 3) := dk_132 1 4 (dk_at dksJ4_numberOfTrailingZeros_2 8 rfl rfl)
theorem dJ4_numberOfTrailingZeros_58 : decode cJ4_numberOfTrailingZeros 58 = .ok (.iload_n 0, 1) := dk_26 (dk_at dksJ4_numberOfTrailingZeros_2 11 rfl rfl)
theorem dJ4_numberOfTrailingZeros_59 : decode cJ4_numberOfTrailingZeros 59 = .ok (.iconst 4, 1) := dk_7 (dk_at dksJ4_numberOfTrailingZeros_2 12 rfl rfl)
theorem dJ4_numberOfTrailingZeros_60 : decode cJ4_numberOfTrailingZeros 60 = .ok (.iushr, 1) := dk_124 (dk_at dksJ4_numberOfTrailingZeros_2 13 rfl rfl)
theorem dJ4_numberOfTrailingZeros_61 : decode cJ4_numberOfTrailingZeros 61 = .ok (.istore_n 0, 1) := dk_59 (dk_at dksJ4_numberOfTrailingZeros_2 14 rfl rfl)
theorem dJ4_numberOfTrailingZeros_62 : decode cJ4_numberOfTrailingZeros 62 = .ok (.iload_n 0, 1) := dk_26 (dk_at dksJ4_numberOfTrailingZeros_2 15 rfl rfl)
theorem dJ4_numberOfTrailingZeros_63 : decode cJ4_numberOfTrailingZeros 63 = .ok (.iconst 4, 1) := dk_7 (dk_at dksJ4_numberOfTrailingZeros_2 16 rfl rfl)
theorem dJ4_numberOfTrailingZeros_64 : decode cJ4_numberOfTrailingZeros 64 = .ok (.if_icmp .le 10, 3) := dk_164 0 10 (dk_at dksJ4_numberOfTrailingZeros_2 17 rfl rfl)
theorem dJ4_numberOfTrailingZeros_67 : decode cJ4_numberOfTrailingZeros 67 = .ok (.iinc 1 2, 3) := dk_132 1 2 (dk_at dksJ4_numberOfTrailingZeros_2 20 rfl rfl)
theorem dJ4_numberOfTrailingZeros_70 : decode cJ4_numberOfTrailingZeros 70 = .ok (.iload_n 0, 1) := dk_26 (dk_at dksJ4_numberOfTrailingZeros_2 23 rfl rfl)
theorem dJ4_numberOfTrailingZeros_71 : decode cJ4_numberOfTrailingZeros 71 = .ok (.iconst 2, 1) := dk_5 (dk_at dksJ4_numberOfTrailingZeros_3 0 rfl rfl)
theorem dJ4_numberOfTrailingZeros_72 : decode cJ4_numberOfTrailingZeros 72 = .ok (.iushr, 1) := dk_124 (dk_at dksJ4_numberOfTrailingZeros_3 1 rfl rfl)
theorem dJ4_numberOfTrailingZeros_73 : decode cJ4_numberOfTrailingZeros 73 = .ok (.istore_n 0, 1) := dk_59 (dk_at dksJ4_numberOfTrailingZeros_3 2 rfl rfl)
theorem dJ4_numberOfTrailingZeros_74 : decode cJ4_numberOfTrailingZeros 74 = .ok (.iload_n 1, 1) := dk_27 (dk_at dksJ4_numberOfTrailingZeros_3 3 rfl rfl)
theorem dJ4_numberOfTrailingZeros_75 : decode cJ4_numberOfTrailingZeros 75 = .ok (.iload_n 0, 1) := dk_26 (dk_at dksJ4_numberOfTrailingZeros_3 4 rfl rfl)
theorem dJ4_numberOfTrailingZeros_76 : decode cJ4_numberOfTrailingZeros 76 = .ok (.iconst 1, 1) := dk_4 (dk_at dksJ4_numberOfTrailingZeros_3 5 rfl rfl)
theorem dJ4_numberOfTrailingZeros_77 : decode cJ4_numberOfTrailingZeros 77 = .ok (.iushr, 1) := dk_124 (dk_at dksJ4_numberOfTrailingZeros_3 6 rfl rfl)
theorem dJ4_numberOfTrailingZeros_78 : decode cJ4_numberOfTrailingZeros 78 = .ok (.iadd, 1) := dk_96 (dk_at dksJ4_numberOfTrailingZeros_3 7 rfl rfl)
theorem dJ4_numberOfTrailingZeros_79 : decode cJ4_numberOfTrailingZeros 79 = .ok (.ireturn, 1) := dk_172 (dk_at dksJ4_numberOfTrailingZeros_3 8 rfl rfl)
theorem q140 : (Jvm.Cond.initialized "java/lang/Integer") ∈ lw_all := lw_g (lw_at lw_m1 6 rfl) rfl
theorem q227 : (Jvm.Cond.static ({ cls := "java/lang/Integer", name := "valueOf", desc := "(I)Ljava/lang/Integer;" } : Jvm.MethodName)) ∈ lw_all := lw_g (lw_at lw_m1 93 rfl) rfl
theorem q228 : (Jvm.Cond.code ({ cls := "java/lang/Integer", name := "valueOf", desc := "(I)Ljava/lang/Integer;" } : Jvm.MethodName) prog_30_method_22_code (1 : Nat) (Option.some (Jvm.ClassFile.FieldType.object "java/lang/Integer"))) ∈ lw_all := lw_g (lw_at lw_m1 94 rfl) rfl
theorem q229 : (Jvm.Cond.fieldLink "java/lang/Integer" (191 : Nat) "java/lang/Integer$IntegerCache" "high" "I") ∈ lw_all := lw_g (lw_at lw_m1 95 rfl) rfl
theorem q231 : (Jvm.Cond.fieldLink "java/lang/Integer" (195 : Nat) "java/lang/Integer$IntegerCache" "cache" "[Ljava/lang/Integer;") ∈ lw_all := lw_g (lw_at lw_m1 97 rfl) rfl
theorem q233 : (Jvm.Cond.classLink "java/lang/Integer" (1 : Nat) "java/lang/Integer") ∈ lw_all := lw_g (lw_at lw_m1 99 rfl) rfl
theorem q234 : (Jvm.Cond.instantiable "java/lang/Integer" (1 : Nat)) ∈ lw_all := lw_g (lw_at lw_m1 100 rfl) rfl
theorem q235 : (Jvm.Cond.methodLink "java/lang/Integer" (199 : Nat) ({ cls := "java/lang/Integer", name := "<init>", desc := "(I)V" } : Jvm.MethodName)) ∈ lw_all := lw_g (lw_at lw_m1 101 rfl) rfl
theorem q236 : (Jvm.Cond.instanceMethod ({ cls := "java/lang/Integer", name := "<init>", desc := "(I)V" } : Jvm.MethodName)) ∈ lw_all := lw_g (lw_at lw_m1 102 rfl) rfl
theorem q237 : (Jvm.Cond.code ({ cls := "java/lang/Integer", name := "<init>", desc := "(I)V" } : Jvm.MethodName) prog_30_method_23_code (2 : Nat) (Option.none : Option Jvm.ClassFile.FieldType)) ∈ lw_all := lw_g (lw_at lw_m1 103 rfl) rfl
theorem q238 : (Jvm.Cond.methodLink "java/lang/Integer" (202 : Nat) ({ cls := "java/lang/Number", name := "<init>", desc := "()V" } : Jvm.MethodName)) ∈ lw_all := lw_g (lw_at lw_m1 104 rfl) rfl
theorem q242 : (Jvm.Cond.fieldLink "java/lang/Integer" (205 : Nat) "java/lang/Integer" "value" "I") ∈ lw_all := lw_g (lw_at lw_m1 108 rfl) rfl
theorem q243 : (Jvm.Cond.laysFinal "java/lang/Integer" "java/lang/Integer" "value" "I") ∈ lw_all := lw_g (lw_at lw_m1 109 rfl) rfl
theorem q244 : (Jvm.Cond.soleField "java/lang/Integer" "value") ∈ lw_all := lw_g (lw_at lw_m1 110 rfl) rfl
theorem q245 : (Jvm.Cond.superclass "java/lang/Integer" "java/lang/Number") ∈ lw_all := lw_g (lw_at lw_m1 111 rfl) rfl
theorem q303 : (Jvm.Cond.selects "java/lang/Integer" ({ cls := "java/lang/Object", name := "getClass", desc := "()Ljava/lang/Class;" } : Jvm.MethodName) ({ cls := "java/lang/Object", name := "getClass", desc := "()Ljava/lang/Class;" } : Jvm.MethodName)) ∈ lw_all := lw_g (lw_at lw_m1 169 rfl) rfl
theorem q533 : (Jvm.Cond.static ({ cls := "java/lang/Integer", name := "stringSize", desc := "(I)I" } : Jvm.MethodName)) ∈ lw_all := lw_g (lw_at lw_m2 159 rfl) rfl
theorem q534 : (Jvm.Cond.code ({ cls := "java/lang/Integer", name := "stringSize", desc := "(I)I" } : Jvm.MethodName) prog_30_method_13_code (4 : Nat) (Option.some Jvm.ClassFile.FieldType.int)) ∈ lw_all := lw_g (lw_at lw_m2 160 rfl) rfl
theorem q536 : (Jvm.Cond.static ({ cls := "java/lang/Integer", name := "getChars", desc := "(II[B)I" } : Jvm.MethodName)) ∈ lw_all := lw_g (lw_at lw_m2 162 rfl) rfl
theorem q537 : (Jvm.Cond.code ({ cls := "java/lang/Integer", name := "getChars", desc := "(II[B)I" } : Jvm.MethodName) prog_30_method_12_code (7 : Nat) (Option.some Jvm.ClassFile.FieldType.int)) ∈ lw_all := lw_g (lw_at lw_m2 163 rfl) rfl
theorem q538 : (Jvm.Cond.fieldLink "java/lang/Integer" (83 : Nat) "java/lang/Integer" "DigitOnes" "[B") ∈ lw_all := lw_g (lw_at lw_m2 164 rfl) rfl
theorem q539 : (Jvm.Cond.laysStatic "java/lang/Integer" "DigitOnes" "[B") ∈ lw_tbl := lw_at lw_m2 165 rfl
theorem q540 : (Jvm.Cond.fieldLink "java/lang/Integer" (87 : Nat) "java/lang/Integer" "DigitTens" "[B") ∈ lw_all := lw_g (lw_at lw_m2 166 rfl) rfl
theorem q541 : (Jvm.Cond.laysStatic "java/lang/Integer" "DigitTens" "[B") ∈ lw_tbl := lw_at lw_m2 167 rfl
theorem q693 : (Jvm.Cond.instanceMethod ({ cls := "java/lang/Integer", name := "intValue", desc := "()I" } : Jvm.MethodName)) ∈ lw_all := lw_g (lw_at lw_m3 79 rfl) rfl
theorem q694 : (Jvm.Cond.selects "java/lang/Integer" ({ cls := "java/lang/Integer", name := "intValue", desc := "()I" } : Jvm.MethodName) ({ cls := "java/lang/Integer", name := "intValue", desc := "()I" } : Jvm.MethodName)) ∈ lw_all := lw_g (lw_at lw_m3 80 rfl) rfl
theorem q695 : (Jvm.Cond.code ({ cls := "java/lang/Integer", name := "intValue", desc := "()I" } : Jvm.MethodName) prog_30_method_27_code (1 : Nat) (Option.some Jvm.ClassFile.FieldType.int)) ∈ lw_all := lw_g (lw_at lw_m3 81 rfl) rfl
theorem q1976 : (Jvm.Cond.castable "java/lang/Integer" "java/lang/Comparable") ∈ lw_tbl := lw_at lw_m8 162 rfl
theorem q1977 : (Jvm.Cond.selects "java/lang/Integer" ({ cls := "java/lang/Comparable", name := "compareTo", desc := "(Ljava/lang/Object;)I" } : Jvm.MethodName) ({ cls := "java/lang/Integer", name := "compareTo", desc := "(Ljava/lang/Object;)I" } : Jvm.MethodName)) ∈ lw_all := lw_g (lw_at lw_m8 163 rfl) rfl
theorem q1978 : (Jvm.Cond.unhidden "java/lang/Integer" "compareTo" "(Ljava/lang/Object;)I") ∈ lw_tbl := lw_at lw_m8 164 rfl
theorem q1979 : (Jvm.Cond.instanceMethod ({ cls := "java/lang/Integer", name := "compareTo", desc := "(Ljava/lang/Object;)I" } : Jvm.MethodName)) ∈ lw_all := lw_g (lw_at lw_m8 165 rfl) rfl
theorem q1980 : (Jvm.Cond.publicMethod ({ cls := "java/lang/Integer", name := "compareTo", desc := "(Ljava/lang/Object;)I" } : Jvm.MethodName)) ∈ lw_tbl := lw_at lw_m8 166 rfl
theorem q1981 : (Jvm.Cond.code ({ cls := "java/lang/Integer", name := "compareTo", desc := "(Ljava/lang/Object;)I" } : Jvm.MethodName) prog_30_method_63_code (2 : Nat) (Option.some Jvm.ClassFile.FieldType.int)) ∈ lw_all := lw_g (lw_at lw_m8 167 rfl) rfl
theorem q1982 : (Jvm.Cond.methodLink "java/lang/Integer" (284 : Nat) ({ cls := "java/lang/Integer", name := "compareTo", desc := "(Ljava/lang/Integer;)I" } : Jvm.MethodName)) ∈ lw_all := lw_g (lw_at lw_m8 168 rfl) rfl
theorem q1983 : (Jvm.Cond.instanceMethod ({ cls := "java/lang/Integer", name := "compareTo", desc := "(Ljava/lang/Integer;)I" } : Jvm.MethodName)) ∈ lw_all := lw_g (lw_at lw_m8 169 rfl) rfl
theorem q1984 : (Jvm.Cond.selects "java/lang/Integer" ({ cls := "java/lang/Integer", name := "compareTo", desc := "(Ljava/lang/Integer;)I" } : Jvm.MethodName) ({ cls := "java/lang/Integer", name := "compareTo", desc := "(Ljava/lang/Integer;)I" } : Jvm.MethodName)) ∈ lw_all := lw_g (lw_at lw_m8 170 rfl) rfl
theorem q1985 : (Jvm.Cond.code ({ cls := "java/lang/Integer", name := "compareTo", desc := "(Ljava/lang/Integer;)I" } : Jvm.MethodName) prog_30_method_39_code (2 : Nat) (Option.some Jvm.ClassFile.FieldType.int)) ∈ lw_all := lw_g (lw_at lw_m8 171 rfl) rfl
theorem q1986 : (Jvm.Cond.methodLink "java/lang/Integer" (259 : Nat) ({ cls := "java/lang/Integer", name := "compare", desc := "(II)I" } : Jvm.MethodName)) ∈ lw_all := lw_g (lw_at lw_m8 172 rfl) rfl
theorem q1987 : (Jvm.Cond.static ({ cls := "java/lang/Integer", name := "compare", desc := "(II)I" } : Jvm.MethodName)) ∈ lw_all := lw_g (lw_at lw_m8 173 rfl) rfl
theorem q1988 : (Jvm.Cond.code ({ cls := "java/lang/Integer", name := "compare", desc := "(II)I" } : Jvm.MethodName) prog_30_method_40_code (2 : Nat) (Option.some Jvm.ClassFile.FieldType.int)) ∈ lw_all := lw_g (lw_at lw_m8 174 rfl) rfl
theorem q2078 : (Jvm.Cond.static ({ cls := "java/lang/Integer", name := "numberOfLeadingZeros", desc := "(I)I" } : Jvm.MethodName)) ∈ lw_all := lw_g (lw_at lw_m9 24 rfl) rfl
theorem q2079 : (Jvm.Cond.code ({ cls := "java/lang/Integer", name := "numberOfLeadingZeros", desc := "(I)I" } : Jvm.MethodName) prog_30_method_47_code (2 : Nat) (Option.some Jvm.ClassFile.FieldType.int)) ∈ lw_all := lw_g (lw_at lw_m9 25 rfl) rfl
theorem q2080 : (Jvm.Cond.constant "java/lang/Integer" (264 : Nat) (65536 : Int32)) ∈ lw_all := lw_g (lw_at lw_m9 26 rfl) rfl
theorem q2087 : (Jvm.Cond.static ({ cls := "java/lang/Integer", name := "numberOfTrailingZeros", desc := "(I)I" } : Jvm.MethodName)) ∈ lw_all := lw_g (lw_at lw_m9 33 rfl) rfl
theorem q2088 : (Jvm.Cond.code ({ cls := "java/lang/Integer", name := "numberOfTrailingZeros", desc := "(I)I" } : Jvm.MethodName) prog_30_method_48_code (2 : Nat) (Option.some Jvm.ClassFile.FieldType.int)) ∈ lw_all := lw_g (lw_at lw_m9 34 rfl) rfl
theorem q3136 : (Jvm.Cond.castable "java/lang/Integer" "java/lang/Object") ∈ lw_tbl := lw_at lw_m13 122 rfl
theorem in_J4 : ∀ w ∈ wsJ40, w ∈ lw_all := lw_in wsJ40 [243] (by decide +kernel) (by decide +kernel)
/-! java/lang/Math -/
set_option maxRecDepth 100000
def RJ6 : String := "java/lang/Math"
abbrev cJ6_max : ByteArray := prog_34_method_65_code
def yJ6_max : MethodName := ⟨RJ6, "max", "(II)I"⟩
def dkwJ6_max_0 : List UInt8 := [26, 27, 161, 0, 7, 26, 167, 0, 4, 27, 172]
abbrev dktJ6_max_0 : List UInt8 := dkwJ6_max_0 ++ []
theorem dksJ6_max_0 : cJ6_max.data.toList.drop 0 = dktJ6_max_0 := by decide +kernel
theorem dJ6_max_0 : decode cJ6_max 0 = .ok (.iload_n 0, 1) := dk_26 (dk_at dksJ6_max_0 0 rfl rfl)
theorem dJ6_max_1 : decode cJ6_max 1 = .ok (.iload_n 1, 1) := dk_27 (dk_at dksJ6_max_0 1 rfl rfl)
theorem dJ6_max_2 : decode cJ6_max 2 = .ok (.if_icmp .lt 7, 3) := dk_161 0 7 (dk_at dksJ6_max_0 2 rfl rfl)
theorem dJ6_max_5 : decode cJ6_max 5 = .ok (.iload_n 0, 1) := dk_26 (dk_at dksJ6_max_0 5 rfl rfl)
theorem dJ6_max_6 : decode cJ6_max 6 = .ok (.goto 4, 3) := dk_167 0 4 (dk_at dksJ6_max_0 6 rfl rfl)
theorem dJ6_max_9 : decode cJ6_max 9 = .ok (.iload_n 1, 1) := dk_27 (dk_at dksJ6_max_0 9 rfl rfl)
theorem dJ6_max_10 : decode cJ6_max 10 = .ok (.ireturn, 1) := dk_172 (dk_at dksJ6_max_0 10 rfl rfl)
abbrev cJ6_min : ByteArray := prog_34_method_69_code
def yJ6_min : MethodName := ⟨RJ6, "min", "(II)I"⟩
def dkwJ6_min_0 : List UInt8 := [26, 27, 163, 0, 7, 26, 167, 0, 4, 27, 172]
abbrev dktJ6_min_0 : List UInt8 := dkwJ6_min_0 ++ []
theorem dksJ6_min_0 : cJ6_min.data.toList.drop 0 = dktJ6_min_0 := by decide +kernel
theorem dJ6_min_0 : decode cJ6_min 0 = .ok (.iload_n 0, 1) := dk_26 (dk_at dksJ6_min_0 0 rfl rfl)
theorem dJ6_min_1 : decode cJ6_min 1 = .ok (.iload_n 1, 1) := dk_27 (dk_at dksJ6_min_0 1 rfl rfl)
theorem dJ6_min_2 : decode cJ6_min 2 = .ok (.if_icmp .gt 7, 3) := dk_163 0 7 (dk_at dksJ6_min_0 2 rfl rfl)
theorem dJ6_min_5 : decode cJ6_min 5 = .ok (.iload_n 0, 1) := dk_26 (dk_at dksJ6_min_0 5 rfl rfl)
theorem dJ6_min_6 : decode cJ6_min 6 = .ok (.goto 4, 3) := dk_167 0 4 (dk_at dksJ6_min_0 6 rfl rfl)
theorem dJ6_min_9 : decode cJ6_min 9 = .ok (.iload_n 1, 1) := dk_27 (dk_at dksJ6_min_0 9 rfl rfl)
theorem dJ6_min_10 : decode cJ6_min 10 = .ok (.ireturn, 1) := dk_172 (dk_at dksJ6_min_0 10 rfl rfl)
abbrev cJ6_abs : ByteArray := prog_34_method_59_code
def yJ6_abs : MethodName := ⟨RJ6, "abs", "(I)I"⟩
def dkwJ6_abs_0 : List UInt8 := [26, 156, 0, 8, 26, 116, 167, 0, 4, 26, 172]
abbrev dktJ6_abs_0 : List UInt8 := dkwJ6_abs_0 ++ []
theorem dksJ6_abs_0 : cJ6_abs.data.toList.drop 0 = dktJ6_abs_0 := by decide +kernel
theorem dJ6_abs_0 : decode cJ6_abs 0 = .ok (.iload_n 0, 1) := dk_26 (dk_at dksJ6_abs_0 0 rfl rfl)
theorem dJ6_abs_1 : decode cJ6_abs 1 = .ok (.ifCond .ge 8, 3) := dk_156 0 8 (dk_at dksJ6_abs_0 1 rfl rfl)
theorem dJ6_abs_4 : decode cJ6_abs 4 = .ok (.iload_n 0, 1) := dk_26 (dk_at dksJ6_abs_0 4 rfl rfl)
theorem dJ6_abs_5 : decode cJ6_abs 5 = .ok (.ineg, 1) := dk_116 (dk_at dksJ6_abs_0 5 rfl rfl)
theorem dJ6_abs_6 : decode cJ6_abs 6 = .ok (.goto 4, 3) := dk_167 0 4 (dk_at dksJ6_abs_0 6 rfl rfl)
theorem dJ6_abs_9 : decode cJ6_abs 9 = .ok (.iload_n 0, 1) := dk_26 (dk_at dksJ6_abs_0 9 rfl rfl)
theorem dJ6_abs_10 : decode cJ6_abs 10 = .ok (.ireturn, 1) := dk_172 (dk_at dksJ6_abs_0 10 rfl rfl)
theorem q143 : (Jvm.Cond.initialized "java/lang/Math") ∈ lw_all := lw_g (lw_at lw_m1 9 rfl) rfl
theorem q272 : (Jvm.Cond.static ({ cls := "java/lang/Math", name := "max", desc := "(II)I" } : Jvm.MethodName)) ∈ lw_all := lw_g (lw_at lw_m1 138 rfl) rfl
theorem q273 : (Jvm.Cond.code ({ cls := "java/lang/Math", name := "max", desc := "(II)I" } : Jvm.MethodName) prog_34_method_65_code (2 : Nat) (Option.some Jvm.ClassFile.FieldType.int)) ∈ lw_all := lw_g (lw_at lw_m1 139 rfl) rfl
theorem q322 : (Jvm.Cond.static ({ cls := "java/lang/Math", name := "min", desc := "(II)I" } : Jvm.MethodName)) ∈ lw_all := lw_g (lw_at lw_m1 188 rfl) rfl
theorem q323 : (Jvm.Cond.code ({ cls := "java/lang/Math", name := "min", desc := "(II)I" } : Jvm.MethodName) prog_34_method_69_code (2 : Nat) (Option.some Jvm.ClassFile.FieldType.int)) ∈ lw_all := lw_g (lw_at lw_m1 189 rfl) rfl
theorem q2257 : (Jvm.Cond.static ({ cls := "java/lang/Math", name := "abs", desc := "(I)I" } : Jvm.MethodName)) ∈ lw_all := lw_g (lw_at lw_m9 203 rfl) rfl
theorem q2258 : (Jvm.Cond.code ({ cls := "java/lang/Math", name := "abs", desc := "(I)I" } : Jvm.MethodName) prog_34_method_59_code (1 : Nat) (Option.some Jvm.ClassFile.FieldType.int)) ∈ lw_all := lw_g (lw_at lw_m9 204 rfl) rfl
/-! java/util/Arrays -/
set_option maxRecDepth 100000
def RJ7 : String := "java/util/Arrays"
abbrev cJ7_copyOf : ByteArray := prog_52_method_119_code
def yJ7_copyOf : MethodName := ⟨RJ7, "copyOf", "([Ljava/lang/Object;I)[Ljava/lang/Object;"⟩
def dkwJ7_copyOf_0 : List UInt8 := [42, 27, 42, 182, 0, 86, 184, 1, 44, 176]
abbrev dktJ7_copyOf_0 : List UInt8 := dkwJ7_copyOf_0 ++ []
theorem dksJ7_copyOf_0 : cJ7_copyOf.data.toList.drop 0 = dktJ7_copyOf_0 := by decide +kernel
theorem dJ7_copyOf_0 : decode cJ7_copyOf 0 = .ok (.aload_n 0, 1) := dk_42 (dk_at dksJ7_copyOf_0 0 rfl rfl)
theorem dJ7_copyOf_1 : decode cJ7_copyOf 1 = .ok (.iload_n 1, 1) := dk_27 (dk_at dksJ7_copyOf_0 1 rfl rfl)
theorem dJ7_copyOf_2 : decode cJ7_copyOf 2 = .ok (.aload_n 0, 1) := dk_42 (dk_at dksJ7_copyOf_0 2 rfl rfl)
theorem dJ7_copyOf_3 : decode cJ7_copyOf 3 = .ok (.invokevirtual 86, 3) := dk_182 0 86 (dk_at dksJ7_copyOf_0 3 rfl rfl)
theorem dJ7_copyOf_6 : decode cJ7_copyOf 6 = .ok (.invokestatic 300, 3) := dk_184 1 44 (dk_at dksJ7_copyOf_0 6 rfl rfl)
theorem dJ7_copyOf_9 : decode cJ7_copyOf 9 = .ok (.areturn, 1) := dk_176 (dk_at dksJ7_copyOf_0 9 rfl rfl)
abbrev cJ7_copyOf_2 : ByteArray := prog_52_method_120_code
def yJ7_copyOf_2 : MethodName := ⟨RJ7, "copyOf", "([Ljava/lang/Object;ILjava/lang/Class;)[Ljava/lang/Object;"⟩
def dkwJ7_copyOf_2_1 : List UInt8 := [78, 42, 3, 45, 3, 42, 190, 27, 184, 1, 48, 184, 0, 150, 45, 176]
abbrev dktJ7_copyOf_2_1 : List UInt8 := dkwJ7_copyOf_2_1 ++ []
def dkwJ7_copyOf_2_0 : List UInt8 := [44, 18, 110, 166, 0, 10, 27, 189, 0, 2, 167, 0, 14, 44, 182, 0, 90, 27, 184, 0, 95, 192, 0, 110]
abbrev dktJ7_copyOf_2_0 : List UInt8 := dkwJ7_copyOf_2_0 ++ dktJ7_copyOf_2_1
theorem dksJ7_copyOf_2_0 : cJ7_copyOf_2.data.toList.drop 0 = dktJ7_copyOf_2_0 := by decide +kernel
theorem dksJ7_copyOf_2_1 : cJ7_copyOf_2.data.toList.drop 24 = dktJ7_copyOf_2_1 := dk_seg dksJ7_copyOf_2_0 24 rfl rfl
theorem dJ7_copyOf_2_0 : decode cJ7_copyOf_2 0 = .ok (.aload_n 2, 1) := dk_44 (dk_at dksJ7_copyOf_2_0 0 rfl rfl)
theorem dJ7_copyOf_2_1 : decode cJ7_copyOf_2 1 = .ok (.ldc 110, 2) := dk_18 110 (dk_at dksJ7_copyOf_2_0 1 rfl rfl)
theorem dJ7_copyOf_2_3 : decode cJ7_copyOf_2 3 = .ok (.if_acmp .ne 10, 3) := dk_166 0 10 (dk_at dksJ7_copyOf_2_0 3 rfl rfl)
theorem dJ7_copyOf_2_6 : decode cJ7_copyOf_2 6 = .ok (.iload_n 1, 1) := dk_27 (dk_at dksJ7_copyOf_2_0 6 rfl rfl)
theorem dJ7_copyOf_2_7 : decode cJ7_copyOf_2 7 = .ok (.anewarray 2, 3) := dk_189 0 2 (dk_at dksJ7_copyOf_2_0 7 rfl rfl)
theorem dJ7_copyOf_2_10 : decode cJ7_copyOf_2 10 = .ok (.goto 14, 3) := dk_167 0 14 (dk_at dksJ7_copyOf_2_0 10 rfl rfl)
theorem dJ7_copyOf_2_13 : decode cJ7_copyOf_2 13 = .ok (.aload_n 2, 1) := dk_44 (dk_at dksJ7_copyOf_2_0 13 rfl rfl)
theorem dJ7_copyOf_2_14 : decode cJ7_copyOf_2 14 = .ok (.invokevirtual 90, 3) := dk_182 0 90 (dk_at dksJ7_copyOf_2_0 14 rfl rfl)
theorem dJ7_copyOf_2_17 : decode cJ7_copyOf_2 17 = .ok (.iload_n 1, 1) := dk_27 (dk_at dksJ7_copyOf_2_0 17 rfl rfl)
theorem dJ7_copyOf_2_18 : decode cJ7_copyOf_2 18 = .ok (.invokestatic 95, 3) := dk_184 0 95 (dk_at dksJ7_copyOf_2_0 18 rfl rfl)
theorem dJ7_copyOf_2_21 : decode cJ7_copyOf_2 21 = .ok (.checkcast 110, 3) := dk_192 0 110 (dk_at dksJ7_copyOf_2_0 21 rfl rfl)
theorem dJ7_copyOf_2_24 : decode cJ7_copyOf_2 24 = .ok (.astore_n 3, 1) := dk_78 (dk_at dksJ7_copyOf_2_1 0 rfl rfl)
theorem dJ7_copyOf_2_25 : decode cJ7_copyOf_2 25 = .ok (.aload_n 0, 1) := dk_42 (dk_at dksJ7_copyOf_2_1 1 rfl rfl)
theorem dJ7_copyOf_2_26 : decode cJ7_copyOf_2 26 = .ok (.iconst 0, 1) := dk_3 (dk_at dksJ7_copyOf_2_1 2 rfl rfl)
theorem dJ7_copyOf_2_27 : decode cJ7_copyOf_2 27 = .ok (.aload_n 3, 1) := dk_45 (dk_at dksJ7_copyOf_2_1 3 rfl rfl)
theorem dJ7_copyOf_2_28 : decode cJ7_copyOf_2 28 = .ok (.iconst 0, 1) := dk_3 (dk_at dksJ7_copyOf_2_1 4 rfl rfl)
theorem dJ7_copyOf_2_29 : decode cJ7_copyOf_2 29 = .ok (.aload_n 0, 1) := dk_42 (dk_at dksJ7_copyOf_2_1 5 rfl rfl)
theorem dJ7_copyOf_2_30 : decode cJ7_copyOf_2 30 = .ok (.arraylength, 1) := dk_190 (dk_at dksJ7_copyOf_2_1 6 rfl rfl)
theorem dJ7_copyOf_2_31 : decode cJ7_copyOf_2 31 = .ok (.iload_n 1, 1) := dk_27 (dk_at dksJ7_copyOf_2_1 7 rfl rfl)
theorem dJ7_copyOf_2_32 : decode cJ7_copyOf_2 32 = .ok (.invokestatic 304, 3) := dk_184 1 48 (dk_at dksJ7_copyOf_2_1 8 rfl rfl)
theorem dJ7_copyOf_2_35 : decode cJ7_copyOf_2 35 = .ok (.invokestatic 150, 3) := dk_184 0 150 (dk_at dksJ7_copyOf_2_1 11 rfl rfl)
theorem dJ7_copyOf_2_38 : decode cJ7_copyOf_2 38 = .ok (.aload_n 3, 1) := dk_45 (dk_at dksJ7_copyOf_2_1 14 rfl rfl)
theorem dJ7_copyOf_2_39 : decode cJ7_copyOf_2 39 = .ok (.areturn, 1) := dk_176 (dk_at dksJ7_copyOf_2_1 15 rfl rfl)
abbrev cJ7_copyOf_3 : ByteArray := prog_52_method_121_code
def yJ7_copyOf_3 : MethodName := ⟨RJ7, "copyOf", "([BI)[B"⟩
def dkwJ7_copyOf_3_1 : List UInt8 := [27, 184, 1, 48, 184, 0, 150, 44, 176]
abbrev dktJ7_copyOf_3_1 : List UInt8 := dkwJ7_copyOf_3_1 ++ []
def dkwJ7_copyOf_3_0 : List UInt8 := [27, 42, 190, 160, 0, 11, 42, 182, 1, 54, 192, 1, 55, 176, 27, 188, 8, 77, 42, 3, 44, 3, 42, 190]
abbrev dktJ7_copyOf_3_0 : List UInt8 := dkwJ7_copyOf_3_0 ++ dktJ7_copyOf_3_1
theorem dksJ7_copyOf_3_0 : cJ7_copyOf_3.data.toList.drop 0 = dktJ7_copyOf_3_0 := by decide +kernel
theorem dksJ7_copyOf_3_1 : cJ7_copyOf_3.data.toList.drop 24 = dktJ7_copyOf_3_1 := dk_seg dksJ7_copyOf_3_0 24 rfl rfl
theorem dJ7_copyOf_3_0 : decode cJ7_copyOf_3 0 = .ok (.iload_n 1, 1) := dk_27 (dk_at dksJ7_copyOf_3_0 0 rfl rfl)
theorem dJ7_copyOf_3_1 : decode cJ7_copyOf_3 1 = .ok (.aload_n 0, 1) := dk_42 (dk_at dksJ7_copyOf_3_0 1 rfl rfl)
theorem dJ7_copyOf_3_2 : decode cJ7_copyOf_3 2 = .ok (.arraylength, 1) := dk_190 (dk_at dksJ7_copyOf_3_0 2 rfl rfl)
theorem dJ7_copyOf_3_3 : decode cJ7_copyOf_3 3 = .ok (.if_icmp .ne 11, 3) := dk_160 0 11 (dk_at dksJ7_copyOf_3_0 3 rfl rfl)
theorem dJ7_copyOf_3_6 : decode cJ7_copyOf_3 6 = .ok (.aload_n 0, 1) := dk_42 (dk_at dksJ7_copyOf_3_0 6 rfl rfl)
theorem dJ7_copyOf_3_7 : decode cJ7_copyOf_3 7 = .ok (.invokevirtual 310, 3) := dk_182 1 54 (dk_at dksJ7_copyOf_3_0 7 rfl rfl)
theorem dJ7_copyOf_3_10 : decode cJ7_copyOf_3 10 = .ok (.checkcast 311, 3) := dk_192 1 55 (dk_at dksJ7_copyOf_3_0 10 rfl rfl)
theorem dJ7_copyOf_3_13 : decode cJ7_copyOf_3 13 = .ok (.areturn, 1) := dk_176 (dk_at dksJ7_copyOf_3_0 13 rfl rfl)
theorem dJ7_copyOf_3_14 : decode cJ7_copyOf_3 14 = .ok (.iload_n 1, 1) := dk_27 (dk_at dksJ7_copyOf_3_0 14 rfl rfl)
theorem dJ7_copyOf_3_15 : decode cJ7_copyOf_3 15 = .ok (.newarray .byte, 2) := dk_188_8 (dk_at dksJ7_copyOf_3_0 15 rfl rfl)
theorem dJ7_copyOf_3_17 : decode cJ7_copyOf_3 17 = .ok (.astore_n 2, 1) := dk_77 (dk_at dksJ7_copyOf_3_0 17 rfl rfl)
theorem dJ7_copyOf_3_18 : decode cJ7_copyOf_3 18 = .ok (.aload_n 0, 1) := dk_42 (dk_at dksJ7_copyOf_3_0 18 rfl rfl)
theorem dJ7_copyOf_3_19 : decode cJ7_copyOf_3 19 = .ok (.iconst 0, 1) := dk_3 (dk_at dksJ7_copyOf_3_0 19 rfl rfl)
theorem dJ7_copyOf_3_20 : decode cJ7_copyOf_3 20 = .ok (.aload_n 2, 1) := dk_44 (dk_at dksJ7_copyOf_3_0 20 rfl rfl)
theorem dJ7_copyOf_3_21 : decode cJ7_copyOf_3 21 = .ok (.iconst 0, 1) := dk_3 (dk_at dksJ7_copyOf_3_0 21 rfl rfl)
theorem dJ7_copyOf_3_22 : decode cJ7_copyOf_3 22 = .ok (.aload_n 0, 1) := dk_42 (dk_at dksJ7_copyOf_3_0 22 rfl rfl)
theorem dJ7_copyOf_3_23 : decode cJ7_copyOf_3 23 = .ok (.arraylength, 1) := dk_190 (dk_at dksJ7_copyOf_3_0 23 rfl rfl)
theorem dJ7_copyOf_3_24 : decode cJ7_copyOf_3 24 = .ok (.iload_n 1, 1) := dk_27 (dk_at dksJ7_copyOf_3_1 0 rfl rfl)
theorem dJ7_copyOf_3_25 : decode cJ7_copyOf_3 25 = .ok (.invokestatic 304, 3) := dk_184 1 48 (dk_at dksJ7_copyOf_3_1 1 rfl rfl)
theorem dJ7_copyOf_3_28 : decode cJ7_copyOf_3 28 = .ok (.invokestatic 150, 3) := dk_184 0 150 (dk_at dksJ7_copyOf_3_1 4 rfl rfl)
theorem dJ7_copyOf_3_31 : decode cJ7_copyOf_3 31 = .ok (.aload_n 2, 1) := dk_44 (dk_at dksJ7_copyOf_3_1 7 rfl rfl)
theorem dJ7_copyOf_3_32 : decode cJ7_copyOf_3 32 = .ok (.areturn, 1) := dk_176 (dk_at dksJ7_copyOf_3_1 8 rfl rfl)
abbrev cJ7_copyOfRange : ByteArray := prog_52_method_132_code
def yJ7_copyOfRange : MethodName := ⟨RJ7, "copyOfRange", "([BII)[B"⟩
def dkwJ7_copyOfRange_1 : List UInt8 := [176]
abbrev dktJ7_copyOfRange_1 : List UInt8 := dkwJ7_copyOfRange_1 ++ []
def dkwJ7_copyOfRange_0 : List UInt8 := [27, 154, 0, 9, 28, 42, 190, 159, 0, 10, 42, 27, 28, 184, 1, 83, 176, 42, 182, 1, 54, 192, 1, 55]
abbrev dktJ7_copyOfRange_0 : List UInt8 := dkwJ7_copyOfRange_0 ++ dktJ7_copyOfRange_1
theorem dksJ7_copyOfRange_0 : cJ7_copyOfRange.data.toList.drop 0 = dktJ7_copyOfRange_0 := by decide +kernel
theorem dksJ7_copyOfRange_1 : cJ7_copyOfRange.data.toList.drop 24 = dktJ7_copyOfRange_1 := dk_seg dksJ7_copyOfRange_0 24 rfl rfl
theorem dJ7_copyOfRange_0 : decode cJ7_copyOfRange 0 = .ok (.iload_n 1, 1) := dk_27 (dk_at dksJ7_copyOfRange_0 0 rfl rfl)
theorem dJ7_copyOfRange_1 : decode cJ7_copyOfRange 1 = .ok (.ifCond .ne 9, 3) := dk_154 0 9 (dk_at dksJ7_copyOfRange_0 1 rfl rfl)
theorem dJ7_copyOfRange_4 : decode cJ7_copyOfRange 4 = .ok (.iload_n 2, 1) := dk_28 (dk_at dksJ7_copyOfRange_0 4 rfl rfl)
theorem dJ7_copyOfRange_5 : decode cJ7_copyOfRange 5 = .ok (.aload_n 0, 1) := dk_42 (dk_at dksJ7_copyOfRange_0 5 rfl rfl)
theorem dJ7_copyOfRange_6 : decode cJ7_copyOfRange 6 = .ok (.arraylength, 1) := dk_190 (dk_at dksJ7_copyOfRange_0 6 rfl rfl)
theorem dJ7_copyOfRange_7 : decode cJ7_copyOfRange 7 = .ok (.if_icmp .eq 10, 3) := dk_159 0 10 (dk_at dksJ7_copyOfRange_0 7 rfl rfl)
theorem dJ7_copyOfRange_10 : decode cJ7_copyOfRange 10 = .ok (.aload_n 0, 1) := dk_42 (dk_at dksJ7_copyOfRange_0 10 rfl rfl)
theorem dJ7_copyOfRange_11 : decode cJ7_copyOfRange 11 = .ok (.iload_n 1, 1) := dk_27 (dk_at dksJ7_copyOfRange_0 11 rfl rfl)
theorem dJ7_copyOfRange_12 : decode cJ7_copyOfRange 12 = .ok (.iload_n 2, 1) := dk_28 (dk_at dksJ7_copyOfRange_0 12 rfl rfl)
theorem dJ7_copyOfRange_13 : decode cJ7_copyOfRange 13 = .ok (.invokestatic 339, 3) := dk_184 1 83 (dk_at dksJ7_copyOfRange_0 13 rfl rfl)
theorem dJ7_copyOfRange_16 : decode cJ7_copyOfRange 16 = .ok (.areturn, 1) := dk_176 (dk_at dksJ7_copyOfRange_0 16 rfl rfl)
theorem dJ7_copyOfRange_17 : decode cJ7_copyOfRange 17 = .ok (.aload_n 0, 1) := dk_42 (dk_at dksJ7_copyOfRange_0 17 rfl rfl)
theorem dJ7_copyOfRange_18 : decode cJ7_copyOfRange 18 = .ok (.invokevirtual 310, 3) := dk_182 1 54 (dk_at dksJ7_copyOfRange_0 18 rfl rfl)
theorem dJ7_copyOfRange_21 : decode cJ7_copyOfRange 21 = .ok (.checkcast 311, 3) := dk_192 1 55 (dk_at dksJ7_copyOfRange_0 21 rfl rfl)
theorem dJ7_copyOfRange_24 : decode cJ7_copyOfRange 24 = .ok (.areturn, 1) := dk_176 (dk_at dksJ7_copyOfRange_1 0 rfl rfl)
abbrev cJ7_copyOfRangeByte : ByteArray := prog_52_method_133_code
def yJ7_copyOfRangeByte : MethodName := ⟨RJ7, "copyOfRangeByte", "([BII)[B"⟩
def dkwJ7_copyOfRangeByte_1 : List UInt8 := [184, 1, 48, 184, 0, 150, 25, 4, 176]
abbrev dktJ7_copyOfRangeByte_1 : List UInt8 := dkwJ7_copyOfRangeByte_1 ++ []
def dkwJ7_copyOfRangeByte_0 : List UInt8 := [27, 28, 184, 1, 87, 28, 27, 100, 62, 29, 188, 8, 58, 4, 42, 27, 25, 4, 3, 42, 190, 27, 100, 29]
abbrev dktJ7_copyOfRangeByte_0 : List UInt8 := dkwJ7_copyOfRangeByte_0 ++ dktJ7_copyOfRangeByte_1
theorem dksJ7_copyOfRangeByte_0 : cJ7_copyOfRangeByte.data.toList.drop 0 = dktJ7_copyOfRangeByte_0 := by decide +kernel
theorem dksJ7_copyOfRangeByte_1 : cJ7_copyOfRangeByte.data.toList.drop 24 = dktJ7_copyOfRangeByte_1 := dk_seg dksJ7_copyOfRangeByte_0 24 rfl rfl
theorem dJ7_copyOfRangeByte_0 : decode cJ7_copyOfRangeByte 0 = .ok (.iload_n 1, 1) := dk_27 (dk_at dksJ7_copyOfRangeByte_0 0 rfl rfl)
theorem dJ7_copyOfRangeByte_1 : decode cJ7_copyOfRangeByte 1 = .ok (.iload_n 2, 1) := dk_28 (dk_at dksJ7_copyOfRangeByte_0 1 rfl rfl)
theorem dJ7_copyOfRangeByte_2 : decode cJ7_copyOfRangeByte 2 = .ok (.invokestatic 343, 3) := dk_184 1 87 (dk_at dksJ7_copyOfRangeByte_0 2 rfl rfl)
theorem dJ7_copyOfRangeByte_5 : decode cJ7_copyOfRangeByte 5 = .ok (.iload_n 2, 1) := dk_28 (dk_at dksJ7_copyOfRangeByte_0 5 rfl rfl)
theorem dJ7_copyOfRangeByte_6 : decode cJ7_copyOfRangeByte 6 = .ok (.iload_n 1, 1) := dk_27 (dk_at dksJ7_copyOfRangeByte_0 6 rfl rfl)
theorem dJ7_copyOfRangeByte_7 : decode cJ7_copyOfRangeByte 7 = .ok (.isub, 1) := dk_100 (dk_at dksJ7_copyOfRangeByte_0 7 rfl rfl)
theorem dJ7_copyOfRangeByte_8 : decode cJ7_copyOfRangeByte 8 = .ok (.istore_n 3, 1) := dk_62 (dk_at dksJ7_copyOfRangeByte_0 8 rfl rfl)
theorem dJ7_copyOfRangeByte_9 : decode cJ7_copyOfRangeByte 9 = .ok (.iload_n 3, 1) := dk_29 (dk_at dksJ7_copyOfRangeByte_0 9 rfl rfl)
theorem dJ7_copyOfRangeByte_10 : decode cJ7_copyOfRangeByte 10 = .ok (.newarray .byte, 2) := dk_188_8 (dk_at dksJ7_copyOfRangeByte_0 10 rfl rfl)
theorem dJ7_copyOfRangeByte_12 : decode cJ7_copyOfRangeByte 12 = .ok (.astore 4, 2) := dk_58 4 (dk_at dksJ7_copyOfRangeByte_0 12 rfl rfl)
theorem dJ7_copyOfRangeByte_14 : decode cJ7_copyOfRangeByte 14 = .ok (.aload_n 0, 1) := dk_42 (dk_at dksJ7_copyOfRangeByte_0 14 rfl rfl)
theorem dJ7_copyOfRangeByte_15 : decode cJ7_copyOfRangeByte 15 = .ok (.iload_n 1, 1) := dk_27 (dk_at dksJ7_copyOfRangeByte_0 15 rfl rfl)
theorem dJ7_copyOfRangeByte_16 : decode cJ7_copyOfRangeByte 16 = .ok (.aload 4, 2) := dk_25 4 (dk_at dksJ7_copyOfRangeByte_0 16 rfl rfl)
theorem dJ7_copyOfRangeByte_18 : decode cJ7_copyOfRangeByte 18 = .ok (.iconst 0, 1) := dk_3 (dk_at dksJ7_copyOfRangeByte_0 18 rfl rfl)
theorem dJ7_copyOfRangeByte_19 : decode cJ7_copyOfRangeByte 19 = .ok (.aload_n 0, 1) := dk_42 (dk_at dksJ7_copyOfRangeByte_0 19 rfl rfl)
theorem dJ7_copyOfRangeByte_20 : decode cJ7_copyOfRangeByte 20 = .ok (.arraylength, 1) := dk_190 (dk_at dksJ7_copyOfRangeByte_0 20 rfl rfl)
theorem dJ7_copyOfRangeByte_21 : decode cJ7_copyOfRangeByte 21 = .ok (.iload_n 1, 1) := dk_27 (dk_at dksJ7_copyOfRangeByte_0 21 rfl rfl)
theorem dJ7_copyOfRangeByte_22 : decode cJ7_copyOfRangeByte 22 = .ok (.isub, 1) := dk_100 (dk_at dksJ7_copyOfRangeByte_0 22 rfl rfl)
theorem dJ7_copyOfRangeByte_23 : decode cJ7_copyOfRangeByte 23 = .ok (.iload_n 3, 1) := dk_29 (dk_at dksJ7_copyOfRangeByte_0 23 rfl rfl)
theorem dJ7_copyOfRangeByte_24 : decode cJ7_copyOfRangeByte 24 = .ok (.invokestatic 304, 3) := dk_184 1 48 (dk_at dksJ7_copyOfRangeByte_1 0 rfl rfl)
theorem dJ7_copyOfRangeByte_27 : decode cJ7_copyOfRangeByte 27 = .ok (.invokestatic 150, 3) := dk_184 0 150 (dk_at dksJ7_copyOfRangeByte_1 3 rfl rfl)
theorem dJ7_copyOfRangeByte_30 : decode cJ7_copyOfRangeByte 30 = .ok (.aload 4, 2) := dk_25 4 (dk_at dksJ7_copyOfRangeByte_1 6 rfl rfl)
theorem dJ7_copyOfRangeByte_32 : decode cJ7_copyOfRangeByte 32 = .ok (.areturn, 1) := dk_176 (dk_at dksJ7_copyOfRangeByte_1 8 rfl rfl)
abbrev cJ7_checkLength : ByteArray := prog_52_method_131_code
def yJ7_checkLength : MethodName := ⟨RJ7, "checkLength", "(II)V"⟩
def dkwJ7_checkLength_1 : List UInt8 := [182, 0, 50, 27, 182, 0, 54, 182, 0, 61, 183, 0, 65, 191, 177]
abbrev dktJ7_checkLength_1 : List UInt8 := dkwJ7_checkLength_1 ++ []
def dkwJ7_checkLength_0 : List UInt8 := [27, 26, 162, 0, 35, 187, 0, 43, 89, 187, 0, 45, 89, 183, 0, 47, 26, 182, 0, 54, 19, 1, 81]
abbrev dktJ7_checkLength_0 : List UInt8 := dkwJ7_checkLength_0 ++ dktJ7_checkLength_1
theorem dksJ7_checkLength_0 : cJ7_checkLength.data.toList.drop 0 = dktJ7_checkLength_0 := by decide +kernel
theorem dksJ7_checkLength_1 : cJ7_checkLength.data.toList.drop 23 = dktJ7_checkLength_1 := dk_seg dksJ7_checkLength_0 23 rfl rfl
theorem dJ7_checkLength_0 : decode cJ7_checkLength 0 = .ok (.iload_n 1, 1) := dk_27 (dk_at dksJ7_checkLength_0 0 rfl rfl)
theorem dJ7_checkLength_1 : decode cJ7_checkLength 1 = .ok (.iload_n 0, 1) := dk_26 (dk_at dksJ7_checkLength_0 1 rfl rfl)
theorem dJ7_checkLength_2 : decode cJ7_checkLength 2 = .ok (.if_icmp .ge 35, 3) := dk_162 0 35 (dk_at dksJ7_checkLength_0 2 rfl rfl)
theorem dJ7_checkLength_5 : decode cJ7_checkLength 5 = .ok (.new 43, 3) := dk_187 0 43 (dk_at dksJ7_checkLength_0 5 rfl rfl)
theorem dJ7_checkLength_8 : decode cJ7_checkLength 8 = .ok (.dup, 1) := dk_89 (dk_at dksJ7_checkLength_0 8 rfl rfl)
theorem dJ7_checkLength_9 : decode cJ7_checkLength 9 = .ok (.new 45, 3) := dk_187 0 45 (dk_at dksJ7_checkLength_0 9 rfl rfl)
theorem dJ7_checkLength_12 : decode cJ7_checkLength 12 = .ok (.dup, 1) := dk_89 (dk_at dksJ7_checkLength_0 12 rfl rfl)
theorem dJ7_checkLength_13 : decode cJ7_checkLength 13 = .ok (.invokespecial 47, 3) := dk_183 0 47 (dk_at dksJ7_checkLength_0 13 rfl rfl)
theorem dJ7_checkLength_16 : decode cJ7_checkLength 16 = .ok (.iload_n 0, 1) := dk_26 (dk_at dksJ7_checkLength_0 16 rfl rfl)
theorem dJ7_checkLength_17 : decode cJ7_checkLength 17 = .ok (.invokevirtual 54, 3) := dk_182 0 54 (dk_at dksJ7_checkLength_0 17 rfl rfl)
theorem dJ7_checkLength_20 : decode cJ7_checkLength 20 = .ok (.ldc_w 337, 3) := dk_19 1 81 (dk_at dksJ7_checkLength_0 20 rfl rfl)
theorem dJ7_checkLength_23 : decode cJ7_checkLength 23 = .ok (.invokevirtual 50, 3) := dk_182 0 50 (dk_at dksJ7_checkLength_1 0 rfl rfl)
theorem dJ7_checkLength_26 : decode cJ7_checkLength 26 = .ok (.iload_n 1, 1) := dk_27 (dk_at dksJ7_checkLength_1 3 rfl rfl)
theorem dJ7_checkLength_27 : decode cJ7_checkLength 27 = .ok (.invokevirtual 54, 3) := dk_182 0 54 (dk_at dksJ7_checkLength_1 4 rfl rfl)
theorem dJ7_checkLength_30 : decode cJ7_checkLength 30 = .ok (.invokevirtual 61, 3) := dk_182 0 61 (dk_at dksJ7_checkLength_1 7 rfl rfl)
theorem dJ7_checkLength_33 : decode cJ7_checkLength 33 = .ok (.invokespecial 65, 3) := dk_183 0 65 (dk_at dksJ7_checkLength_1 10 rfl rfl)
theorem dJ7_checkLength_36 : decode cJ7_checkLength 36 = .ok (.athrow, 1) := dk_191 (dk_at dksJ7_checkLength_1 13 rfl rfl)
theorem dJ7_checkLength_37 : decode cJ7_checkLength 37 = .ok (.return_, 1) := dk_177 (dk_at dksJ7_checkLength_1 14 rfl rfl)
abbrev cJ7_fill : ByteArray := prog_52_method_110_code
def yJ7_fill : MethodName := ⟨RJ7, "fill", "([BIIB)V"⟩
def dkwJ7_fill_1 : List UInt8 := [167, 255, 242, 177]
abbrev dktJ7_fill_1 : List UInt8 := dkwJ7_fill_1 ++ []
def dkwJ7_fill_0 : List UInt8 := [42, 190, 27, 28, 184, 0, 13, 27, 54, 4, 21, 4, 28, 162, 0, 14, 42, 21, 4, 29, 84, 132, 4, 1]
abbrev dktJ7_fill_0 : List UInt8 := dkwJ7_fill_0 ++ dktJ7_fill_1
theorem dksJ7_fill_0 : cJ7_fill.data.toList.drop 0 = dktJ7_fill_0 := by decide +kernel
theorem dksJ7_fill_1 : cJ7_fill.data.toList.drop 24 = dktJ7_fill_1 := dk_seg dksJ7_fill_0 24 rfl rfl
theorem dJ7_fill_0 : decode cJ7_fill 0 = .ok (.aload_n 0, 1) := dk_42 (dk_at dksJ7_fill_0 0 rfl rfl)
theorem dJ7_fill_1 : decode cJ7_fill 1 = .ok (.arraylength, 1) := dk_190 (dk_at dksJ7_fill_0 1 rfl rfl)
theorem dJ7_fill_2 : decode cJ7_fill 2 = .ok (.iload_n 1, 1) := dk_27 (dk_at dksJ7_fill_0 2 rfl rfl)
theorem dJ7_fill_3 : decode cJ7_fill 3 = .ok (.iload_n 2, 1) := dk_28 (dk_at dksJ7_fill_0 3 rfl rfl)
theorem dJ7_fill_4 : decode cJ7_fill 4 = .ok (.invokestatic 13, 3) := dk_184 0 13 (dk_at dksJ7_fill_0 4 rfl rfl)
theorem dJ7_fill_7 : decode cJ7_fill 7 = .ok (.iload_n 1, 1) := dk_27 (dk_at dksJ7_fill_0 7 rfl rfl)
theorem dJ7_fill_8 : decode cJ7_fill 8 = .ok (.istore 4, 2) := dk_54 4 (dk_at dksJ7_fill_0 8 rfl rfl)
theorem dJ7_fill_10 : decode cJ7_fill 10 = .ok (.iload 4, 2) := dk_21 4 (dk_at dksJ7_fill_0 10 rfl rfl)
theorem dJ7_fill_12 : decode cJ7_fill 12 = .ok (.iload_n 2, 1) := dk_28 (dk_at dksJ7_fill_0 12 rfl rfl)
theorem dJ7_fill_13 : decode cJ7_fill 13 = .ok (.if_icmp .ge 14, 3) := dk_162 0 14 (dk_at dksJ7_fill_0 13 rfl rfl)
theorem dJ7_fill_16 : decode cJ7_fill 16 = .ok (.aload_n 0, 1) := dk_42 (dk_at dksJ7_fill_0 16 rfl rfl)
theorem dJ7_fill_17 : decode cJ7_fill 17 = .ok (.iload 4, 2) := dk_21 4 (dk_at dksJ7_fill_0 17 rfl rfl)
theorem dJ7_fill_19 : decode cJ7_fill 19 = .ok (.iload_n 3, 1) := dk_29 (dk_at dksJ7_fill_0 19 rfl rfl)
theorem dJ7_fill_20 : decode cJ7_fill 20 = .ok (.bastore, 1) := dk_84 (dk_at dksJ7_fill_0 20 rfl rfl)
theorem dJ7_fill_21 : decode cJ7_fill 21 = .ok (.iinc 4 1, 3) := dk_132 4 1 (dk_at dksJ7_fill_0 21 rfl rfl)
theorem dJ7_fill_24 : decode cJ7_fill 24 = .ok (.goto (-14), 3) := dk_167 255 242 (dk_at dksJ7_fill_1 0 rfl rfl)
theorem dJ7_fill_27 : decode cJ7_fill 27 = .ok (.return_, 1) := dk_177 (dk_at dksJ7_fill_1 3 rfl rfl)
abbrev cJ7_rangeCheck : ByteArray := prog_52_method_30_code
def yJ7_rangeCheck : MethodName := ⟨RJ7, "rangeCheck", "(III)V"⟩
def dkwJ7_rangeCheck_3 : List UInt8 := [183, 0, 70, 191, 177]
abbrev dktJ7_rangeCheck_3 : List UInt8 := dkwJ7_rangeCheck_3 ++ []
def dkwJ7_rangeCheck_2 : List UInt8 := [27, 156, 0, 12, 187, 0, 68, 89, 27, 183, 0, 70, 191, 28, 26, 164, 0, 12, 187, 0, 68, 89, 28]
abbrev dktJ7_rangeCheck_2 : List UInt8 := dkwJ7_rangeCheck_2 ++ dktJ7_rangeCheck_3
def dkwJ7_rangeCheck_1 : List UInt8 := [182, 0, 54, 18, 57, 182, 0, 50, 28, 182, 0, 54, 18, 59, 182, 0, 50, 182, 0, 61, 183, 0, 65, 191]
abbrev dktJ7_rangeCheck_1 : List UInt8 := dkwJ7_rangeCheck_1 ++ dktJ7_rangeCheck_2
def dkwJ7_rangeCheck_0 : List UInt8 := [27, 28, 164, 0, 44, 187, 0, 43, 89, 187, 0, 45, 89, 183, 0, 47, 18, 48, 182, 0, 50, 27]
abbrev dktJ7_rangeCheck_0 : List UInt8 := dkwJ7_rangeCheck_0 ++ dktJ7_rangeCheck_1
theorem dksJ7_rangeCheck_0 : cJ7_rangeCheck.data.toList.drop 0 = dktJ7_rangeCheck_0 := by decide +kernel
theorem dksJ7_rangeCheck_1 : cJ7_rangeCheck.data.toList.drop 22 = dktJ7_rangeCheck_1 := dk_seg dksJ7_rangeCheck_0 22 rfl rfl
theorem dksJ7_rangeCheck_2 : cJ7_rangeCheck.data.toList.drop 46 = dktJ7_rangeCheck_2 := dk_seg dksJ7_rangeCheck_1 24 rfl rfl
theorem dksJ7_rangeCheck_3 : cJ7_rangeCheck.data.toList.drop 69 = dktJ7_rangeCheck_3 := dk_seg dksJ7_rangeCheck_2 23 rfl rfl
theorem dJ7_rangeCheck_0 : decode cJ7_rangeCheck 0 = .ok (.iload_n 1, 1) := dk_27 (dk_at dksJ7_rangeCheck_0 0 rfl rfl)
theorem dJ7_rangeCheck_1 : decode cJ7_rangeCheck 1 = .ok (.iload_n 2, 1) := dk_28 (dk_at dksJ7_rangeCheck_0 1 rfl rfl)
theorem dJ7_rangeCheck_2 : decode cJ7_rangeCheck 2 = .ok (.if_icmp .le 44, 3) := dk_164 0 44 (dk_at dksJ7_rangeCheck_0 2 rfl rfl)
theorem dJ7_rangeCheck_5 : decode cJ7_rangeCheck 5 = .ok (.new 43, 3) := dk_187 0 43 (dk_at dksJ7_rangeCheck_0 5 rfl rfl)
theorem dJ7_rangeCheck_8 : decode cJ7_rangeCheck 8 = .ok (.dup, 1) := dk_89 (dk_at dksJ7_rangeCheck_0 8 rfl rfl)
theorem dJ7_rangeCheck_9 : decode cJ7_rangeCheck 9 = .ok (.new 45, 3) := dk_187 0 45 (dk_at dksJ7_rangeCheck_0 9 rfl rfl)
theorem dJ7_rangeCheck_12 : decode cJ7_rangeCheck 12 = .ok (.dup, 1) := dk_89 (dk_at dksJ7_rangeCheck_0 12 rfl rfl)
theorem dJ7_rangeCheck_13 : decode cJ7_rangeCheck 13 = .ok (.invokespecial 47, 3) := dk_183 0 47 (dk_at dksJ7_rangeCheck_0 13 rfl rfl)
theorem dJ7_rangeCheck_16 : decode cJ7_rangeCheck 16 = .ok (.ldc 48, 2) := dk_18 48 (dk_at dksJ7_rangeCheck_0 16 rfl rfl)
theorem dJ7_rangeCheck_18 : decode cJ7_rangeCheck 18 = .ok (.invokevirtual 50, 3) := dk_182 0 50 (dk_at dksJ7_rangeCheck_0 18 rfl rfl)
theorem dJ7_rangeCheck_21 : decode cJ7_rangeCheck 21 = .ok (.iload_n 1, 1) := dk_27 (dk_at dksJ7_rangeCheck_0 21 rfl rfl)
theorem dJ7_rangeCheck_22 : decode cJ7_rangeCheck 22 = .ok (.invokevirtual 54, 3) := dk_182 0 54 (dk_at dksJ7_rangeCheck_1 0 rfl rfl)
theorem dJ7_rangeCheck_25 : decode cJ7_rangeCheck 25 = .ok (.ldc 57, 2) := dk_18 57 (dk_at dksJ7_rangeCheck_1 3 rfl rfl)
theorem dJ7_rangeCheck_27 : decode cJ7_rangeCheck 27 = .ok (.invokevirtual 50, 3) := dk_182 0 50 (dk_at dksJ7_rangeCheck_1 5 rfl rfl)
theorem dJ7_rangeCheck_30 : decode cJ7_rangeCheck 30 = .ok (.iload_n 2, 1) := dk_28 (dk_at dksJ7_rangeCheck_1 8 rfl rfl)
theorem dJ7_rangeCheck_31 : decode cJ7_rangeCheck 31 = .ok (.invokevirtual 54, 3) := dk_182 0 54 (dk_at dksJ7_rangeCheck_1 9 rfl rfl)
theorem dJ7_rangeCheck_34 : decode cJ7_rangeCheck 34 = .ok (.ldc 59, 2) := dk_18 59 (dk_at dksJ7_rangeCheck_1 12 rfl rfl)
theorem dJ7_rangeCheck_36 : decode cJ7_rangeCheck 36 = .ok (.invokevirtual 50, 3) := dk_182 0 50 (dk_at dksJ7_rangeCheck_1 14 rfl rfl)
theorem dJ7_rangeCheck_39 : decode cJ7_rangeCheck 39 = .ok (.invokevirtual 61, 3) := dk_182 0 61 (dk_at dksJ7_rangeCheck_1 17 rfl rfl)
theorem dJ7_rangeCheck_42 : decode cJ7_rangeCheck 42 = .ok (.invokespecial 65, 3) := dk_183 0 65 (dk_at dksJ7_rangeCheck_1 20 rfl rfl)
theorem dJ7_rangeCheck_45 : decode cJ7_rangeCheck 45 = .ok (.athrow, 1) := dk_191 (dk_at dksJ7_rangeCheck_1 23 rfl rfl)
theorem dJ7_rangeCheck_46 : decode cJ7_rangeCheck 46 = .ok (.iload_n 1, 1) := dk_27 (dk_at dksJ7_rangeCheck_2 0 rfl rfl)
theorem dJ7_rangeCheck_47 : decode cJ7_rangeCheck 47 = .ok (.ifCond .ge 12, 3) := dk_156 0 12 (dk_at dksJ7_rangeCheck_2 1 rfl rfl)
theorem dJ7_rangeCheck_50 : decode cJ7_rangeCheck 50 = .ok (.new 68, 3) := dk_187 0 68 (dk_at dksJ7_rangeCheck_2 4 rfl rfl)
theorem dJ7_rangeCheck_53 : decode cJ7_rangeCheck 53 = .ok (.dup, 1) := dk_89 (dk_at dksJ7_rangeCheck_2 7 rfl rfl)
theorem dJ7_rangeCheck_54 : decode cJ7_rangeCheck 54 = .ok (.iload_n 1, 1) := dk_27 (dk_at dksJ7_rangeCheck_2 8 rfl rfl)
theorem dJ7_rangeCheck_55 : decode cJ7_rangeCheck 55 = .ok (.invokespecial 70, 3) := dk_183 0 70 (dk_at dksJ7_rangeCheck_2 9 rfl rfl)
theorem dJ7_rangeCheck_58 : decode cJ7_rangeCheck 58 = .ok (.athrow, 1) := dk_191 (dk_at dksJ7_rangeCheck_2 12 rfl rfl)
theorem dJ7_rangeCheck_59 : decode cJ7_rangeCheck 59 = .ok (.iload_n 2, 1) := dk_28 (dk_at dksJ7_rangeCheck_2 13 rfl rfl)
theorem dJ7_rangeCheck_60 : decode cJ7_rangeCheck 60 = .ok (.iload_n 0, 1) := dk_26 (dk_at dksJ7_rangeCheck_2 14 rfl rfl)
theorem dJ7_rangeCheck_61 : decode cJ7_rangeCheck 61 = .ok (.if_icmp .le 12, 3) := dk_164 0 12 (dk_at dksJ7_rangeCheck_2 15 rfl rfl)
theorem dJ7_rangeCheck_64 : decode cJ7_rangeCheck 64 = .ok (.new 68, 3) := dk_187 0 68 (dk_at dksJ7_rangeCheck_2 18 rfl rfl)
theorem dJ7_rangeCheck_67 : decode cJ7_rangeCheck 67 = .ok (.dup, 1) := dk_89 (dk_at dksJ7_rangeCheck_2 21 rfl rfl)
theorem dJ7_rangeCheck_68 : decode cJ7_rangeCheck 68 = .ok (.iload_n 2, 1) := dk_28 (dk_at dksJ7_rangeCheck_2 22 rfl rfl)
theorem dJ7_rangeCheck_69 : decode cJ7_rangeCheck 69 = .ok (.invokespecial 70, 3) := dk_183 0 70 (dk_at dksJ7_rangeCheck_3 0 rfl rfl)
theorem dJ7_rangeCheck_72 : decode cJ7_rangeCheck 72 = .ok (.athrow, 1) := dk_191 (dk_at dksJ7_rangeCheck_3 3 rfl rfl)
theorem dJ7_rangeCheck_73 : decode cJ7_rangeCheck 73 = .ok (.return_, 1) := dk_177 (dk_at dksJ7_rangeCheck_3 4 rfl rfl)
theorem q144 : (Jvm.Cond.initialized "java/util/Arrays") ∈ lw_all := lw_g (lw_at lw_m1 10 rfl) rfl
theorem q279 : (Jvm.Cond.static ({ cls := "java/util/Arrays", name := "copyOf", desc := "([Ljava/lang/Object;I)[Ljava/lang/Object;" } : Jvm.MethodName)) ∈ lw_all := lw_g (lw_at lw_m1 145 rfl) rfl
theorem q280 : (Jvm.Cond.code ({ cls := "java/util/Arrays", name := "copyOf", desc := "([Ljava/lang/Object;I)[Ljava/lang/Object;" } : Jvm.MethodName) prog_52_method_119_code (2 : Nat) (Option.some (Jvm.ClassFile.FieldType.array (Jvm.ClassFile.FieldType.object "java/lang/Object")))) ∈ lw_all := lw_g (lw_at lw_m1 146 rfl) rfl
theorem q281 : (Jvm.Cond.methodLink "java/util/Arrays" (86 : Nat) ({ cls := "java/lang/Object", name := "getClass", desc := "()Ljava/lang/Class;" } : Jvm.MethodName)) ∈ lw_all := lw_g (lw_at lw_m1 147 rfl) rfl
theorem q315 : (Jvm.Cond.methodLink "java/util/Arrays" (300 : Nat) ({ cls := "java/util/Arrays", name := "copyOf", desc := "([Ljava/lang/Object;ILjava/lang/Class;)[Ljava/lang/Object;" } : Jvm.MethodName)) ∈ lw_all := lw_g (lw_at lw_m1 181 rfl) rfl
theorem q316 : (Jvm.Cond.static ({ cls := "java/util/Arrays", name := "copyOf", desc := "([Ljava/lang/Object;ILjava/lang/Class;)[Ljava/lang/Object;" } : Jvm.MethodName)) ∈ lw_all := lw_g (lw_at lw_m1 182 rfl) rfl
theorem q317 : (Jvm.Cond.code ({ cls := "java/util/Arrays", name := "copyOf", desc := "([Ljava/lang/Object;ILjava/lang/Class;)[Ljava/lang/Object;" } : Jvm.MethodName) prog_52_method_120_code (4 : Nat) (Option.some (Jvm.ClassFile.FieldType.array (Jvm.ClassFile.FieldType.object "java/lang/Object")))) ∈ lw_all := lw_g (lw_at lw_m1 183 rfl) rfl
theorem q318 : (Jvm.Cond.classLink "java/util/Arrays" (110 : Nat) "[Ljava/lang/Object;") ∈ lw_all := lw_g (lw_at lw_m1 184 rfl) rfl
theorem q320 : (Jvm.Cond.classLink "java/util/Arrays" (2 : Nat) "java/lang/Object") ∈ lw_all := lw_g (lw_at lw_m1 186 rfl) rfl
theorem q321 : (Jvm.Cond.methodLink "java/util/Arrays" (304 : Nat) ({ cls := "java/lang/Math", name := "min", desc := "(II)I" } : Jvm.MethodName)) ∈ lw_all := lw_g (lw_at lw_m1 187 rfl) rfl
theorem q324 : (Jvm.Cond.methodLink "java/util/Arrays" (150 : Nat) ({ cls := "java/lang/System", name := "arraycopy", desc := "(Ljava/lang/Object;ILjava/lang/Object;II)V" } : Jvm.MethodName)) ∈ lw_all := lw_g (lw_at lw_m1 190 rfl) rfl
theorem q442 : (Jvm.Cond.static ({ cls := "java/util/Arrays", name := "copyOf", desc := "([BI)[B" } : Jvm.MethodName)) ∈ lw_all := lw_g (lw_at lw_m2 68 rfl) rfl
theorem q443 : (Jvm.Cond.code ({ cls := "java/util/Arrays", name := "copyOf", desc := "([BI)[B" } : Jvm.MethodName) prog_52_method_121_code (3 : Nat) (Option.some (Jvm.ClassFile.FieldType.array Jvm.ClassFile.FieldType.byte))) ∈ lw_all := lw_g (lw_at lw_m2 69 rfl) rfl
theorem q444 : (Jvm.Cond.methodLink "java/util/Arrays" (310 : Nat) ({ cls := "[B", name := "clone", desc := "()Ljava/lang/Object;" } : Jvm.MethodName)) ∈ lw_all := lw_g (lw_at lw_m2 70 rfl) rfl
theorem q450 : (Jvm.Cond.classLink "java/util/Arrays" (311 : Nat) "[B") ∈ lw_all := lw_g (lw_at lw_m2 76 rfl) rfl
theorem q578 : (Jvm.Cond.static ({ cls := "java/util/Arrays", name := "copyOfRange", desc := "([BII)[B" } : Jvm.MethodName)) ∈ lw_all := lw_g (lw_at lw_m2 204 rfl) rfl
theorem q579 : (Jvm.Cond.code ({ cls := "java/util/Arrays", name := "copyOfRange", desc := "([BII)[B" } : Jvm.MethodName) prog_52_method_132_code (3 : Nat) (Option.some (Jvm.ClassFile.FieldType.array Jvm.ClassFile.FieldType.byte))) ∈ lw_all := lw_g (lw_at lw_m2 205 rfl) rfl
theorem q580 : (Jvm.Cond.methodLink "java/util/Arrays" (339 : Nat) ({ cls := "java/util/Arrays", name := "copyOfRangeByte", desc := "([BII)[B" } : Jvm.MethodName)) ∈ lw_all := lw_g (lw_at lw_m2 206 rfl) rfl
theorem q581 : (Jvm.Cond.static ({ cls := "java/util/Arrays", name := "copyOfRangeByte", desc := "([BII)[B" } : Jvm.MethodName)) ∈ lw_all := lw_g (lw_at lw_m2 207 rfl) rfl
theorem q582 : (Jvm.Cond.code ({ cls := "java/util/Arrays", name := "copyOfRangeByte", desc := "([BII)[B" } : Jvm.MethodName) prog_52_method_133_code (5 : Nat) (Option.some (Jvm.ClassFile.FieldType.array Jvm.ClassFile.FieldType.byte))) ∈ lw_all := lw_g (lw_at lw_m2 208 rfl) rfl
theorem q583 : (Jvm.Cond.methodLink "java/util/Arrays" (343 : Nat) ({ cls := "java/util/Arrays", name := "checkLength", desc := "(II)V" } : Jvm.MethodName)) ∈ lw_all := lw_g (lw_at lw_m2 209 rfl) rfl
theorem q584 : (Jvm.Cond.static ({ cls := "java/util/Arrays", name := "checkLength", desc := "(II)V" } : Jvm.MethodName)) ∈ lw_all := lw_g (lw_at lw_m2 210 rfl) rfl
theorem q585 : (Jvm.Cond.code ({ cls := "java/util/Arrays", name := "checkLength", desc := "(II)V" } : Jvm.MethodName) prog_52_method_131_code (2 : Nat) (Option.none : Option Jvm.ClassFile.FieldType)) ∈ lw_all := lw_g (lw_at lw_m2 211 rfl) rfl
theorem q586 : (Jvm.Cond.classLink "java/util/Arrays" (43 : Nat) "java/lang/IllegalArgumentException") ∈ lw_all := lw_g (lw_at lw_m2 212 rfl) rfl
theorem q587 : (Jvm.Cond.classLink "java/util/Arrays" (45 : Nat) "java/lang/StringBuilder") ∈ lw_all := lw_g (lw_at lw_m2 213 rfl) rfl
theorem q588 : (Jvm.Cond.methodLink "java/util/Arrays" (47 : Nat) ({ cls := "java/lang/StringBuilder", name := "<init>", desc := "()V" } : Jvm.MethodName)) ∈ lw_all := lw_g (lw_at lw_m2 214 rfl) rfl
theorem q589 : (Jvm.Cond.methodLink "java/util/Arrays" (54 : Nat) ({ cls := "java/lang/StringBuilder", name := "append", desc := "(I)Ljava/lang/StringBuilder;" } : Jvm.MethodName)) ∈ lw_all := lw_g (lw_at lw_m2 215 rfl) rfl
theorem q590 : (Jvm.Cond.stringRef "java/util/Arrays" (337 : Nat) " > ") ∈ lw_tbl := lw_at lw_m2 216 rfl
theorem q591 : (Jvm.Cond.methodLink "java/util/Arrays" (50 : Nat) ({ cls := "java/lang/StringBuilder", name := "append", desc := "(Ljava/lang/String;)Ljava/lang/StringBuilder;" } : Jvm.MethodName)) ∈ lw_all := lw_g (lw_at lw_m2 217 rfl) rfl
theorem q592 : (Jvm.Cond.methodLink "java/util/Arrays" (61 : Nat) ({ cls := "java/lang/StringBuilder", name := "toString", desc := "()Ljava/lang/String;" } : Jvm.MethodName)) ∈ lw_all := lw_g (lw_at lw_m2 218 rfl) rfl
theorem q593 : (Jvm.Cond.methodLink "java/util/Arrays" (65 : Nat) ({ cls := "java/lang/IllegalArgumentException", name := "<init>", desc := "(Ljava/lang/String;)V" } : Jvm.MethodName)) ∈ lw_all := lw_g (lw_at lw_m2 219 rfl) rfl
theorem q2409 : (Jvm.Cond.static ({ cls := "java/util/Arrays", name := "fill", desc := "([BIIB)V" } : Jvm.MethodName)) ∈ lw_all := lw_g (lw_at lw_m10 115 rfl) rfl
theorem q2410 : (Jvm.Cond.code ({ cls := "java/util/Arrays", name := "fill", desc := "([BIIB)V" } : Jvm.MethodName) prog_52_method_110_code (5 : Nat) (Option.none : Option Jvm.ClassFile.FieldType)) ∈ lw_all := lw_g (lw_at lw_m10 116 rfl) rfl
theorem q2411 : (Jvm.Cond.methodLink "java/util/Arrays" (13 : Nat) ({ cls := "java/util/Arrays", name := "rangeCheck", desc := "(III)V" } : Jvm.MethodName)) ∈ lw_all := lw_g (lw_at lw_m10 117 rfl) rfl
theorem q2412 : (Jvm.Cond.static ({ cls := "java/util/Arrays", name := "rangeCheck", desc := "(III)V" } : Jvm.MethodName)) ∈ lw_all := lw_g (lw_at lw_m10 118 rfl) rfl
theorem q2413 : (Jvm.Cond.code ({ cls := "java/util/Arrays", name := "rangeCheck", desc := "(III)V" } : Jvm.MethodName) prog_52_method_30_code (3 : Nat) (Option.none : Option Jvm.ClassFile.FieldType)) ∈ lw_all := lw_g (lw_at lw_m10 119 rfl) rfl
theorem q2414 : (Jvm.Cond.stringRef "java/util/Arrays" (48 : Nat) "fromIndex(") ∈ lw_tbl := lw_at lw_m10 120 rfl
theorem q2415 : (Jvm.Cond.stringRef "java/util/Arrays" (57 : Nat) ") > toIndex(") ∈ lw_tbl := lw_at lw_m10 121 rfl
theorem q2416 : (Jvm.Cond.stringRef "java/util/Arrays" (59 : Nat) ")") ∈ lw_tbl := lw_at lw_m10 122 rfl
theorem q2417 : (Jvm.Cond.classLink "java/util/Arrays" (68 : Nat) "java/lang/ArrayIndexOutOfBoundsException") ∈ lw_all := lw_g (lw_at lw_m10 123 rfl) rfl
theorem q2418 : (Jvm.Cond.methodLink "java/util/Arrays" (70 : Nat) ({ cls := "java/lang/ArrayIndexOutOfBoundsException", name := "<init>", desc := "(I)V" } : Jvm.MethodName)) ∈ lw_all := lw_g (lw_at lw_m10 124 rfl) rfl
/-! java/lang/String -/
set_option maxRecDepth 100000
def RJ14 : String := "java/lang/String"
def TJ14 : u_T := fun k => match k with
  | 0 => ("java/lang/String", "value", "[B", true)
  | 1 => ("java/lang/String", "coder", "B", true)
  | 2 => ("java/lang/String", "hash", "I", false)
  | _ => ("java/lang/String", "hashIsZero", "Z", false)
def tyJ14 : Nat → FieldType := fun k => match k with
  | 0 => .array .byte
  | 1 => .byte
  | 2 => .int
  | _ => .boolean
abbrev wsJ140 : List Cond := u_ws RJ14 TJ14 4
theorem nmJ14 : ∀ a, a < 4 → ∀ b, b < 4 → a ≠ b → (TJ14 a).2.1 ≠ (TJ14 b).2.1 := by decide +kernel
theorem tyJ14_ok : ∀ k, k < 4 → parseFieldDescriptor (TJ14 k).2.2.1 = some (tyJ14 k) := by decide +kernel
abbrev cJ14_checkBoundsBeginEnd : ByteArray := prog_37_method_158_code
def yJ14_checkBoundsBeginEnd : MethodName := ⟨RJ14, "checkBoundsBeginEnd", "(III)V"⟩
def dkwJ14_checkBoundsBeginEnd_0 : List UInt8 := [26, 27, 28, 178, 4, 29, 184, 4, 38, 87, 177]
abbrev dktJ14_checkBoundsBeginEnd_0 : List UInt8 := dkwJ14_checkBoundsBeginEnd_0 ++ []
theorem dksJ14_checkBoundsBeginEnd_0 : cJ14_checkBoundsBeginEnd.data.toList.drop 0 = dktJ14_checkBoundsBeginEnd_0 := by decide +kernel
theorem dJ14_checkBoundsBeginEnd_0 : decode cJ14_checkBoundsBeginEnd 0 = .ok (.iload_n 0, 1) := dk_26 (dk_at dksJ14_checkBoundsBeginEnd_0 0 rfl rfl)
theorem dJ14_checkBoundsBeginEnd_1 : decode cJ14_checkBoundsBeginEnd 1 = .ok (.iload_n 1, 1) := dk_27 (dk_at dksJ14_checkBoundsBeginEnd_0 1 rfl rfl)
theorem dJ14_checkBoundsBeginEnd_2 : decode cJ14_checkBoundsBeginEnd 2 = .ok (.iload_n 2, 1) := dk_28 (dk_at dksJ14_checkBoundsBeginEnd_0 2 rfl rfl)
theorem dJ14_checkBoundsBeginEnd_3 : decode cJ14_checkBoundsBeginEnd 3 = .ok (.getstatic 1053, 3) := dk_178 4 29 (dk_at dksJ14_checkBoundsBeginEnd_0 3 rfl rfl)
theorem dJ14_checkBoundsBeginEnd_6 : decode cJ14_checkBoundsBeginEnd 6 = .ok (.invokestatic 1062, 3) := dk_184 4 38 (dk_at dksJ14_checkBoundsBeginEnd_0 6 rfl rfl)
theorem dJ14_checkBoundsBeginEnd_9 : decode cJ14_checkBoundsBeginEnd 9 = .ok (.pop, 1) := dk_87 (dk_at dksJ14_checkBoundsBeginEnd_0 9 rfl rfl)
theorem dJ14_checkBoundsBeginEnd_10 : decode cJ14_checkBoundsBeginEnd 10 = .ok (.return_, 1) := dk_177 (dk_at dksJ14_checkBoundsBeginEnd_0 10 rfl rfl)
abbrev cJ14_length : ByteArray := prog_37_method_54_code
def yJ14_length : MethodName := ⟨RJ14, "length", "()I"⟩
def dkwJ14_length_0 : List UInt8 := [42, 180, 0, 9, 190, 42, 182, 1, 79, 122, 172]
abbrev dktJ14_length_0 : List UInt8 := dkwJ14_length_0 ++ []
theorem dksJ14_length_0 : cJ14_length.data.toList.drop 0 = dktJ14_length_0 := by decide +kernel
theorem dJ14_length_0 : decode cJ14_length 0 = .ok (.aload_n 0, 1) := dk_42 (dk_at dksJ14_length_0 0 rfl rfl)
theorem dJ14_length_1 : decode cJ14_length 1 = .ok (.getfield 9, 3) := dk_180 0 9 (dk_at dksJ14_length_0 1 rfl rfl)
theorem dJ14_length_4 : decode cJ14_length 4 = .ok (.arraylength, 1) := dk_190 (dk_at dksJ14_length_0 4 rfl rfl)
theorem dJ14_length_5 : decode cJ14_length 5 = .ok (.aload_n 0, 1) := dk_42 (dk_at dksJ14_length_0 5 rfl rfl)
theorem dJ14_length_6 : decode cJ14_length 6 = .ok (.invokevirtual 335, 3) := dk_182 1 79 (dk_at dksJ14_length_0 6 rfl rfl)
theorem dJ14_length_9 : decode cJ14_length 9 = .ok (.ishr, 1) := dk_122 (dk_at dksJ14_length_0 9 rfl rfl)
theorem dJ14_length_10 : decode cJ14_length 10 = .ok (.ireturn, 1) := dk_172 (dk_at dksJ14_length_0 10 rfl rfl)
abbrev cJ14_coder : ByteArray := prog_37_method_152_code
def yJ14_coder : MethodName := ⟨RJ14, "coder", "()B"⟩
def dkwJ14_coder_0 : List UInt8 := [178, 0, 38, 153, 0, 10, 42, 180, 0, 15, 167, 0, 4, 4, 172]
abbrev dktJ14_coder_0 : List UInt8 := dkwJ14_coder_0 ++ []
theorem dksJ14_coder_0 : cJ14_coder.data.toList.drop 0 = dktJ14_coder_0 := by decide +kernel
theorem dJ14_coder_0 : decode cJ14_coder 0 = .ok (.getstatic 38, 3) := dk_178 0 38 (dk_at dksJ14_coder_0 0 rfl rfl)
theorem dJ14_coder_3 : decode cJ14_coder 3 = .ok (.ifCond .eq 10, 3) := dk_153 0 10 (dk_at dksJ14_coder_0 3 rfl rfl)
theorem dJ14_coder_6 : decode cJ14_coder 6 = .ok (.aload_n 0, 1) := dk_42 (dk_at dksJ14_coder_0 6 rfl rfl)
theorem dJ14_coder_7 : decode cJ14_coder 7 = .ok (.getfield 15, 3) := dk_180 0 15 (dk_at dksJ14_coder_0 7 rfl rfl)
theorem dJ14_coder_10 : decode cJ14_coder 10 = .ok (.goto 4, 3) := dk_167 0 4 (dk_at dksJ14_coder_0 10 rfl rfl)
theorem dJ14_coder_13 : decode cJ14_coder 13 = .ok (.iconst 1, 1) := dk_4 (dk_at dksJ14_coder_0 13 rfl rfl)
theorem dJ14_coder_14 : decode cJ14_coder 14 = .ok (.ireturn, 1) := dk_172 (dk_at dksJ14_coder_0 14 rfl rfl)
abbrev cJ14_checkBoundsOffCount : ByteArray := prog_37_method_157_code
def yJ14_checkBoundsOffCount : MethodName := ⟨RJ14, "checkBoundsOffCount", "(III)I"⟩
def dkwJ14_checkBoundsOffCount_0 : List UInt8 := [26, 27, 28, 178, 4, 29, 184, 4, 41, 172]
abbrev dktJ14_checkBoundsOffCount_0 : List UInt8 := dkwJ14_checkBoundsOffCount_0 ++ []
theorem dksJ14_checkBoundsOffCount_0 : cJ14_checkBoundsOffCount.data.toList.drop 0 = dktJ14_checkBoundsOffCount_0 := by decide +kernel
theorem dJ14_checkBoundsOffCount_0 : decode cJ14_checkBoundsOffCount 0 = .ok (.iload_n 0, 1) := dk_26 (dk_at dksJ14_checkBoundsOffCount_0 0 rfl rfl)
theorem dJ14_checkBoundsOffCount_1 : decode cJ14_checkBoundsOffCount 1 = .ok (.iload_n 1, 1) := dk_27 (dk_at dksJ14_checkBoundsOffCount_0 1 rfl rfl)
theorem dJ14_checkBoundsOffCount_2 : decode cJ14_checkBoundsOffCount 2 = .ok (.iload_n 2, 1) := dk_28 (dk_at dksJ14_checkBoundsOffCount_0 2 rfl rfl)
theorem dJ14_checkBoundsOffCount_3 : decode cJ14_checkBoundsOffCount 3 = .ok (.getstatic 1053, 3) := dk_178 4 29 (dk_at dksJ14_checkBoundsOffCount_0 3 rfl rfl)
theorem dJ14_checkBoundsOffCount_6 : decode cJ14_checkBoundsOffCount 6 = .ok (.invokestatic 1065, 3) := dk_184 4 41 (dk_at dksJ14_checkBoundsOffCount_0 6 rfl rfl)
theorem dJ14_checkBoundsOffCount_9 : decode cJ14_checkBoundsOffCount 9 = .ok (.ireturn, 1) := dk_172 (dk_at dksJ14_checkBoundsOffCount_0 9 rfl rfl)
abbrev cJ14_getBytes : ByteArray := prog_37_method_147_code
def yJ14_getBytes : MethodName := ⟨RJ14, "getBytes", "([BIB)V"⟩
def dkwJ14_getBytes_1 : List UInt8 := [184, 0, 212, 167, 0, 18, 42, 180, 0, 9, 3, 43, 28, 42, 180, 0, 9, 190, 184, 0, 106, 177]
abbrev dktJ14_getBytes_1 : List UInt8 := dkwJ14_getBytes_1 ++ []
def dkwJ14_getBytes_0 : List UInt8 := [42, 182, 1, 79, 29, 160, 0, 23, 42, 180, 0, 9, 3, 43, 28, 29, 120, 42, 180, 0, 9, 190]
abbrev dktJ14_getBytes_0 : List UInt8 := dkwJ14_getBytes_0 ++ dktJ14_getBytes_1
theorem dksJ14_getBytes_0 : cJ14_getBytes.data.toList.drop 0 = dktJ14_getBytes_0 := by decide +kernel
theorem dksJ14_getBytes_1 : cJ14_getBytes.data.toList.drop 22 = dktJ14_getBytes_1 := dk_seg dksJ14_getBytes_0 22 rfl rfl
theorem dJ14_getBytes_0 : decode cJ14_getBytes 0 = .ok (.aload_n 0, 1) := dk_42 (dk_at dksJ14_getBytes_0 0 rfl rfl)
theorem dJ14_getBytes_1 : decode cJ14_getBytes 1 = .ok (.invokevirtual 335, 3) := dk_182 1 79 (dk_at dksJ14_getBytes_0 1 rfl rfl)
theorem dJ14_getBytes_4 : decode cJ14_getBytes 4 = .ok (.iload_n 3, 1) := dk_29 (dk_at dksJ14_getBytes_0 4 rfl rfl)
theorem dJ14_getBytes_5 : decode cJ14_getBytes 5 = .ok (.if_icmp .ne 23, 3) := dk_160 0 23 (dk_at dksJ14_getBytes_0 5 rfl rfl)
theorem dJ14_getBytes_8 : decode cJ14_getBytes 8 = .ok (.aload_n 0, 1) := dk_42 (dk_at dksJ14_getBytes_0 8 rfl rfl)
theorem dJ14_getBytes_9 : decode cJ14_getBytes 9 = .ok (.getfield 9, 3) := dk_180 0 9 (dk_at dksJ14_getBytes_0 9 rfl rfl)
theorem dJ14_getBytes_12 : decode cJ14_getBytes 12 = .ok (.iconst 0, 1) := dk_3 (dk_at dksJ14_getBytes_0 12 rfl rfl)
theorem dJ14_getBytes_13 : decode cJ14_getBytes 13 = .ok (.aload_n 1, 1) := dk_43 (dk_at dksJ14_getBytes_0 13 rfl rfl)
theorem dJ14_getBytes_14 : decode cJ14_getBytes 14 = .ok (.iload_n 2, 1) := dk_28 (dk_at dksJ14_getBytes_0 14 rfl rfl)
theorem dJ14_getBytes_15 : decode cJ14_getBytes 15 = .ok (.iload_n 3, 1) := dk_29 (dk_at dksJ14_getBytes_0 15 rfl rfl)
theorem dJ14_getBytes_16 : decode cJ14_getBytes 16 = .ok (.ishl, 1) := dk_120 (dk_at dksJ14_getBytes_0 16 rfl rfl)
theorem dJ14_getBytes_17 : decode cJ14_getBytes 17 = .ok (.aload_n 0, 1) := dk_42 (dk_at dksJ14_getBytes_0 17 rfl rfl)
theorem dJ14_getBytes_18 : decode cJ14_getBytes 18 = .ok (.getfield 9, 3) := dk_180 0 9 (dk_at dksJ14_getBytes_0 18 rfl rfl)
theorem dJ14_getBytes_21 : decode cJ14_getBytes 21 = .ok (.arraylength, 1) := dk_190 (dk_at dksJ14_getBytes_0 21 rfl rfl)
theorem dJ14_getBytes_22 : decode cJ14_getBytes 22 = .ok (.invokestatic 212, 3) := dk_184 0 212 (dk_at dksJ14_getBytes_1 0 rfl rfl)
theorem dJ14_getBytes_25 : decode cJ14_getBytes 25 = .ok (.goto 18, 3) := dk_167 0 18 (dk_at dksJ14_getBytes_1 3 rfl rfl)
theorem dJ14_getBytes_28 : decode cJ14_getBytes 28 = .ok (.aload_n 0, 1) := dk_42 (dk_at dksJ14_getBytes_1 6 rfl rfl)
theorem dJ14_getBytes_29 : decode cJ14_getBytes 29 = .ok (.getfield 9, 3) := dk_180 0 9 (dk_at dksJ14_getBytes_1 7 rfl rfl)
theorem dJ14_getBytes_32 : decode cJ14_getBytes 32 = .ok (.iconst 0, 1) := dk_3 (dk_at dksJ14_getBytes_1 10 rfl rfl)
theorem dJ14_getBytes_33 : decode cJ14_getBytes 33 = .ok (.aload_n 1, 1) := dk_43 (dk_at dksJ14_getBytes_1 11 rfl rfl)
theorem dJ14_getBytes_34 : decode cJ14_getBytes 34 = .ok (.iload_n 2, 1) := dk_28 (dk_at dksJ14_getBytes_1 12 rfl rfl)
theorem dJ14_getBytes_35 : decode cJ14_getBytes 35 = .ok (.aload_n 0, 1) := dk_42 (dk_at dksJ14_getBytes_1 13 rfl rfl)
theorem dJ14_getBytes_36 : decode cJ14_getBytes 36 = .ok (.getfield 9, 3) := dk_180 0 9 (dk_at dksJ14_getBytes_1 14 rfl rfl)
theorem dJ14_getBytes_39 : decode cJ14_getBytes 39 = .ok (.arraylength, 1) := dk_190 (dk_at dksJ14_getBytes_1 17 rfl rfl)
theorem dJ14_getBytes_40 : decode cJ14_getBytes 40 = .ok (.invokestatic 106, 3) := dk_184 0 106 (dk_at dksJ14_getBytes_1 18 rfl rfl)
theorem dJ14_getBytes_43 : decode cJ14_getBytes 43 = .ok (.return_, 1) := dk_177 (dk_at dksJ14_getBytes_1 21 rfl rfl)
abbrev cJ14_init : ByteArray := prog_37_method_53_code
def yJ14_init : MethodName := ⟨RJ14, "<init>", "(Ljava/lang/StringBuilder;)V"⟩
def dkwJ14_init_0 : List UInt8 := [42, 43, 1, 183, 1, 233, 177]
abbrev dktJ14_init_0 : List UInt8 := dkwJ14_init_0 ++ []
theorem dksJ14_init_0 : cJ14_init.data.toList.drop 0 = dktJ14_init_0 := by decide +kernel
theorem dJ14_init_0 : decode cJ14_init 0 = .ok (.aload_n 0, 1) := dk_42 (dk_at dksJ14_init_0 0 rfl rfl)
theorem dJ14_init_1 : decode cJ14_init 1 = .ok (.aload_n 1, 1) := dk_43 (dk_at dksJ14_init_0 1 rfl rfl)
theorem dJ14_init_2 : decode cJ14_init 2 = .ok (.aconst_null, 1) := dk_1 (dk_at dksJ14_init_0 2 rfl rfl)
theorem dJ14_init_3 : decode cJ14_init 3 = .ok (.invokespecial 489, 3) := dk_183 1 233 (dk_at dksJ14_init_0 3 rfl rfl)
theorem dJ14_init_6 : decode cJ14_init 6 = .ok (.return_, 1) := dk_177 (dk_at dksJ14_init_0 6 rfl rfl)
abbrev cJ14_init_2 : ByteArray := prog_37_method_150_code
def yJ14_init_2 : MethodName := ⟨RJ14, "<init>", "(Ljava/lang/AbstractStringBuilder;Ljava/lang/Void;)V"⟩
def dkwJ14_init_2_4 : List UInt8 := [181, 0, 9, 177]
abbrev dktJ14_init_2_4 : List UInt8 := dkwJ14_init_2_4 ++ []
def dkwJ14_init_2_3 : List UInt8 := [184, 0, 47, 181, 0, 15, 177, 42, 4, 181, 0, 15, 42, 45, 3, 21, 4, 4, 120, 184, 0, 54]
abbrev dktJ14_init_2_3 : List UInt8 := dkwJ14_init_2_3 ++ dktJ14_init_2_4
def dkwJ14_init_2_2 : List UInt8 := [180, 4, 24, 153, 0, 28, 42, 45, 3, 21, 4, 184, 4, 27, 181, 0, 9, 42, 42, 180, 0, 9, 21, 4]
abbrev dktJ14_init_2_2 : List UInt8 := dkwJ14_init_2_2 ++ dktJ14_init_2_3
def dkwJ14_init_2_1 : List UInt8 := [181, 0, 15, 42, 45, 3, 21, 4, 184, 0, 54, 181, 0, 9, 167, 0, 59, 178, 0, 38, 153, 0, 35, 43]
abbrev dktJ14_init_2_1 : List UInt8 := dkwJ14_init_2_1 ++ dktJ14_init_2_2
def dkwJ14_init_2_0 : List UInt8 := [42, 183, 0, 1, 43, 182, 2, 40, 78, 43, 182, 2, 37, 54, 4, 43, 182, 4, 23, 153, 0, 22, 42, 3]
abbrev dktJ14_init_2_0 : List UInt8 := dkwJ14_init_2_0 ++ dktJ14_init_2_1
theorem dksJ14_init_2_0 : cJ14_init_2.data.toList.drop 0 = dktJ14_init_2_0 := by decide +kernel
theorem dksJ14_init_2_1 : cJ14_init_2.data.toList.drop 24 = dktJ14_init_2_1 := dk_seg dksJ14_init_2_0 24 rfl rfl
theorem dksJ14_init_2_2 : cJ14_init_2.data.toList.drop 48 = dktJ14_init_2_2 := dk_seg dksJ14_init_2_1 24 rfl rfl
theorem dksJ14_init_2_3 : cJ14_init_2.data.toList.drop 72 = dktJ14_init_2_3 := dk_seg dksJ14_init_2_2 24 rfl rfl
theorem dksJ14_init_2_4 : cJ14_init_2.data.toList.drop 94 = dktJ14_init_2_4 := dk_seg dksJ14_init_2_3 22 rfl rfl
theorem dJ14_init_2_0 : decode cJ14_init_2 0 = .ok (.aload_n 0, 1) := dk_42 (dk_at dksJ14_init_2_0 0 rfl rfl)
theorem dJ14_init_2_1 : decode cJ14_init_2 1 = .ok (.invokespecial 1, 3) := dk_183 0 1 (dk_at dksJ14_init_2_0 1 rfl rfl)
theorem dJ14_init_2_4 : decode cJ14_init_2 4 = .ok (.aload_n 1, 1) := dk_43 (dk_at dksJ14_init_2_0 4 rfl rfl)
theorem dJ14_init_2_5 : decode cJ14_init_2 5 = .ok (.invokevirtual 552, 3) := dk_182 2 40 (dk_at dksJ14_init_2_0 5 rfl rfl)
theorem dJ14_init_2_8 : decode cJ14_init_2 8 = .ok (.astore_n 3, 1) := dk_78 (dk_at dksJ14_init_2_0 8 rfl rfl)
theorem dJ14_init_2_9 : decode cJ14_init_2 9 = .ok (.aload_n 1, 1) := dk_43 (dk_at dksJ14_init_2_0 9 rfl rfl)
theorem dJ14_init_2_10 : decode cJ14_init_2 10 = .ok (.invokevirtual 549, 3) := dk_182 2 37 (dk_at dksJ14_init_2_0 10 rfl rfl)
theorem dJ14_init_2_13 : decode cJ14_init_2 13 = .ok (.istore 4, 2) := dk_54 4 (dk_at dksJ14_init_2_0 13 rfl rfl)
theorem dJ14_init_2_15 : decode cJ14_init_2 15 = .ok (.aload_n 1, 1) := dk_43 (dk_at dksJ14_init_2_0 15 rfl rfl)
theorem dJ14_init_2_16 : decode cJ14_init_2 16 = .ok (.invokevirtual 1047, 3) := dk_182 4 23 (dk_at dksJ14_init_2_0 16 rfl rfl)
theorem dJ14_init_2_19 : decode cJ14_init_2 19 = .ok (.ifCond .eq 22, 3) := dk_153 0 22 (dk_at dksJ14_init_2_0 19 rfl rfl)
theorem dJ14_init_2_22 : decode cJ14_init_2 22 = .ok (.aload_n 0, 1) := dk_42 (dk_at dksJ14_init_2_0 22 rfl rfl)
theorem dJ14_init_2_23 : decode cJ14_init_2 23 = .ok (.iconst 0, 1) := dk_3 (dk_at dksJ14_init_2_0 23 rfl rfl)
theorem dJ14_init_2_24 : decode cJ14_init_2 24 = .ok (.putfield 15, 3) := dk_181 0 15 (dk_at dksJ14_init_2_1 0 rfl rfl)
theorem dJ14_init_2_27 : decode cJ14_init_2 27 = .ok (.aload_n 0, 1) := dk_42 (dk_at dksJ14_init_2_1 3 rfl rfl)
theorem dJ14_init_2_28 : decode cJ14_init_2 28 = .ok (.aload_n 3, 1) := dk_45 (dk_at dksJ14_init_2_1 4 rfl rfl)
theorem dJ14_init_2_29 : decode cJ14_init_2 29 = .ok (.iconst 0, 1) := dk_3 (dk_at dksJ14_init_2_1 5 rfl rfl)
theorem dJ14_init_2_30 : decode cJ14_init_2 30 = .ok (.iload 4, 2) := dk_21 4 (dk_at dksJ14_init_2_1 6 rfl rfl)
theorem dJ14_init_2_32 : decode cJ14_init_2 32 = .ok (.invokestatic 54, 3) := dk_184 0 54 (dk_at dksJ14_init_2_1 8 rfl rfl)
theorem dJ14_init_2_35 : decode cJ14_init_2 35 = .ok (.putfield 9, 3) := dk_181 0 9 (dk_at dksJ14_init_2_1 11 rfl rfl)
theorem dJ14_init_2_38 : decode cJ14_init_2 38 = .ok (.goto 59, 3) := dk_167 0 59 (dk_at dksJ14_init_2_1 14 rfl rfl)
theorem dJ14_init_2_41 : decode cJ14_init_2 41 = .ok (.getstatic 38, 3) := dk_178 0 38 (dk_at dksJ14_init_2_1 17 rfl rfl)
theorem dJ14_init_2_44 : decode cJ14_init_2 44 = .ok (.ifCond .eq 35, 3) := dk_153 0 35 (dk_at dksJ14_init_2_1 20 rfl rfl)
theorem dJ14_init_2_47 : decode cJ14_init_2 47 = .ok (.aload_n 1, 1) := dk_43 (dk_at dksJ14_init_2_1 23 rfl rfl)
theorem dJ14_init_2_48 : decode cJ14_init_2 48 = .ok (.getfield 1048, 3) := dk_180 4 24 (dk_at dksJ14_init_2_2 0 rfl rfl)
theorem dJ14_init_2_51 : decode cJ14_init_2 51 = .ok (.ifCond .eq 28, 3) := dk_153 0 28 (dk_at dksJ14_init_2_2 3 rfl rfl)
theorem dJ14_init_2_54 : decode cJ14_init_2 54 = .ok (.aload_n 0, 1) := dk_42 (dk_at dksJ14_init_2_2 6 rfl rfl)
theorem dJ14_init_2_55 : decode cJ14_init_2 55 = .ok (.aload_n 3, 1) := dk_45 (dk_at dksJ14_init_2_2 7 rfl rfl)
theorem dJ14_init_2_56 : decode cJ14_init_2 56 = .ok (.iconst 0, 1) := dk_3 (dk_at dksJ14_init_2_2 8 rfl rfl)
theorem dJ14_init_2_57 : decode cJ14_init_2 57 = .ok (.iload 4, 2) := dk_21 4 (dk_at dksJ14_init_2_2 9 rfl rfl)
theorem dJ14_init_2_59 : decode cJ14_init_2 59 = .ok (.invokestatic 1051, 3) := dk_184 4 27 (dk_at dksJ14_init_2_2 11 rfl rfl)
theorem dJ14_init_2_62 : decode cJ14_init_2 62 = .ok (.putfield 9, 3) := dk_181 0 9 (dk_at dksJ14_init_2_2 14 rfl rfl)
theorem dJ14_init_2_65 : decode cJ14_init_2 65 = .ok (.aload_n 0, 1) := dk_42 (dk_at dksJ14_init_2_2 17 rfl rfl)
theorem dJ14_init_2_66 : decode cJ14_init_2 66 = .ok (.aload_n 0, 1) := dk_42 (dk_at dksJ14_init_2_2 18 rfl rfl)
theorem dJ14_init_2_67 : decode cJ14_init_2 67 = .ok (.getfield 9, 3) := dk_180 0 9 (dk_at dksJ14_init_2_2 19 rfl rfl)
theorem dJ14_init_2_70 : decode cJ14_init_2 70 = .ok (.iload 4, 2) := dk_21 4 (dk_at dksJ14_init_2_2 22 rfl rfl)
theorem dJ14_init_2_72 : decode cJ14_init_2 72 = .ok (.invokestatic 47, 3) := dk_184 0 47 (dk_at dksJ14_init_2_3 0 rfl rfl)
theorem dJ14_init_2_75 : decode cJ14_init_2 75 = .ok (.putfield 15, 3) := dk_181 0 15 (dk_at dksJ14_init_2_3 3 rfl rfl)
theorem dJ14_init_2_78 : decode cJ14_init_2 78 = .ok (.return_, 1) := dk_177 (dk_at dksJ14_init_2_3 6 rfl rfl)
theorem dJ14_init_2_79 : decode cJ14_init_2 79 = .ok (.aload_n 0, 1) := dk_42 (dk_at dksJ14_init_2_3 7 rfl rfl)
theorem dJ14_init_2_80 : decode cJ14_init_2 80 = .ok (.iconst 1, 1) := dk_4 (dk_at dksJ14_init_2_3 8 rfl rfl)
theorem dJ14_init_2_81 : decode cJ14_init_2 81 = .ok (.putfield 15, 3) := dk_181 0 15 (dk_at dksJ14_init_2_3 9 rfl rfl)
theorem dJ14_init_2_84 : decode cJ14_init_2 84 = .ok (.aload_n 0, 1) := dk_42 (dk_at dksJ14_init_2_3 12 rfl rfl)
theorem dJ14_init_2_85 : decode cJ14_init_2 85 = .ok (.aload_n 3, 1) := dk_45 (dk_at dksJ14_init_2_3 13 rfl rfl)
theorem dJ14_init_2_86 : decode cJ14_init_2 86 = .ok (.iconst 0, 1) := dk_3 (dk_at dksJ14_init_2_3 14 rfl rfl)
theorem dJ14_init_2_87 : decode cJ14_init_2 87 = .ok (.iload 4, 2) := dk_21 4 (dk_at dksJ14_init_2_3 15 rfl rfl)
theorem dJ14_init_2_89 : decode cJ14_init_2 89 = .ok (.iconst 1, 1) := dk_4 (dk_at dksJ14_init_2_3 17 rfl rfl)
theorem dJ14_init_2_90 : decode cJ14_init_2 90 = .ok (.ishl, 1) := dk_120 (dk_at dksJ14_init_2_3 18 rfl rfl)
theorem dJ14_init_2_91 : decode cJ14_init_2 91 = .ok (.invokestatic 54, 3) := dk_184 0 54 (dk_at dksJ14_init_2_3 19 rfl rfl)
theorem dJ14_init_2_94 : decode cJ14_init_2 94 = .ok (.putfield 9, 3) := dk_181 0 9 (dk_at dksJ14_init_2_4 0 rfl rfl)
theorem dJ14_init_2_97 : decode cJ14_init_2 97 = .ok (.return_, 1) := dk_177 (dk_at dksJ14_init_2_4 3 rfl rfl)
abbrev cJ14_checkIndex : ByteArray := prog_37_method_155_code
def yJ14_checkIndex : MethodName := ⟨RJ14, "checkIndex", "(II)V"⟩
def dkwJ14_checkIndex_0 : List UInt8 := [26, 27, 178, 4, 29, 184, 4, 35, 87, 177]
abbrev dktJ14_checkIndex_0 : List UInt8 := dkwJ14_checkIndex_0 ++ []
theorem dksJ14_checkIndex_0 : cJ14_checkIndex.data.toList.drop 0 = dktJ14_checkIndex_0 := by decide +kernel
theorem dJ14_checkIndex_0 : decode cJ14_checkIndex 0 = .ok (.iload_n 0, 1) := dk_26 (dk_at dksJ14_checkIndex_0 0 rfl rfl)
theorem dJ14_checkIndex_1 : decode cJ14_checkIndex 1 = .ok (.iload_n 1, 1) := dk_27 (dk_at dksJ14_checkIndex_0 1 rfl rfl)
theorem dJ14_checkIndex_2 : decode cJ14_checkIndex 2 = .ok (.getstatic 1053, 3) := dk_178 4 29 (dk_at dksJ14_checkIndex_0 2 rfl rfl)
theorem dJ14_checkIndex_5 : decode cJ14_checkIndex 5 = .ok (.invokestatic 1059, 3) := dk_184 4 35 (dk_at dksJ14_checkIndex_0 5 rfl rfl)
theorem dJ14_checkIndex_8 : decode cJ14_checkIndex 8 = .ok (.pop, 1) := dk_87 (dk_at dksJ14_checkIndex_0 8 rfl rfl)
theorem dJ14_checkIndex_9 : decode cJ14_checkIndex 9 = .ok (.return_, 1) := dk_177 (dk_at dksJ14_checkIndex_0 9 rfl rfl)
abbrev cJ14_equals : ByteArray := prog_37_method_66_code
def yJ14_equals : MethodName := ⟨RJ14, "equals", "(Ljava/lang/Object;)Z"⟩
def dkwJ14_equals_2 : List UInt8 := [184, 2, 29, 153, 0, 7, 4, 167, 0, 4, 3, 172]
abbrev dktJ14_equals_2 : List UInt8 := dkwJ14_equals_2 ++ []
def dkwJ14_equals_1 : List UInt8 := [153, 0, 14, 42, 180, 0, 15, 44, 180, 0, 15, 160, 0, 21, 42, 180, 0, 9, 44, 180, 0, 9]
abbrev dktJ14_equals_1 : List UInt8 := dkwJ14_equals_1 ++ dktJ14_equals_2
def dkwJ14_equals_0 : List UInt8 := [42, 43, 166, 0, 5, 4, 172, 43, 193, 0, 10, 153, 0, 43, 43, 192, 0, 10, 77, 178, 0, 38]
abbrev dktJ14_equals_0 : List UInt8 := dkwJ14_equals_0 ++ dktJ14_equals_1
theorem dksJ14_equals_0 : cJ14_equals.data.toList.drop 0 = dktJ14_equals_0 := by decide +kernel
theorem dksJ14_equals_1 : cJ14_equals.data.toList.drop 22 = dktJ14_equals_1 := dk_seg dksJ14_equals_0 22 rfl rfl
theorem dksJ14_equals_2 : cJ14_equals.data.toList.drop 44 = dktJ14_equals_2 := dk_seg dksJ14_equals_1 22 rfl rfl
theorem dJ14_equals_0 : decode cJ14_equals 0 = .ok (.aload_n 0, 1) := dk_42 (dk_at dksJ14_equals_0 0 rfl rfl)
theorem dJ14_equals_1 : decode cJ14_equals 1 = .ok (.aload_n 1, 1) := dk_43 (dk_at dksJ14_equals_0 1 rfl rfl)
theorem dJ14_equals_2 : decode cJ14_equals 2 = .ok (.if_acmp .ne 5, 3) := dk_166 0 5 (dk_at dksJ14_equals_0 2 rfl rfl)
theorem dJ14_equals_5 : decode cJ14_equals 5 = .ok (.iconst 1, 1) := dk_4 (dk_at dksJ14_equals_0 5 rfl rfl)
theorem dJ14_equals_6 : decode cJ14_equals 6 = .ok (.ireturn, 1) := dk_172 (dk_at dksJ14_equals_0 6 rfl rfl)
theorem dJ14_equals_7 : decode cJ14_equals 7 = .ok (.aload_n 1, 1) := dk_43 (dk_at dksJ14_equals_0 7 rfl rfl)
theorem dJ14_equals_8 : decode cJ14_equals 8 = .ok (.instanceof 10, 3) := dk_193 0 10 (dk_at dksJ14_equals_0 8 rfl rfl)
theorem dJ14_equals_11 : decode cJ14_equals 11 = .ok (.ifCond .eq 43, 3) := dk_153 0 43 (dk_at dksJ14_equals_0 11 rfl rfl)
theorem dJ14_equals_14 : decode cJ14_equals 14 = .ok (.aload_n 1, 1) := dk_43 (dk_at dksJ14_equals_0 14 rfl rfl)
theorem dJ14_equals_15 : decode cJ14_equals 15 = .ok (.checkcast 10, 3) := dk_192 0 10 (dk_at dksJ14_equals_0 15 rfl rfl)
theorem dJ14_equals_18 : decode cJ14_equals 18 = .ok (.astore_n 2, 1) := dk_77 (dk_at dksJ14_equals_0 18 rfl rfl)
theorem dJ14_equals_19 : decode cJ14_equals 19 = .ok (.getstatic 38, 3) := dk_178 0 38 (dk_at dksJ14_equals_0 19 rfl rfl)
theorem dJ14_equals_22 : decode cJ14_equals 22 = .ok (.ifCond .eq 14, 3) := dk_153 0 14 (dk_at dksJ14_equals_1 0 rfl rfl)
theorem dJ14_equals_25 : decode cJ14_equals 25 = .ok (.aload_n 0, 1) := dk_42 (dk_at dksJ14_equals_1 3 rfl rfl)
theorem dJ14_equals_26 : decode cJ14_equals 26 = .ok (.getfield 15, 3) := dk_180 0 15 (dk_at dksJ14_equals_1 4 rfl rfl)
theorem dJ14_equals_29 : decode cJ14_equals 29 = .ok (.aload_n 2, 1) := dk_44 (dk_at dksJ14_equals_1 7 rfl rfl)
theorem dJ14_equals_30 : decode cJ14_equals 30 = .ok (.getfield 15, 3) := dk_180 0 15 (dk_at dksJ14_equals_1 8 rfl rfl)
theorem dJ14_equals_33 : decode cJ14_equals 33 = .ok (.if_icmp .ne 21, 3) := dk_160 0 21 (dk_at dksJ14_equals_1 11 rfl rfl)
theorem dJ14_equals_36 : decode cJ14_equals 36 = .ok (.aload_n 0, 1) := dk_42 (dk_at dksJ14_equals_1 14 rfl rfl)
theorem dJ14_equals_37 : decode cJ14_equals 37 = .ok (.getfield 9, 3) := dk_180 0 9 (dk_at dksJ14_equals_1 15 rfl rfl)
theorem dJ14_equals_40 : decode cJ14_equals 40 = .ok (.aload_n 2, 1) := dk_44 (dk_at dksJ14_equals_1 18 rfl rfl)
theorem dJ14_equals_41 : decode cJ14_equals 41 = .ok (.getfield 9, 3) := dk_180 0 9 (dk_at dksJ14_equals_1 19 rfl rfl)
theorem dJ14_equals_44 : decode cJ14_equals 44 = .ok (.invokestatic 541, 3) := dk_184 2 29 (dk_at dksJ14_equals_2 0 rfl rfl)
theorem dJ14_equals_47 : decode cJ14_equals 47 = .ok (.ifCond .eq 7, 3) := dk_153 0 7 (dk_at dksJ14_equals_2 3 rfl rfl)
theorem dJ14_equals_50 : decode cJ14_equals 50 = .ok (.iconst 1, 1) := dk_4 (dk_at dksJ14_equals_2 6 rfl rfl)
theorem dJ14_equals_51 : decode cJ14_equals 51 = .ok (.goto 4, 3) := dk_167 0 4 (dk_at dksJ14_equals_2 7 rfl rfl)
theorem dJ14_equals_54 : decode cJ14_equals 54 = .ok (.iconst 0, 1) := dk_3 (dk_at dksJ14_equals_2 10 rfl rfl)
theorem dJ14_equals_55 : decode cJ14_equals 55 = .ok (.ireturn, 1) := dk_172 (dk_at dksJ14_equals_2 11 rfl rfl)
abbrev cJ14_hashCode : ByteArray := prog_37_method_78_code
def yJ14_hashCode : MethodName := ⟨RJ14, "hashCode", "()I"⟩
def dkwJ14_hashCode_2 : List UInt8 := [181, 0, 23, 167, 0, 8, 42, 27, 181, 0, 19, 27, 172]
abbrev dktJ14_hashCode_2 : List UInt8 := dkwJ14_hashCode_2 ++ []
def dkwJ14_hashCode_1 : List UInt8 := [180, 0, 9, 184, 2, 116, 167, 0, 10, 42, 180, 0, 9, 184, 2, 120, 60, 27, 154, 0, 11, 42, 4]
abbrev dktJ14_hashCode_1 : List UInt8 := dkwJ14_hashCode_1 ++ dktJ14_hashCode_2
def dkwJ14_hashCode_0 : List UInt8 := [42, 180, 0, 19, 60, 27, 154, 0, 52, 42, 180, 0, 23, 154, 0, 45, 42, 182, 1, 236, 153, 0, 13, 42]
abbrev dktJ14_hashCode_0 : List UInt8 := dkwJ14_hashCode_0 ++ dktJ14_hashCode_1
theorem dksJ14_hashCode_0 : cJ14_hashCode.data.toList.drop 0 = dktJ14_hashCode_0 := by decide +kernel
theorem dksJ14_hashCode_1 : cJ14_hashCode.data.toList.drop 24 = dktJ14_hashCode_1 := dk_seg dksJ14_hashCode_0 24 rfl rfl
theorem dksJ14_hashCode_2 : cJ14_hashCode.data.toList.drop 47 = dktJ14_hashCode_2 := dk_seg dksJ14_hashCode_1 23 rfl rfl
theorem dJ14_hashCode_0 : decode cJ14_hashCode 0 = .ok (.aload_n 0, 1) := dk_42 (dk_at dksJ14_hashCode_0 0 rfl rfl)
theorem dJ14_hashCode_1 : decode cJ14_hashCode 1 = .ok (.getfield 19, 3) := dk_180 0 19 (dk_at dksJ14_hashCode_0 1 rfl rfl)
theorem dJ14_hashCode_4 : decode cJ14_hashCode 4 = .ok (.istore_n 1, 1) := dk_60 (dk_at dksJ14_hashCode_0 4 rfl rfl)
theorem dJ14_hashCode_5 : decode cJ14_hashCode 5 = .ok (.iload_n 1, 1) := dk_27 (dk_at dksJ14_hashCode_0 5 rfl rfl)
theorem dJ14_hashCode_6 : decode cJ14_hashCode 6 = .ok (.ifCond .ne 52, 3) := dk_154 0 52 (dk_at dksJ14_hashCode_0 6 rfl rfl)
theorem dJ14_hashCode_9 : decode cJ14_hashCode 9 = .ok (.aload_n 0, 1) := dk_42 (dk_at dksJ14_hashCode_0 9 rfl rfl)
theorem dJ14_hashCode_10 : decode cJ14_hashCode 10 = .ok (.getfield 23, 3) := dk_180 0 23 (dk_at dksJ14_hashCode_0 10 rfl rfl)
theorem dJ14_hashCode_13 : decode cJ14_hashCode 13 = .ok (.ifCond .ne 45, 3) := dk_154 0 45 (dk_at dksJ14_hashCode_0 13 rfl rfl)
theorem dJ14_hashCode_16 : decode cJ14_hashCode 16 = .ok (.aload_n 0, 1) := dk_42 (dk_at dksJ14_hashCode_0 16 rfl rfl)
theorem dJ14_hashCode_17 : decode cJ14_hashCode 17 = .ok (.invokevirtual 492, 3) := dk_182 1 236 (dk_at dksJ14_hashCode_0 17 rfl rfl)
theorem dJ14_hashCode_20 : decode cJ14_hashCode 20 = .ok (.ifCond .eq 13, 3) := dk_153 0 13 (dk_at dksJ14_hashCode_0 20 rfl rfl)
theorem dJ14_hashCode_23 : decode cJ14_hashCode 23 = .ok (.aload_n 0, 1) := dk_42 (dk_at dksJ14_hashCode_0 23 rfl rfl)
theorem dJ14_hashCode_24 : decode cJ14_hashCode 24 = .ok (.getfield 9, 3) := dk_180 0 9 (dk_at dksJ14_hashCode_1 0 rfl rfl)
theorem dJ14_hashCode_27 : decode cJ14_hashCode 27 = .ok (.invokestatic 628, 3) := dk_184 2 116 (dk_at dksJ14_hashCode_1 3 rfl rfl)
theorem dJ14_hashCode_30 : decode cJ14_hashCode 30 = .ok (.goto 10, 3) := dk_167 0 10 (dk_at dksJ14_hashCode_1 6 rfl rfl)
theorem dJ14_hashCode_33 : decode cJ14_hashCode 33 = .ok (.aload_n 0, 1) := dk_42 (dk_at dksJ14_hashCode_1 9 rfl rfl)
theorem dJ14_hashCode_34 : decode cJ14_hashCode 34 = .ok (.getfield 9, 3) := dk_180 0 9 (dk_at dksJ14_hashCode_1 10 rfl rfl)
theorem dJ14_hashCode_37 : decode cJ14_hashCode 37 = .ok (.invokestatic 632, 3) := dk_184 2 120 (dk_at dksJ14_hashCode_1 13 rfl rfl)
theorem dJ14_hashCode_40 : decode cJ14_hashCode 40 = .ok (.istore_n 1, 1) := dk_60 (dk_at dksJ14_hashCode_1 16 rfl rfl)
theorem dJ14_hashCode_41 : decode cJ14_hashCode 41 = .ok (.iload_n 1, 1) := dk_27 (dk_at dksJ14_hashCode_1 17 rfl rfl)
theorem dJ14_hashCode_42 : decode cJ14_hashCode 42 = .ok (.ifCond .ne 11, 3) := dk_154 0 11 (dk_at dksJ14_hashCode_1 18 rfl rfl)
theorem dJ14_hashCode_45 : decode cJ14_hashCode 45 = .ok (.aload_n 0, 1) := dk_42 (dk_at dksJ14_hashCode_1 21 rfl rfl)
theorem dJ14_hashCode_46 : decode cJ14_hashCode 46 = .ok (.iconst 1, 1) := dk_4 (dk_at dksJ14_hashCode_1 22 rfl rfl)
theorem dJ14_hashCode_47 : decode cJ14_hashCode 47 = .ok (.putfield 23, 3) := dk_181 0 23 (dk_at dksJ14_hashCode_2 0 rfl rfl)
theorem dJ14_hashCode_50 : decode cJ14_hashCode 50 = .ok (.goto 8, 3) := dk_167 0 8 (dk_at dksJ14_hashCode_2 3 rfl rfl)
theorem dJ14_hashCode_53 : decode cJ14_hashCode 53 = .ok (.aload_n 0, 1) := dk_42 (dk_at dksJ14_hashCode_2 6 rfl rfl)
theorem dJ14_hashCode_54 : decode cJ14_hashCode 54 = .ok (.iload_n 1, 1) := dk_27 (dk_at dksJ14_hashCode_2 7 rfl rfl)
theorem dJ14_hashCode_55 : decode cJ14_hashCode 55 = .ok (.putfield 19, 3) := dk_181 0 19 (dk_at dksJ14_hashCode_2 8 rfl rfl)
theorem dJ14_hashCode_58 : decode cJ14_hashCode 58 = .ok (.iload_n 1, 1) := dk_27 (dk_at dksJ14_hashCode_2 11 rfl rfl)
theorem dJ14_hashCode_59 : decode cJ14_hashCode 59 = .ok (.ireturn, 1) := dk_172 (dk_at dksJ14_hashCode_2 12 rfl rfl)
abbrev cJ14_isLatin1 : ByteArray := prog_37_method_154_code
def yJ14_isLatin1 : MethodName := ⟨RJ14, "isLatin1", "()Z"⟩
def dkwJ14_isLatin1_0 : List UInt8 := [178, 0, 38, 153, 0, 14, 42, 180, 0, 15, 154, 0, 7, 4, 167, 0, 4, 3, 172]
abbrev dktJ14_isLatin1_0 : List UInt8 := dkwJ14_isLatin1_0 ++ []
theorem dksJ14_isLatin1_0 : cJ14_isLatin1.data.toList.drop 0 = dktJ14_isLatin1_0 := by decide +kernel
theorem dJ14_isLatin1_0 : decode cJ14_isLatin1 0 = .ok (.getstatic 38, 3) := dk_178 0 38 (dk_at dksJ14_isLatin1_0 0 rfl rfl)
theorem dJ14_isLatin1_3 : decode cJ14_isLatin1 3 = .ok (.ifCond .eq 14, 3) := dk_153 0 14 (dk_at dksJ14_isLatin1_0 3 rfl rfl)
theorem dJ14_isLatin1_6 : decode cJ14_isLatin1 6 = .ok (.aload_n 0, 1) := dk_42 (dk_at dksJ14_isLatin1_0 6 rfl rfl)
theorem dJ14_isLatin1_7 : decode cJ14_isLatin1 7 = .ok (.getfield 15, 3) := dk_180 0 15 (dk_at dksJ14_isLatin1_0 7 rfl rfl)
theorem dJ14_isLatin1_10 : decode cJ14_isLatin1 10 = .ok (.ifCond .ne 7, 3) := dk_154 0 7 (dk_at dksJ14_isLatin1_0 10 rfl rfl)
theorem dJ14_isLatin1_13 : decode cJ14_isLatin1 13 = .ok (.iconst 1, 1) := dk_4 (dk_at dksJ14_isLatin1_0 13 rfl rfl)
theorem dJ14_isLatin1_14 : decode cJ14_isLatin1 14 = .ok (.goto 4, 3) := dk_167 0 4 (dk_at dksJ14_isLatin1_0 14 rfl rfl)
theorem dJ14_isLatin1_17 : decode cJ14_isLatin1 17 = .ok (.iconst 0, 1) := dk_3 (dk_at dksJ14_isLatin1_0 17 rfl rfl)
theorem dJ14_isLatin1_18 : decode cJ14_isLatin1 18 = .ok (.ireturn, 1) := dk_172 (dk_at dksJ14_isLatin1_0 18 rfl rfl)
abbrev cJ14_compareTo : ByteArray := prog_37_method_162_code
def yJ14_compareTo : MethodName := ⟨RJ14, "compareTo", "(Ljava/lang/Object;)I"⟩
def dkwJ14_compareTo_0 : List UInt8 := [42, 43, 192, 0, 10, 182, 4, 60, 172]
abbrev dktJ14_compareTo_0 : List UInt8 := dkwJ14_compareTo_0 ++ []
theorem dksJ14_compareTo_0 : cJ14_compareTo.data.toList.drop 0 = dktJ14_compareTo_0 := by decide +kernel
theorem dJ14_compareTo_0 : decode cJ14_compareTo 0 = .ok (.aload_n 0, 1) := dk_42 (dk_at dksJ14_compareTo_0 0 rfl rfl)
theorem dJ14_compareTo_1 : decode cJ14_compareTo 1 = .ok (.aload_n 1, 1) := dk_43 (dk_at dksJ14_compareTo_0 1 rfl rfl)
theorem dJ14_compareTo_2 : decode cJ14_compareTo 2 = .ok (.checkcast 10, 3) := dk_192 0 10 (dk_at dksJ14_compareTo_0 2 rfl rfl)
theorem dJ14_compareTo_5 : decode cJ14_compareTo 5 = .ok (.invokevirtual 1084, 3) := dk_182 4 60 (dk_at dksJ14_compareTo_0 5 rfl rfl)
theorem dJ14_compareTo_8 : decode cJ14_compareTo 8 = .ok (.ireturn, 1) := dk_172 (dk_at dksJ14_compareTo_0 8 rfl rfl)
abbrev cJ14_compareTo_2 : ByteArray := prog_37_method_71_code
def yJ14_compareTo_2 : MethodName := ⟨RJ14, "compareTo", "(Ljava/lang/String;)I"⟩
def dkwJ14_compareTo_2_2 : List UInt8 := [154, 0, 11, 44, 45, 184, 2, 79, 167, 0, 8, 44, 45, 184, 2, 82, 172]
abbrev dktJ14_compareTo_2_2 : List UInt8 := dkwJ14_compareTo_2_2 ++ []
def dkwJ14_compareTo_2_1 : List UInt8 := [160, 0, 22, 21, 4, 154, 0, 11, 44, 45, 184, 2, 74, 167, 0, 8, 44, 45, 184, 2, 78, 172, 21, 4]
abbrev dktJ14_compareTo_2_1 : List UInt8 := dkwJ14_compareTo_2_1 ++ dktJ14_compareTo_2_2
def dkwJ14_compareTo_2_0 : List UInt8 := [42, 180, 0, 9, 77, 43, 180, 0, 9, 78, 42, 182, 1, 79, 54, 4, 21, 4, 43, 182, 1, 79]
abbrev dktJ14_compareTo_2_0 : List UInt8 := dkwJ14_compareTo_2_0 ++ dktJ14_compareTo_2_1
theorem dksJ14_compareTo_2_0 : cJ14_compareTo_2.data.toList.drop 0 = dktJ14_compareTo_2_0 := by decide +kernel
theorem dksJ14_compareTo_2_1 : cJ14_compareTo_2.data.toList.drop 22 = dktJ14_compareTo_2_1 := dk_seg dksJ14_compareTo_2_0 22 rfl rfl
theorem dksJ14_compareTo_2_2 : cJ14_compareTo_2.data.toList.drop 46 = dktJ14_compareTo_2_2 := dk_seg dksJ14_compareTo_2_1 24 rfl rfl
theorem dJ14_compareTo_2_0 : decode cJ14_compareTo_2 0 = .ok (.aload_n 0, 1) := dk_42 (dk_at dksJ14_compareTo_2_0 0 rfl rfl)
theorem dJ14_compareTo_2_1 : decode cJ14_compareTo_2 1 = .ok (.getfield 9, 3) := dk_180 0 9 (dk_at dksJ14_compareTo_2_0 1 rfl rfl)
theorem dJ14_compareTo_2_4 : decode cJ14_compareTo_2 4 = .ok (.astore_n 2, 1) := dk_77 (dk_at dksJ14_compareTo_2_0 4 rfl rfl)
theorem dJ14_compareTo_2_5 : decode cJ14_compareTo_2 5 = .ok (.aload_n 1, 1) := dk_43 (dk_at dksJ14_compareTo_2_0 5 rfl rfl)
theorem dJ14_compareTo_2_6 : decode cJ14_compareTo_2 6 = .ok (.getfield 9, 3) := dk_180 0 9 (dk_at dksJ14_compareTo_2_0 6 rfl rfl)
theorem dJ14_compareTo_2_9 : decode cJ14_compareTo_2 9 = .ok (.astore_n 3, 1) := dk_78 (dk_at dksJ14_compareTo_2_0 9 rfl rfl)
theorem dJ14_compareTo_2_10 : decode cJ14_compareTo_2 10 = .ok (.aload_n 0, 1) := dk_42 (dk_at dksJ14_compareTo_2_0 10 rfl rfl)
theorem dJ14_compareTo_2_11 : decode cJ14_compareTo_2 11 = .ok (.invokevirtual 335, 3) := dk_182 1 79 (dk_at dksJ14_compareTo_2_0 11 rfl rfl)
theorem dJ14_compareTo_2_14 : decode cJ14_compareTo_2 14 = .ok (.istore 4, 2) := dk_54 4 (dk_at dksJ14_compareTo_2_0 14 rfl rfl)
theorem dJ14_compareTo_2_16 : decode cJ14_compareTo_2 16 = .ok (.iload 4, 2) := dk_21 4 (dk_at dksJ14_compareTo_2_0 16 rfl rfl)
theorem dJ14_compareTo_2_18 : decode cJ14_compareTo_2 18 = .ok (.aload_n 1, 1) := dk_43 (dk_at dksJ14_compareTo_2_0 18 rfl rfl)
theorem dJ14_compareTo_2_19 : decode cJ14_compareTo_2 19 = .ok (.invokevirtual 335, 3) := dk_182 1 79 (dk_at dksJ14_compareTo_2_0 19 rfl rfl)
theorem dJ14_compareTo_2_22 : decode cJ14_compareTo_2 22 = .ok (.if_icmp .ne 22, 3) := dk_160 0 22 (dk_at dksJ14_compareTo_2_1 0 rfl rfl)
theorem dJ14_compareTo_2_25 : decode cJ14_compareTo_2 25 = .ok (.iload 4, 2) := dk_21 4 (dk_at dksJ14_compareTo_2_1 3 rfl rfl)
theorem dJ14_compareTo_2_27 : decode cJ14_compareTo_2 27 = .ok (.ifCond .ne 11, 3) := dk_154 0 11 (dk_at dksJ14_compareTo_2_1 5 rfl rfl)
theorem dJ14_compareTo_2_30 : decode cJ14_compareTo_2 30 = .ok (.aload_n 2, 1) := dk_44 (dk_at dksJ14_compareTo_2_1 8 rfl rfl)
theorem dJ14_compareTo_2_31 : decode cJ14_compareTo_2 31 = .ok (.aload_n 3, 1) := dk_45 (dk_at dksJ14_compareTo_2_1 9 rfl rfl)
theorem dJ14_compareTo_2_32 : decode cJ14_compareTo_2 32 = .ok (.invokestatic 586, 3) := dk_184 2 74 (dk_at dksJ14_compareTo_2_1 10 rfl rfl)
theorem dJ14_compareTo_2_35 : decode cJ14_compareTo_2 35 = .ok (.goto 8, 3) := dk_167 0 8 (dk_at dksJ14_compareTo_2_1 13 rfl rfl)
theorem dJ14_compareTo_2_38 : decode cJ14_compareTo_2 38 = .ok (.aload_n 2, 1) := dk_44 (dk_at dksJ14_compareTo_2_1 16 rfl rfl)
theorem dJ14_compareTo_2_39 : decode cJ14_compareTo_2 39 = .ok (.aload_n 3, 1) := dk_45 (dk_at dksJ14_compareTo_2_1 17 rfl rfl)
theorem dJ14_compareTo_2_40 : decode cJ14_compareTo_2 40 = .ok (.invokestatic 590, 3) := dk_184 2 78 (dk_at dksJ14_compareTo_2_1 18 rfl rfl)
theorem dJ14_compareTo_2_43 : decode cJ14_compareTo_2 43 = .ok (.ireturn, 1) := dk_172 (dk_at dksJ14_compareTo_2_1 21 rfl rfl)
theorem dJ14_compareTo_2_44 : decode cJ14_compareTo_2 44 = .ok (.iload 4, 2) := dk_21 4 (dk_at dksJ14_compareTo_2_1 22 rfl rfl)
theorem dJ14_compareTo_2_46 : decode cJ14_compareTo_2 46 = .ok (.ifCond .ne 11, 3) := dk_154 0 11 (dk_at dksJ14_compareTo_2_2 0 rfl rfl)
theorem dJ14_compareTo_2_49 : decode cJ14_compareTo_2 49 = .ok (.aload_n 2, 1) := dk_44 (dk_at dksJ14_compareTo_2_2 3 rfl rfl)
theorem dJ14_compareTo_2_50 : decode cJ14_compareTo_2 50 = .ok (.aload_n 3, 1) := dk_45 (dk_at dksJ14_compareTo_2_2 4 rfl rfl)
theorem dJ14_compareTo_2_51 : decode cJ14_compareTo_2 51 = .ok (.invokestatic 591, 3) := dk_184 2 79 (dk_at dksJ14_compareTo_2_2 5 rfl rfl)
theorem dJ14_compareTo_2_54 : decode cJ14_compareTo_2 54 = .ok (.goto 8, 3) := dk_167 0 8 (dk_at dksJ14_compareTo_2_2 8 rfl rfl)
theorem dJ14_compareTo_2_57 : decode cJ14_compareTo_2 57 = .ok (.aload_n 2, 1) := dk_44 (dk_at dksJ14_compareTo_2_2 11 rfl rfl)
theorem dJ14_compareTo_2_58 : decode cJ14_compareTo_2 58 = .ok (.aload_n 3, 1) := dk_45 (dk_at dksJ14_compareTo_2_2 12 rfl rfl)
theorem dJ14_compareTo_2_59 : decode cJ14_compareTo_2 59 = .ok (.invokestatic 594, 3) := dk_184 2 82 (dk_at dksJ14_compareTo_2_2 13 rfl rfl)
theorem dJ14_compareTo_2_62 : decode cJ14_compareTo_2 62 = .ok (.ireturn, 1) := dk_172 (dk_at dksJ14_compareTo_2_2 16 rfl rfl)
abbrev cJ14_checkOffset : ByteArray := prog_37_method_156_code
def yJ14_checkOffset : MethodName := ⟨RJ14, "checkOffset", "(II)V"⟩
def dkwJ14_checkOffset_0 : List UInt8 := [26, 27, 27, 178, 4, 29, 184, 4, 38, 87, 177]
abbrev dktJ14_checkOffset_0 : List UInt8 := dkwJ14_checkOffset_0 ++ []
theorem dksJ14_checkOffset_0 : cJ14_checkOffset.data.toList.drop 0 = dktJ14_checkOffset_0 := by decide +kernel
theorem dJ14_checkOffset_0 : decode cJ14_checkOffset 0 = .ok (.iload_n 0, 1) := dk_26 (dk_at dksJ14_checkOffset_0 0 rfl rfl)
theorem dJ14_checkOffset_1 : decode cJ14_checkOffset 1 = .ok (.iload_n 1, 1) := dk_27 (dk_at dksJ14_checkOffset_0 1 rfl rfl)
theorem dJ14_checkOffset_2 : decode cJ14_checkOffset 2 = .ok (.iload_n 1, 1) := dk_27 (dk_at dksJ14_checkOffset_0 2 rfl rfl)
theorem dJ14_checkOffset_3 : decode cJ14_checkOffset 3 = .ok (.getstatic 1053, 3) := dk_178 4 29 (dk_at dksJ14_checkOffset_0 3 rfl rfl)
theorem dJ14_checkOffset_6 : decode cJ14_checkOffset 6 = .ok (.invokestatic 1062, 3) := dk_184 4 38 (dk_at dksJ14_checkOffset_0 6 rfl rfl)
theorem dJ14_checkOffset_9 : decode cJ14_checkOffset 9 = .ok (.pop, 1) := dk_87 (dk_at dksJ14_checkOffset_0 9 rfl rfl)
theorem dJ14_checkOffset_10 : decode cJ14_checkOffset 10 = .ok (.return_, 1) := dk_177 (dk_at dksJ14_checkOffset_0 10 rfl rfl)
abbrev cJ14_charAt : ByteArray := prog_37_method_56_code
def yJ14_charAt : MethodName := ⟨RJ14, "charAt", "(I)C"⟩
def dkwJ14_charAt_1 : List UInt8 := [172]
abbrev dktJ14_charAt_1 : List UInt8 := dkwJ14_charAt_1 ++ []
def dkwJ14_charAt_0 : List UInt8 := [42, 182, 1, 236, 153, 0, 12, 42, 180, 0, 9, 27, 184, 1, 239, 172, 42, 180, 0, 9, 27, 184, 1, 242]
abbrev dktJ14_charAt_0 : List UInt8 := dkwJ14_charAt_0 ++ dktJ14_charAt_1
theorem dksJ14_charAt_0 : cJ14_charAt.data.toList.drop 0 = dktJ14_charAt_0 := by decide +kernel
theorem dksJ14_charAt_1 : cJ14_charAt.data.toList.drop 24 = dktJ14_charAt_1 := dk_seg dksJ14_charAt_0 24 rfl rfl
theorem dJ14_charAt_0 : decode cJ14_charAt 0 = .ok (.aload_n 0, 1) := dk_42 (dk_at dksJ14_charAt_0 0 rfl rfl)
theorem dJ14_charAt_1 : decode cJ14_charAt 1 = .ok (.invokevirtual 492, 3) := dk_182 1 236 (dk_at dksJ14_charAt_0 1 rfl rfl)
theorem dJ14_charAt_4 : decode cJ14_charAt 4 = .ok (.ifCond .eq 12, 3) := dk_153 0 12 (dk_at dksJ14_charAt_0 4 rfl rfl)
theorem dJ14_charAt_7 : decode cJ14_charAt 7 = .ok (.aload_n 0, 1) := dk_42 (dk_at dksJ14_charAt_0 7 rfl rfl)
theorem dJ14_charAt_8 : decode cJ14_charAt 8 = .ok (.getfield 9, 3) := dk_180 0 9 (dk_at dksJ14_charAt_0 8 rfl rfl)
theorem dJ14_charAt_11 : decode cJ14_charAt 11 = .ok (.iload_n 1, 1) := dk_27 (dk_at dksJ14_charAt_0 11 rfl rfl)
theorem dJ14_charAt_12 : decode cJ14_charAt 12 = .ok (.invokestatic 495, 3) := dk_184 1 239 (dk_at dksJ14_charAt_0 12 rfl rfl)
theorem dJ14_charAt_15 : decode cJ14_charAt 15 = .ok (.ireturn, 1) := dk_172 (dk_at dksJ14_charAt_0 15 rfl rfl)
theorem dJ14_charAt_16 : decode cJ14_charAt 16 = .ok (.aload_n 0, 1) := dk_42 (dk_at dksJ14_charAt_0 16 rfl rfl)
theorem dJ14_charAt_17 : decode cJ14_charAt 17 = .ok (.getfield 9, 3) := dk_180 0 9 (dk_at dksJ14_charAt_0 17 rfl rfl)
theorem dJ14_charAt_20 : decode cJ14_charAt 20 = .ok (.iload_n 1, 1) := dk_27 (dk_at dksJ14_charAt_0 20 rfl rfl)
theorem dJ14_charAt_21 : decode cJ14_charAt 21 = .ok (.invokestatic 498, 3) := dk_184 1 242 (dk_at dksJ14_charAt_0 21 rfl rfl)
theorem dJ14_charAt_24 : decode cJ14_charAt 24 = .ok (.ireturn, 1) := dk_172 (dk_at dksJ14_charAt_1 0 rfl rfl)
theorem q153 : (Jvm.Cond.initialized "java/lang/String") ∈ lw_all := lw_g (lw_at lw_m1 19 rfl) rfl
theorem q304 : (Jvm.Cond.selects "java/lang/String" ({ cls := "java/lang/Object", name := "getClass", desc := "()Ljava/lang/Class;" } : Jvm.MethodName) ({ cls := "java/lang/Object", name := "getClass", desc := "()Ljava/lang/Class;" } : Jvm.MethodName)) ∈ lw_all := lw_g (lw_at lw_m1 170 rfl) rfl
theorem q397 : (Jvm.Cond.laysStatic "java/lang/String" "COMPACT_STRINGS" "Z") ∈ lw_tbl := lw_at lw_m2 23 rfl
theorem q408 : (Jvm.Cond.fieldLink "java/lang/String" (1048 : Nat) "java/lang/AbstractStringBuilder" "maybeLatin1" "Z") ∈ lw_all := lw_g (lw_at lw_m2 34 rfl) rfl
theorem q466 : (Jvm.Cond.static ({ cls := "java/lang/String", name := "checkBoundsBeginEnd", desc := "(III)V" } : Jvm.MethodName)) ∈ lw_all := lw_g (lw_at lw_m2 92 rfl) rfl
theorem q467 : (Jvm.Cond.code ({ cls := "java/lang/String", name := "checkBoundsBeginEnd", desc := "(III)V" } : Jvm.MethodName) prog_37_method_158_code (3 : Nat) (Option.none : Option Jvm.ClassFile.FieldType)) ∈ lw_all := lw_g (lw_at lw_m2 93 rfl) rfl
theorem q468 : (Jvm.Cond.fieldLink "java/lang/String" (1053 : Nat) "jdk/internal/util/Preconditions" "SIOOBE_FORMATTER" "Ljava/util/function/BiFunction;") ∈ lw_all := lw_g (lw_at lw_m2 94 rfl) rfl
theorem q470 : (Jvm.Cond.methodLink "java/lang/String" (1062 : Nat) ({ cls := "jdk/internal/util/Preconditions", name := "checkFromToIndex", desc := "(IIILjava/util/function/BiFunction;)I" } : Jvm.MethodName)) ∈ lw_all := lw_g (lw_at lw_m2 96 rfl) rfl
theorem q483 : (Jvm.Cond.instanceMethod ({ cls := "java/lang/String", name := "length", desc := "()I" } : Jvm.MethodName)) ∈ lw_all := lw_g (lw_at lw_m2 109 rfl) rfl
theorem q484 : (Jvm.Cond.selects "java/lang/String" ({ cls := "java/lang/String", name := "length", desc := "()I" } : Jvm.MethodName) ({ cls := "java/lang/String", name := "length", desc := "()I" } : Jvm.MethodName)) ∈ lw_all := lw_g (lw_at lw_m2 110 rfl) rfl
theorem q485 : (Jvm.Cond.code ({ cls := "java/lang/String", name := "length", desc := "()I" } : Jvm.MethodName) prog_37_method_54_code (1 : Nat) (Option.some Jvm.ClassFile.FieldType.int)) ∈ lw_all := lw_g (lw_at lw_m2 111 rfl) rfl
theorem q486 : (Jvm.Cond.methodLink "java/lang/String" (335 : Nat) ({ cls := "java/lang/String", name := "coder", desc := "()B" } : Jvm.MethodName)) ∈ lw_all := lw_g (lw_at lw_m2 112 rfl) rfl
theorem q487 : (Jvm.Cond.instanceMethod ({ cls := "java/lang/String", name := "coder", desc := "()B" } : Jvm.MethodName)) ∈ lw_all := lw_g (lw_at lw_m2 113 rfl) rfl
theorem q488 : (Jvm.Cond.selects "java/lang/String" ({ cls := "java/lang/String", name := "coder", desc := "()B" } : Jvm.MethodName) ({ cls := "java/lang/String", name := "coder", desc := "()B" } : Jvm.MethodName)) ∈ lw_all := lw_g (lw_at lw_m2 114 rfl) rfl
theorem q489 : (Jvm.Cond.code ({ cls := "java/lang/String", name := "coder", desc := "()B" } : Jvm.MethodName) prog_37_method_152_code (1 : Nat) (Option.some Jvm.ClassFile.FieldType.byte)) ∈ lw_all := lw_g (lw_at lw_m2 115 rfl) rfl
theorem q490 : (Jvm.Cond.fieldLink "java/lang/String" (38 : Nat) "java/lang/String" "COMPACT_STRINGS" "Z") ∈ lw_all := lw_g (lw_at lw_m2 116 rfl) rfl
theorem q514 : (Jvm.Cond.static ({ cls := "java/lang/String", name := "checkBoundsOffCount", desc := "(III)I" } : Jvm.MethodName)) ∈ lw_all := lw_g (lw_at lw_m2 140 rfl) rfl
theorem q515 : (Jvm.Cond.code ({ cls := "java/lang/String", name := "checkBoundsOffCount", desc := "(III)I" } : Jvm.MethodName) prog_37_method_157_code (3 : Nat) (Option.some Jvm.ClassFile.FieldType.int)) ∈ lw_all := lw_g (lw_at lw_m2 141 rfl) rfl
theorem q516 : (Jvm.Cond.methodLink "java/lang/String" (1065 : Nat) ({ cls := "jdk/internal/util/Preconditions", name := "checkFromIndexSize", desc := "(IIILjava/util/function/BiFunction;)I" } : Jvm.MethodName)) ∈ lw_all := lw_g (lw_at lw_m2 142 rfl) rfl
theorem q520 : (Jvm.Cond.instanceMethod ({ cls := "java/lang/String", name := "getBytes", desc := "([BIB)V" } : Jvm.MethodName)) ∈ lw_all := lw_g (lw_at lw_m2 146 rfl) rfl
theorem q521 : (Jvm.Cond.selects "java/lang/String" ({ cls := "java/lang/String", name := "getBytes", desc := "([BIB)V" } : Jvm.MethodName) ({ cls := "java/lang/String", name := "getBytes", desc := "([BIB)V" } : Jvm.MethodName)) ∈ lw_all := lw_g (lw_at lw_m2 147 rfl) rfl
theorem q522 : (Jvm.Cond.code ({ cls := "java/lang/String", name := "getBytes", desc := "([BIB)V" } : Jvm.MethodName) prog_37_method_147_code (4 : Nat) (Option.none : Option Jvm.ClassFile.FieldType)) ∈ lw_all := lw_g (lw_at lw_m2 148 rfl) rfl
theorem q523 : (Jvm.Cond.methodLink "java/lang/String" (212 : Nat) ({ cls := "java/lang/System", name := "arraycopy", desc := "(Ljava/lang/Object;ILjava/lang/Object;II)V" } : Jvm.MethodName)) ∈ lw_all := lw_g (lw_at lw_m2 149 rfl) rfl
theorem q524 : (Jvm.Cond.methodLink "java/lang/String" (106 : Nat) ({ cls := "java/lang/StringLatin1", name := "inflate", desc := "([BI[BII)V" } : Jvm.MethodName)) ∈ lw_all := lw_g (lw_at lw_m2 150 rfl) rfl
theorem q555 : (Jvm.Cond.instantiable "java/lang/String" (4 : Nat)) ∈ lw_all := lw_g (lw_at lw_m2 181 rfl) rfl
theorem q557 : (Jvm.Cond.instanceMethod ({ cls := "java/lang/String", name := "<init>", desc := "(Ljava/lang/StringBuilder;)V" } : Jvm.MethodName)) ∈ lw_all := lw_g (lw_at lw_m2 183 rfl) rfl
theorem q558 : (Jvm.Cond.code ({ cls := "java/lang/String", name := "<init>", desc := "(Ljava/lang/StringBuilder;)V" } : Jvm.MethodName) prog_37_method_53_code (2 : Nat) (Option.none : Option Jvm.ClassFile.FieldType)) ∈ lw_all := lw_g (lw_at lw_m2 184 rfl) rfl
theorem q559 : (Jvm.Cond.methodLink "java/lang/String" (489 : Nat) ({ cls := "java/lang/String", name := "<init>", desc := "(Ljava/lang/AbstractStringBuilder;Ljava/lang/Void;)V" } : Jvm.MethodName)) ∈ lw_all := lw_g (lw_at lw_m2 185 rfl) rfl
theorem q560 : (Jvm.Cond.instanceMethod ({ cls := "java/lang/String", name := "<init>", desc := "(Ljava/lang/AbstractStringBuilder;Ljava/lang/Void;)V" } : Jvm.MethodName)) ∈ lw_all := lw_g (lw_at lw_m2 186 rfl) rfl
theorem q561 : (Jvm.Cond.code ({ cls := "java/lang/String", name := "<init>", desc := "(Ljava/lang/AbstractStringBuilder;Ljava/lang/Void;)V" } : Jvm.MethodName) prog_37_method_150_code (5 : Nat) (Option.none : Option Jvm.ClassFile.FieldType)) ∈ lw_all := lw_g (lw_at lw_m2 187 rfl) rfl
theorem q562 : (Jvm.Cond.methodLink "java/lang/String" (1 : Nat) ({ cls := "java/lang/Object", name := "<init>", desc := "()V" } : Jvm.MethodName)) ∈ lw_all := lw_g (lw_at lw_m2 188 rfl) rfl
theorem q563 : (Jvm.Cond.methodLink "java/lang/String" (552 : Nat) ({ cls := "java/lang/AbstractStringBuilder", name := "getValue", desc := "()[B" } : Jvm.MethodName)) ∈ lw_all := lw_g (lw_at lw_m2 189 rfl) rfl
theorem q568 : (Jvm.Cond.methodLink "java/lang/String" (549 : Nat) ({ cls := "java/lang/AbstractStringBuilder", name := "length", desc := "()I" } : Jvm.MethodName)) ∈ lw_all := lw_g (lw_at lw_m2 194 rfl) rfl
theorem q576 : (Jvm.Cond.methodLink "java/lang/String" (1047 : Nat) ({ cls := "java/lang/AbstractStringBuilder", name := "isLatin1", desc := "()Z" } : Jvm.MethodName)) ∈ lw_all := lw_g (lw_at lw_m2 202 rfl) rfl
theorem q577 : (Jvm.Cond.methodLink "java/lang/String" (54 : Nat) ({ cls := "java/util/Arrays", name := "copyOfRange", desc := "([BII)[B" } : Jvm.MethodName)) ∈ lw_all := lw_g (lw_at lw_m2 203 rfl) rfl
theorem q618 : (Jvm.Cond.methodLink "java/lang/String" (1051 : Nat) ({ cls := "java/lang/StringUTF16", name := "compress", desc := "([BII)[B" } : Jvm.MethodName)) ∈ lw_all := lw_g (lw_at lw_m3 4 rfl) rfl
theorem q628 : (Jvm.Cond.methodLink "java/lang/String" (47 : Nat) ({ cls := "java/lang/StringUTF16", name := "coderFromArrayLen", desc := "([BI)B" } : Jvm.MethodName)) ∈ lw_all := lw_g (lw_at lw_m3 14 rfl) rfl
theorem q631 : (Jvm.Cond.fieldLink "java/lang/String" (9 : Nat) "java/lang/String" "value" "[B") ∈ lw_all := lw_g (lw_at lw_m3 17 rfl) rfl
theorem q632 : (Jvm.Cond.fieldLink "java/lang/String" (15 : Nat) "java/lang/String" "coder" "B") ∈ lw_all := lw_g (lw_at lw_m3 18 rfl) rfl
theorem q633 : (Jvm.Cond.fieldLink "java/lang/String" (19 : Nat) "java/lang/String" "hash" "I") ∈ lw_all := lw_g (lw_at lw_m3 19 rfl) rfl
theorem q634 : (Jvm.Cond.fieldLink "java/lang/String" (23 : Nat) "java/lang/String" "hashIsZero" "Z") ∈ lw_all := lw_g (lw_at lw_m3 20 rfl) rfl
theorem q635 : (Jvm.Cond.laysFinal "java/lang/String" "java/lang/String" "value" "[B") ∈ lw_all := lw_g (lw_at lw_m3 21 rfl) rfl
theorem q636 : (Jvm.Cond.soleField "java/lang/String" "value") ∈ lw_all := lw_g (lw_at lw_m3 22 rfl) rfl
theorem q637 : (Jvm.Cond.laysFinal "java/lang/String" "java/lang/String" "coder" "B") ∈ lw_all := lw_g (lw_at lw_m3 23 rfl) rfl
theorem q638 : (Jvm.Cond.soleField "java/lang/String" "coder") ∈ lw_all := lw_g (lw_at lw_m3 24 rfl) rfl
theorem q639 : (Jvm.Cond.lays "java/lang/String" "java/lang/String" "hash" "I") ∈ lw_all := lw_g (lw_at lw_m3 25 rfl) rfl
theorem q640 : (Jvm.Cond.soleField "java/lang/String" "hash") ∈ lw_all := lw_g (lw_at lw_m3 26 rfl) rfl
theorem q641 : (Jvm.Cond.lays "java/lang/String" "java/lang/String" "hashIsZero" "Z") ∈ lw_all := lw_g (lw_at lw_m3 27 rfl) rfl
theorem q642 : (Jvm.Cond.soleField "java/lang/String" "hashIsZero") ∈ lw_all := lw_g (lw_at lw_m3 28 rfl) rfl
theorem q643 : (Jvm.Cond.superclass "java/lang/String" "java/lang/Object") ∈ lw_all := lw_g (lw_at lw_m3 29 rfl) rfl
theorem q956 : (Jvm.Cond.static ({ cls := "java/lang/String", name := "checkIndex", desc := "(II)V" } : Jvm.MethodName)) ∈ lw_all := lw_g (lw_at lw_m4 102 rfl) rfl
theorem q957 : (Jvm.Cond.code ({ cls := "java/lang/String", name := "checkIndex", desc := "(II)V" } : Jvm.MethodName) prog_37_method_155_code (2 : Nat) (Option.none : Option Jvm.ClassFile.FieldType)) ∈ lw_all := lw_g (lw_at lw_m4 103 rfl) rfl
theorem q958 : (Jvm.Cond.methodLink "java/lang/String" (1059 : Nat) ({ cls := "jdk/internal/util/Preconditions", name := "checkIndex", desc := "(IILjava/util/function/BiFunction;)I" } : Jvm.MethodName)) ∈ lw_all := lw_g (lw_at lw_m4 104 rfl) rfl
theorem q1009 : (Jvm.Cond.instanceMethod ({ cls := "java/lang/String", name := "equals", desc := "(Ljava/lang/Object;)Z" } : Jvm.MethodName)) ∈ lw_all := lw_g (lw_at lw_m4 155 rfl) rfl
theorem q1010 : (Jvm.Cond.selects "java/lang/String" ({ cls := "java/lang/String", name := "equals", desc := "(Ljava/lang/Object;)Z" } : Jvm.MethodName) ({ cls := "java/lang/String", name := "equals", desc := "(Ljava/lang/Object;)Z" } : Jvm.MethodName)) ∈ lw_all := lw_g (lw_at lw_m4 156 rfl) rfl
theorem q1011 : (Jvm.Cond.code ({ cls := "java/lang/String", name := "equals", desc := "(Ljava/lang/Object;)Z" } : Jvm.MethodName) prog_37_method_66_code (3 : Nat) (Option.some Jvm.ClassFile.FieldType.boolean)) ∈ lw_all := lw_g (lw_at lw_m4 157 rfl) rfl
theorem q1012 : (Jvm.Cond.classLink "java/lang/String" (10 : Nat) "java/lang/String") ∈ lw_all := lw_g (lw_at lw_m4 158 rfl) rfl
theorem q1013 : (Jvm.Cond.methodLink "java/lang/String" (541 : Nat) ({ cls := "java/lang/StringLatin1", name := "equals", desc := "([B[B)Z" } : Jvm.MethodName)) ∈ lw_all := lw_g (lw_at lw_m4 159 rfl) rfl
theorem q1107 : (Jvm.Cond.instanceMethod ({ cls := "java/lang/String", name := "hashCode", desc := "()I" } : Jvm.MethodName)) ∈ lw_all := lw_g (lw_at lw_m5 13 rfl) rfl
theorem q1108 : (Jvm.Cond.selects "java/lang/String" ({ cls := "java/lang/String", name := "hashCode", desc := "()I" } : Jvm.MethodName) ({ cls := "java/lang/String", name := "hashCode", desc := "()I" } : Jvm.MethodName)) ∈ lw_all := lw_g (lw_at lw_m5 14 rfl) rfl
theorem q1109 : (Jvm.Cond.code ({ cls := "java/lang/String", name := "hashCode", desc := "()I" } : Jvm.MethodName) prog_37_method_78_code (2 : Nat) (Option.some Jvm.ClassFile.FieldType.int)) ∈ lw_all := lw_g (lw_at lw_m5 15 rfl) rfl
theorem q1110 : (Jvm.Cond.methodLink "java/lang/String" (492 : Nat) ({ cls := "java/lang/String", name := "isLatin1", desc := "()Z" } : Jvm.MethodName)) ∈ lw_all := lw_g (lw_at lw_m5 16 rfl) rfl
theorem q1111 : (Jvm.Cond.instanceMethod ({ cls := "java/lang/String", name := "isLatin1", desc := "()Z" } : Jvm.MethodName)) ∈ lw_all := lw_g (lw_at lw_m5 17 rfl) rfl
theorem q1112 : (Jvm.Cond.selects "java/lang/String" ({ cls := "java/lang/String", name := "isLatin1", desc := "()Z" } : Jvm.MethodName) ({ cls := "java/lang/String", name := "isLatin1", desc := "()Z" } : Jvm.MethodName)) ∈ lw_all := lw_g (lw_at lw_m5 18 rfl) rfl
theorem q1113 : (Jvm.Cond.code ({ cls := "java/lang/String", name := "isLatin1", desc := "()Z" } : Jvm.MethodName) prog_37_method_154_code (1 : Nat) (Option.some Jvm.ClassFile.FieldType.boolean)) ∈ lw_all := lw_g (lw_at lw_m5 19 rfl) rfl
theorem q1114 : (Jvm.Cond.methodLink "java/lang/String" (628 : Nat) ({ cls := "java/lang/StringLatin1", name := "hashCode", desc := "([B)I" } : Jvm.MethodName)) ∈ lw_all := lw_g (lw_at lw_m5 20 rfl) rfl
theorem q1163 : (Jvm.Cond.methodLink "java/lang/String" (632 : Nat) ({ cls := "java/lang/StringUTF16", name := "hashCode", desc := "([B)I" } : Jvm.MethodName)) ∈ lw_all := lw_g (lw_at lw_m5 69 rfl) rfl
theorem q1989 : (Jvm.Cond.castable "java/lang/String" "java/lang/Comparable") ∈ lw_tbl := lw_at lw_m8 175 rfl
theorem q1990 : (Jvm.Cond.selects "java/lang/String" ({ cls := "java/lang/Comparable", name := "compareTo", desc := "(Ljava/lang/Object;)I" } : Jvm.MethodName) ({ cls := "java/lang/String", name := "compareTo", desc := "(Ljava/lang/Object;)I" } : Jvm.MethodName)) ∈ lw_all := lw_g (lw_at lw_m8 176 rfl) rfl
theorem q1991 : (Jvm.Cond.unhidden "java/lang/String" "compareTo" "(Ljava/lang/Object;)I") ∈ lw_tbl := lw_at lw_m8 177 rfl
theorem q1992 : (Jvm.Cond.instanceMethod ({ cls := "java/lang/String", name := "compareTo", desc := "(Ljava/lang/Object;)I" } : Jvm.MethodName)) ∈ lw_all := lw_g (lw_at lw_m8 178 rfl) rfl
theorem q1993 : (Jvm.Cond.publicMethod ({ cls := "java/lang/String", name := "compareTo", desc := "(Ljava/lang/Object;)I" } : Jvm.MethodName)) ∈ lw_tbl := lw_at lw_m8 179 rfl
theorem q1994 : (Jvm.Cond.code ({ cls := "java/lang/String", name := "compareTo", desc := "(Ljava/lang/Object;)I" } : Jvm.MethodName) prog_37_method_162_code (2 : Nat) (Option.some Jvm.ClassFile.FieldType.int)) ∈ lw_all := lw_g (lw_at lw_m8 180 rfl) rfl
theorem q1995 : (Jvm.Cond.methodLink "java/lang/String" (1084 : Nat) ({ cls := "java/lang/String", name := "compareTo", desc := "(Ljava/lang/String;)I" } : Jvm.MethodName)) ∈ lw_all := lw_g (lw_at lw_m8 181 rfl) rfl
theorem q1996 : (Jvm.Cond.instanceMethod ({ cls := "java/lang/String", name := "compareTo", desc := "(Ljava/lang/String;)I" } : Jvm.MethodName)) ∈ lw_all := lw_g (lw_at lw_m8 182 rfl) rfl
theorem q1997 : (Jvm.Cond.selects "java/lang/String" ({ cls := "java/lang/String", name := "compareTo", desc := "(Ljava/lang/String;)I" } : Jvm.MethodName) ({ cls := "java/lang/String", name := "compareTo", desc := "(Ljava/lang/String;)I" } : Jvm.MethodName)) ∈ lw_all := lw_g (lw_at lw_m8 183 rfl) rfl
theorem q1998 : (Jvm.Cond.code ({ cls := "java/lang/String", name := "compareTo", desc := "(Ljava/lang/String;)I" } : Jvm.MethodName) prog_37_method_71_code (5 : Nat) (Option.some Jvm.ClassFile.FieldType.int)) ∈ lw_all := lw_g (lw_at lw_m8 184 rfl) rfl
theorem q1999 : (Jvm.Cond.methodLink "java/lang/String" (586 : Nat) ({ cls := "java/lang/StringLatin1", name := "compareTo", desc := "([B[B)I" } : Jvm.MethodName)) ∈ lw_all := lw_g (lw_at lw_m8 185 rfl) rfl
theorem q2113 : (Jvm.Cond.methodLink "java/lang/String" (590 : Nat) ({ cls := "java/lang/StringUTF16", name := "compareTo", desc := "([B[B)I" } : Jvm.MethodName)) ∈ lw_all := lw_g (lw_at lw_m9 59 rfl) rfl
theorem q2120 : (Jvm.Cond.methodLink "java/lang/String" (591 : Nat) ({ cls := "java/lang/StringLatin1", name := "compareToUTF16", desc := "([B[B)I" } : Jvm.MethodName)) ∈ lw_all := lw_g (lw_at lw_m9 66 rfl) rfl
theorem q2131 : (Jvm.Cond.methodLink "java/lang/String" (594 : Nat) ({ cls := "java/lang/StringUTF16", name := "compareToLatin1", desc := "([B[B)I" } : Jvm.MethodName)) ∈ lw_all := lw_g (lw_at lw_m9 77 rfl) rfl
theorem q2157 : (Jvm.Cond.static ({ cls := "java/lang/String", name := "checkOffset", desc := "(II)V" } : Jvm.MethodName)) ∈ lw_all := lw_g (lw_at lw_m9 103 rfl) rfl
theorem q2158 : (Jvm.Cond.code ({ cls := "java/lang/String", name := "checkOffset", desc := "(II)V" } : Jvm.MethodName) prog_37_method_156_code (2 : Nat) (Option.none : Option Jvm.ClassFile.FieldType)) ∈ lw_all := lw_g (lw_at lw_m9 104 rfl) rfl
theorem q2645 : (Jvm.Cond.instanceMethod ({ cls := "java/lang/String", name := "charAt", desc := "(I)C" } : Jvm.MethodName)) ∈ lw_all := lw_g (lw_at lw_m11 111 rfl) rfl
theorem q2646 : (Jvm.Cond.selects "java/lang/String" ({ cls := "java/lang/String", name := "charAt", desc := "(I)C" } : Jvm.MethodName) ({ cls := "java/lang/String", name := "charAt", desc := "(I)C" } : Jvm.MethodName)) ∈ lw_all := lw_g (lw_at lw_m11 112 rfl) rfl
theorem q2647 : (Jvm.Cond.code ({ cls := "java/lang/String", name := "charAt", desc := "(I)C" } : Jvm.MethodName) prog_37_method_56_code (2 : Nat) (Option.some Jvm.ClassFile.FieldType.char)) ∈ lw_all := lw_g (lw_at lw_m11 113 rfl) rfl
theorem q2648 : (Jvm.Cond.methodLink "java/lang/String" (495 : Nat) ({ cls := "java/lang/StringLatin1", name := "charAt", desc := "([BI)C" } : Jvm.MethodName)) ∈ lw_all := lw_g (lw_at lw_m11 114 rfl) rfl
theorem q2652 : (Jvm.Cond.methodLink "java/lang/String" (498 : Nat) ({ cls := "java/lang/StringUTF16", name := "charAt", desc := "([BI)C" } : Jvm.MethodName)) ∈ lw_all := lw_g (lw_at lw_m11 118 rfl) rfl
theorem q3140 : (Jvm.Cond.castable "java/lang/String" "java/lang/Object") ∈ lw_tbl := lw_at lw_m13 126 rfl
theorem in_J14 : ∀ w ∈ wsJ140, w ∈ lw_all := lw_in wsJ140 [635, 637, 639, 641] (by decide +kernel) (by decide +kernel)
/-! java/lang/StringLatin1 -/
set_option maxRecDepth 100000
def RJ17 : String := "java/lang/StringLatin1"
abbrev cJ17_inflate : ByteArray := prog_40_method_50_code
def yJ17_inflate : MethodName := ⟨RJ17, "inflate", "([BI[BII)V"⟩
def dkwJ17_inflate_0 : List UInt8 := [42, 27, 44, 29, 21, 4, 184, 0, 240, 177]
abbrev dktJ17_inflate_0 : List UInt8 := dkwJ17_inflate_0 ++ []
theorem dksJ17_inflate_0 : cJ17_inflate.data.toList.drop 0 = dktJ17_inflate_0 := by decide +kernel
theorem dJ17_inflate_0 : decode cJ17_inflate 0 = .ok (.aload_n 0, 1) := dk_42 (dk_at dksJ17_inflate_0 0 rfl rfl)
theorem dJ17_inflate_1 : decode cJ17_inflate 1 = .ok (.iload_n 1, 1) := dk_27 (dk_at dksJ17_inflate_0 1 rfl rfl)
theorem dJ17_inflate_2 : decode cJ17_inflate 2 = .ok (.aload_n 2, 1) := dk_44 (dk_at dksJ17_inflate_0 2 rfl rfl)
theorem dJ17_inflate_3 : decode cJ17_inflate 3 = .ok (.iload_n 3, 1) := dk_29 (dk_at dksJ17_inflate_0 3 rfl rfl)
theorem dJ17_inflate_4 : decode cJ17_inflate 4 = .ok (.iload 4, 2) := dk_21 4 (dk_at dksJ17_inflate_0 4 rfl rfl)
theorem dJ17_inflate_6 : decode cJ17_inflate 6 = .ok (.invokestatic 240, 3) := dk_184 0 240 (dk_at dksJ17_inflate_0 6 rfl rfl)
theorem dJ17_inflate_9 : decode cJ17_inflate 9 = .ok (.return_, 1) := dk_177 (dk_at dksJ17_inflate_0 9 rfl rfl)
abbrev cJ17_canEncode : ByteArray := prog_40_method_3_code
def yJ17_canEncode : MethodName := ⟨RJ17, "canEncode", "(C)Z"⟩
def dkwJ17_canEncode_0 : List UInt8 := [26, 17, 0, 255, 163, 0, 7, 4, 167, 0, 4, 3, 172]
abbrev dktJ17_canEncode_0 : List UInt8 := dkwJ17_canEncode_0 ++ []
theorem dksJ17_canEncode_0 : cJ17_canEncode.data.toList.drop 0 = dktJ17_canEncode_0 := by decide +kernel
theorem dJ17_canEncode_0 : decode cJ17_canEncode 0 = .ok (.iload_n 0, 1) := dk_26 (dk_at dksJ17_canEncode_0 0 rfl rfl)
theorem dJ17_canEncode_1 : decode cJ17_canEncode 1 = .ok (.sipush 255, 3) := dk_17 0 255 (dk_at dksJ17_canEncode_0 1 rfl rfl)
theorem dJ17_canEncode_4 : decode cJ17_canEncode 4 = .ok (.if_icmp .gt 7, 3) := dk_163 0 7 (dk_at dksJ17_canEncode_0 4 rfl rfl)
theorem dJ17_canEncode_7 : decode cJ17_canEncode 7 = .ok (.iconst 1, 1) := dk_4 (dk_at dksJ17_canEncode_0 7 rfl rfl)
theorem dJ17_canEncode_8 : decode cJ17_canEncode 8 = .ok (.goto 4, 3) := dk_167 0 4 (dk_at dksJ17_canEncode_0 8 rfl rfl)
theorem dJ17_canEncode_11 : decode cJ17_canEncode 11 = .ok (.iconst 0, 1) := dk_3 (dk_at dksJ17_canEncode_0 11 rfl rfl)
theorem dJ17_canEncode_12 : decode cJ17_canEncode 12 = .ok (.ireturn, 1) := dk_172 (dk_at dksJ17_canEncode_0 12 rfl rfl)
abbrev cJ17_equals : ByteArray := prog_40_method_13_code
def yJ17_equals : MethodName := ⟨RJ17, "equals", "([B[B)Z"⟩
def dkwJ17_equals_1 : List UInt8 := [3, 172, 132, 2, 1, 167, 255, 236, 4, 172, 3, 172]
abbrev dktJ17_equals_1 : List UInt8 := dkwJ17_equals_1 ++ []
def dkwJ17_equals_0 : List UInt8 := [42, 190, 43, 190, 160, 0, 30, 3, 61, 28, 42, 190, 162, 0, 20, 42, 28, 51, 43, 28, 51, 159, 0, 5]
abbrev dktJ17_equals_0 : List UInt8 := dkwJ17_equals_0 ++ dktJ17_equals_1
theorem dksJ17_equals_0 : cJ17_equals.data.toList.drop 0 = dktJ17_equals_0 := by decide +kernel
theorem dksJ17_equals_1 : cJ17_equals.data.toList.drop 24 = dktJ17_equals_1 := dk_seg dksJ17_equals_0 24 rfl rfl
theorem dJ17_equals_0 : decode cJ17_equals 0 = .ok (.aload_n 0, 1) := dk_42 (dk_at dksJ17_equals_0 0 rfl rfl)
theorem dJ17_equals_1 : decode cJ17_equals 1 = .ok (.arraylength, 1) := dk_190 (dk_at dksJ17_equals_0 1 rfl rfl)
theorem dJ17_equals_2 : decode cJ17_equals 2 = .ok (.aload_n 1, 1) := dk_43 (dk_at dksJ17_equals_0 2 rfl rfl)
theorem dJ17_equals_3 : decode cJ17_equals 3 = .ok (.arraylength, 1) := dk_190 (dk_at dksJ17_equals_0 3 rfl rfl)
theorem dJ17_equals_4 : decode cJ17_equals 4 = .ok (.if_icmp .ne 30, 3) := dk_160 0 30 (dk_at dksJ17_equals_0 4 rfl rfl)
theorem dJ17_equals_7 : decode cJ17_equals 7 = .ok (.iconst 0, 1) := dk_3 (dk_at dksJ17_equals_0 7 rfl rfl)
theorem dJ17_equals_8 : decode cJ17_equals 8 = .ok (.istore_n 2, 1) := dk_61 (dk_at dksJ17_equals_0 8 rfl rfl)
theorem dJ17_equals_9 : decode cJ17_equals 9 = .ok (.iload_n 2, 1) := dk_28 (dk_at dksJ17_equals_0 9 rfl rfl)
theorem dJ17_equals_10 : decode cJ17_equals 10 = .ok (.aload_n 0, 1) := dk_42 (dk_at dksJ17_equals_0 10 rfl rfl)
theorem dJ17_equals_11 : decode cJ17_equals 11 = .ok (.arraylength, 1) := dk_190 (dk_at dksJ17_equals_0 11 rfl rfl)
theorem dJ17_equals_12 : decode cJ17_equals 12 = .ok (.if_icmp .ge 20, 3) := dk_162 0 20 (dk_at dksJ17_equals_0 12 rfl rfl)
theorem dJ17_equals_15 : decode cJ17_equals 15 = .ok (.aload_n 0, 1) := dk_42 (dk_at dksJ17_equals_0 15 rfl rfl)
theorem dJ17_equals_16 : decode cJ17_equals 16 = .ok (.iload_n 2, 1) := dk_28 (dk_at dksJ17_equals_0 16 rfl rfl)
theorem dJ17_equals_17 : decode cJ17_equals 17 = .ok (.baload, 1) := dk_51 (dk_at dksJ17_equals_0 17 rfl rfl)
theorem dJ17_equals_18 : decode cJ17_equals 18 = .ok (.aload_n 1, 1) := dk_43 (dk_at dksJ17_equals_0 18 rfl rfl)
theorem dJ17_equals_19 : decode cJ17_equals 19 = .ok (.iload_n 2, 1) := dk_28 (dk_at dksJ17_equals_0 19 rfl rfl)
theorem dJ17_equals_20 : decode cJ17_equals 20 = .ok (.baload, 1) := dk_51 (dk_at dksJ17_equals_0 20 rfl rfl)
theorem dJ17_equals_21 : decode cJ17_equals 21 = .ok (.if_icmp .eq 5, 3) := dk_159 0 5 (dk_at dksJ17_equals_0 21 rfl rfl)
theorem dJ17_equals_24 : decode cJ17_equals 24 = .ok (.iconst 0, 1) := dk_3 (dk_at dksJ17_equals_1 0 rfl rfl)
theorem dJ17_equals_25 : decode cJ17_equals 25 = .ok (.ireturn, 1) := dk_172 (dk_at dksJ17_equals_1 1 rfl rfl)
theorem dJ17_equals_26 : decode cJ17_equals 26 = .ok (.iinc 2 1, 3) := dk_132 2 1 (dk_at dksJ17_equals_1 2 rfl rfl)
theorem dJ17_equals_29 : decode cJ17_equals 29 = .ok (.goto (-20), 3) := dk_167 255 236 (dk_at dksJ17_equals_1 5 rfl rfl)
theorem dJ17_equals_32 : decode cJ17_equals 32 = .ok (.iconst 1, 1) := dk_4 (dk_at dksJ17_equals_1 8 rfl rfl)
theorem dJ17_equals_33 : decode cJ17_equals 33 = .ok (.ireturn, 1) := dk_172 (dk_at dksJ17_equals_1 9 rfl rfl)
theorem dJ17_equals_34 : decode cJ17_equals 34 = .ok (.iconst 0, 1) := dk_3 (dk_at dksJ17_equals_1 10 rfl rfl)
theorem dJ17_equals_35 : decode cJ17_equals 35 = .ok (.ireturn, 1) := dk_172 (dk_at dksJ17_equals_1 11 rfl rfl)
abbrev cJ17_hashCode : ByteArray := prog_40_method_21_code
def yJ17_hashCode : MethodName := ⟨RJ17, "hashCode", "([B)I"⟩
def dkwJ17_hashCode_2 : List UInt8 := [3, 167, 0, 22, 42, 3, 51, 17, 0, 255, 126, 167, 0, 12, 42, 3, 42, 190, 3, 7, 184, 0, 84, 172]
abbrev dktJ17_hashCode_2 : List UInt8 := dkwJ17_hashCode_2 ++ []
def dkwJ17_hashCode_1 : List UInt8 := [171, 0, 0, 0, 0, 40, 0, 0, 0, 2, 0, 0, 0, 0, 0, 0, 0, 26, 0, 0, 0, 1, 0, 0, 0, 30]
abbrev dktJ17_hashCode_1 : List UInt8 := dkwJ17_hashCode_1 ++ dktJ17_hashCode_2
def dkwJ17_hashCode_0 : List UInt8 := [42, 190]
abbrev dktJ17_hashCode_0 : List UInt8 := dkwJ17_hashCode_0 ++ dktJ17_hashCode_1
theorem dksJ17_hashCode_0 : cJ17_hashCode.data.toList.drop 0 = dktJ17_hashCode_0 := by decide +kernel
theorem dksJ17_hashCode_1 : cJ17_hashCode.data.toList.drop 2 = dktJ17_hashCode_1 := dk_seg dksJ17_hashCode_0 2 rfl rfl
theorem dksJ17_hashCode_2 : cJ17_hashCode.data.toList.drop 28 = dktJ17_hashCode_2 := dk_seg dksJ17_hashCode_1 26 rfl rfl
theorem dJ17_hashCode_0 : decode cJ17_hashCode 0 = .ok (.aload_n 0, 1) := dk_42 (dk_at dksJ17_hashCode_0 0 rfl rfl)
theorem dJ17_hashCode_1 : decode cJ17_hashCode 1 = .ok (.arraylength, 1) := dk_190 (dk_at dksJ17_hashCode_0 1 rfl rfl)
theorem dJ17_hashCode_2 : decode cJ17_hashCode 2 = .ok (.lookupswitch 40 #[(0, 26), (1, 30)], 26) := by decide +kernel
theorem dJ17_hashCode_28 : decode cJ17_hashCode 28 = .ok (.iconst 0, 1) := dk_3 (dk_at dksJ17_hashCode_2 0 rfl rfl)
theorem dJ17_hashCode_29 : decode cJ17_hashCode 29 = .ok (.goto 22, 3) := dk_167 0 22 (dk_at dksJ17_hashCode_2 1 rfl rfl)
theorem dJ17_hashCode_32 : decode cJ17_hashCode 32 = .ok (.aload_n 0, 1) := dk_42 (dk_at dksJ17_hashCode_2 4 rfl rfl)
theorem dJ17_hashCode_33 : decode cJ17_hashCode 33 = .ok (.iconst 0, 1) := dk_3 (dk_at dksJ17_hashCode_2 5 rfl rfl)
theorem dJ17_hashCode_34 : decode cJ17_hashCode 34 = .ok (.baload, 1) := dk_51 (dk_at dksJ17_hashCode_2 6 rfl rfl)
theorem dJ17_hashCode_35 : decode cJ17_hashCode 35 = .ok (.sipush 255, 3) := dk_17 0 255 (dk_at dksJ17_hashCode_2 7 rfl rfl)
theorem dJ17_hashCode_38 : decode cJ17_hashCode 38 = .ok (.iand, 1) := dk_126 (dk_at dksJ17_hashCode_2 10 rfl rfl)
theorem dJ17_hashCode_39 : decode cJ17_hashCode 39 = .ok (.goto 12, 3) := dk_167 0 12 (dk_at dksJ17_hashCode_2 11 rfl rfl)
theorem dJ17_hashCode_42 : decode cJ17_hashCode 42 = .ok (.aload_n 0, 1) := dk_42 (dk_at dksJ17_hashCode_2 14 rfl rfl)
theorem dJ17_hashCode_43 : decode cJ17_hashCode 43 = .ok (.iconst 0, 1) := dk_3 (dk_at dksJ17_hashCode_2 15 rfl rfl)
theorem dJ17_hashCode_44 : decode cJ17_hashCode 44 = .ok (.aload_n 0, 1) := dk_42 (dk_at dksJ17_hashCode_2 16 rfl rfl)
theorem dJ17_hashCode_45 : decode cJ17_hashCode 45 = .ok (.arraylength, 1) := dk_190 (dk_at dksJ17_hashCode_2 17 rfl rfl)
theorem dJ17_hashCode_46 : decode cJ17_hashCode 46 = .ok (.iconst 0, 1) := dk_3 (dk_at dksJ17_hashCode_2 18 rfl rfl)
theorem dJ17_hashCode_47 : decode cJ17_hashCode 47 = .ok (.iconst 4, 1) := dk_7 (dk_at dksJ17_hashCode_2 19 rfl rfl)
theorem dJ17_hashCode_48 : decode cJ17_hashCode 48 = .ok (.invokestatic 84, 3) := dk_184 0 84 (dk_at dksJ17_hashCode_2 20 rfl rfl)
theorem dJ17_hashCode_51 : decode cJ17_hashCode 51 = .ok (.ireturn, 1) := dk_172 (dk_at dksJ17_hashCode_2 23 rfl rfl)
abbrev cJ17_compareTo : ByteArray := prog_40_method_14_code
def yJ17_compareTo : MethodName := ⟨RJ17, "compareTo", "([B[B)I"⟩
def dkwJ17_compareTo_0 : List UInt8 := [42, 190, 61, 43, 190, 62, 42, 43, 28, 29, 184, 0, 34, 172]
abbrev dktJ17_compareTo_0 : List UInt8 := dkwJ17_compareTo_0 ++ []
theorem dksJ17_compareTo_0 : cJ17_compareTo.data.toList.drop 0 = dktJ17_compareTo_0 := by decide +kernel
theorem dJ17_compareTo_0 : decode cJ17_compareTo 0 = .ok (.aload_n 0, 1) := dk_42 (dk_at dksJ17_compareTo_0 0 rfl rfl)
theorem dJ17_compareTo_1 : decode cJ17_compareTo 1 = .ok (.arraylength, 1) := dk_190 (dk_at dksJ17_compareTo_0 1 rfl rfl)
theorem dJ17_compareTo_2 : decode cJ17_compareTo 2 = .ok (.istore_n 2, 1) := dk_61 (dk_at dksJ17_compareTo_0 2 rfl rfl)
theorem dJ17_compareTo_3 : decode cJ17_compareTo 3 = .ok (.aload_n 1, 1) := dk_43 (dk_at dksJ17_compareTo_0 3 rfl rfl)
theorem dJ17_compareTo_4 : decode cJ17_compareTo 4 = .ok (.arraylength, 1) := dk_190 (dk_at dksJ17_compareTo_0 4 rfl rfl)
theorem dJ17_compareTo_5 : decode cJ17_compareTo 5 = .ok (.istore_n 3, 1) := dk_62 (dk_at dksJ17_compareTo_0 5 rfl rfl)
theorem dJ17_compareTo_6 : decode cJ17_compareTo 6 = .ok (.aload_n 0, 1) := dk_42 (dk_at dksJ17_compareTo_0 6 rfl rfl)
theorem dJ17_compareTo_7 : decode cJ17_compareTo 7 = .ok (.aload_n 1, 1) := dk_43 (dk_at dksJ17_compareTo_0 7 rfl rfl)
theorem dJ17_compareTo_8 : decode cJ17_compareTo 8 = .ok (.iload_n 2, 1) := dk_28 (dk_at dksJ17_compareTo_0 8 rfl rfl)
theorem dJ17_compareTo_9 : decode cJ17_compareTo 9 = .ok (.iload_n 3, 1) := dk_29 (dk_at dksJ17_compareTo_0 9 rfl rfl)
theorem dJ17_compareTo_10 : decode cJ17_compareTo 10 = .ok (.invokestatic 34, 3) := dk_184 0 34 (dk_at dksJ17_compareTo_0 10 rfl rfl)
theorem dJ17_compareTo_13 : decode cJ17_compareTo 13 = .ok (.ireturn, 1) := dk_172 (dk_at dksJ17_compareTo_0 13 rfl rfl)
abbrev cJ17_compareTo_2 : ByteArray := prog_40_method_15_code
def yJ17_compareTo_2 : MethodName := ⟨RJ17, "compareTo", "([B[BII)I"⟩
def dkwJ17_compareTo_2_1 : List UInt8 := [167, 0, 16, 42, 21, 5, 184, 0, 50, 43, 21, 5, 184, 0, 50, 100, 172]
abbrev dktJ17_compareTo_2_1 : List UInt8 := dkwJ17_compareTo_2_1 ++ []
def dkwJ17_compareTo_2_0 : List UInt8 := [28, 29, 184, 0, 38, 54, 4, 42, 43, 21, 4, 184, 0, 44, 54, 5, 21, 5, 156, 0, 9, 28, 29, 100]
abbrev dktJ17_compareTo_2_0 : List UInt8 := dkwJ17_compareTo_2_0 ++ dktJ17_compareTo_2_1
theorem dksJ17_compareTo_2_0 : cJ17_compareTo_2.data.toList.drop 0 = dktJ17_compareTo_2_0 := by decide +kernel
theorem dksJ17_compareTo_2_1 : cJ17_compareTo_2.data.toList.drop 24 = dktJ17_compareTo_2_1 := dk_seg dksJ17_compareTo_2_0 24 rfl rfl
theorem dJ17_compareTo_2_0 : decode cJ17_compareTo_2 0 = .ok (.iload_n 2, 1) := dk_28 (dk_at dksJ17_compareTo_2_0 0 rfl rfl)
theorem dJ17_compareTo_2_1 : decode cJ17_compareTo_2 1 = .ok (.iload_n 3, 1) := dk_29 (dk_at dksJ17_compareTo_2_0 1 rfl rfl)
theorem dJ17_compareTo_2_2 : decode cJ17_compareTo_2 2 = .ok (.invokestatic 38, 3) := dk_184 0 38 (dk_at dksJ17_compareTo_2_0 2 rfl rfl)
theorem dJ17_compareTo_2_5 : decode cJ17_compareTo_2 5 = .ok (.istore 4, 2) := dk_54 4 (dk_at dksJ17_compareTo_2_0 5 rfl rfl)
theorem dJ17_compareTo_2_7 : decode cJ17_compareTo_2 7 = .ok (.aload_n 0, 1) := dk_42 (dk_at dksJ17_compareTo_2_0 7 rfl rfl)
theorem dJ17_compareTo_2_8 : decode cJ17_compareTo_2 8 = .ok (.aload_n 1, 1) := dk_43 (dk_at dksJ17_compareTo_2_0 8 rfl rfl)
theorem dJ17_compareTo_2_9 : decode cJ17_compareTo_2 9 = .ok (.iload 4, 2) := dk_21 4 (dk_at dksJ17_compareTo_2_0 9 rfl rfl)
theorem dJ17_compareTo_2_11 : decode cJ17_compareTo_2 11 = .ok (.invokestatic 44, 3) := dk_184 0 44 (dk_at dksJ17_compareTo_2_0 11 rfl rfl)
theorem dJ17_compareTo_2_14 : decode cJ17_compareTo_2 14 = .ok (.istore 5, 2) := dk_54 5 (dk_at dksJ17_compareTo_2_0 14 rfl rfl)
theorem dJ17_compareTo_2_16 : decode cJ17_compareTo_2 16 = .ok (.iload 5, 2) := dk_21 5 (dk_at dksJ17_compareTo_2_0 16 rfl rfl)
theorem dJ17_compareTo_2_18 : decode cJ17_compareTo_2 18 = .ok (.ifCond .ge 9, 3) := dk_156 0 9 (dk_at dksJ17_compareTo_2_0 18 rfl rfl)
theorem dJ17_compareTo_2_21 : decode cJ17_compareTo_2 21 = .ok (.iload_n 2, 1) := dk_28 (dk_at dksJ17_compareTo_2_0 21 rfl rfl)
theorem dJ17_compareTo_2_22 : decode cJ17_compareTo_2 22 = .ok (.iload_n 3, 1) := dk_29 (dk_at dksJ17_compareTo_2_0 22 rfl rfl)
theorem dJ17_compareTo_2_23 : decode cJ17_compareTo_2 23 = .ok (.isub, 1) := dk_100 (dk_at dksJ17_compareTo_2_0 23 rfl rfl)
theorem dJ17_compareTo_2_24 : decode cJ17_compareTo_2 24 = .ok (.goto 16, 3) := dk_167 0 16 (dk_at dksJ17_compareTo_2_1 0 rfl rfl)
theorem dJ17_compareTo_2_27 : decode cJ17_compareTo_2 27 = .ok (.aload_n 0, 1) := dk_42 (dk_at dksJ17_compareTo_2_1 3 rfl rfl)
theorem dJ17_compareTo_2_28 : decode cJ17_compareTo_2 28 = .ok (.iload 5, 2) := dk_21 5 (dk_at dksJ17_compareTo_2_1 4 rfl rfl)
theorem dJ17_compareTo_2_30 : decode cJ17_compareTo_2 30 = .ok (.invokestatic 50, 3) := dk_184 0 50 (dk_at dksJ17_compareTo_2_1 6 rfl rfl)
theorem dJ17_compareTo_2_33 : decode cJ17_compareTo_2 33 = .ok (.aload_n 1, 1) := dk_43 (dk_at dksJ17_compareTo_2_1 9 rfl rfl)
theorem dJ17_compareTo_2_34 : decode cJ17_compareTo_2 34 = .ok (.iload 5, 2) := dk_21 5 (dk_at dksJ17_compareTo_2_1 10 rfl rfl)
theorem dJ17_compareTo_2_36 : decode cJ17_compareTo_2 36 = .ok (.invokestatic 50, 3) := dk_184 0 50 (dk_at dksJ17_compareTo_2_1 12 rfl rfl)
theorem dJ17_compareTo_2_39 : decode cJ17_compareTo_2 39 = .ok (.isub, 1) := dk_100 (dk_at dksJ17_compareTo_2_1 15 rfl rfl)
theorem dJ17_compareTo_2_40 : decode cJ17_compareTo_2 40 = .ok (.ireturn, 1) := dk_172 (dk_at dksJ17_compareTo_2_1 16 rfl rfl)
abbrev cJ17_getChar : ByteArray := prog_40_method_44_code
def yJ17_getChar : MethodName := ⟨RJ17, "getChar", "([BI)C"⟩
def dkwJ17_getChar_0 : List UInt8 := [42, 27, 51, 17, 0, 255, 126, 146, 172]
abbrev dktJ17_getChar_0 : List UInt8 := dkwJ17_getChar_0 ++ []
theorem dksJ17_getChar_0 : cJ17_getChar.data.toList.drop 0 = dktJ17_getChar_0 := by decide +kernel
theorem dJ17_getChar_0 : decode cJ17_getChar 0 = .ok (.aload_n 0, 1) := dk_42 (dk_at dksJ17_getChar_0 0 rfl rfl)
theorem dJ17_getChar_1 : decode cJ17_getChar 1 = .ok (.iload_n 1, 1) := dk_27 (dk_at dksJ17_getChar_0 1 rfl rfl)
theorem dJ17_getChar_2 : decode cJ17_getChar 2 = .ok (.baload, 1) := dk_51 (dk_at dksJ17_getChar_0 2 rfl rfl)
theorem dJ17_getChar_3 : decode cJ17_getChar 3 = .ok (.sipush 255, 3) := dk_17 0 255 (dk_at dksJ17_getChar_0 3 rfl rfl)
theorem dJ17_getChar_6 : decode cJ17_getChar 6 = .ok (.iand, 1) := dk_126 (dk_at dksJ17_getChar_0 6 rfl rfl)
theorem dJ17_getChar_7 : decode cJ17_getChar 7 = .ok (.i2c, 1) := dk_146 (dk_at dksJ17_getChar_0 7 rfl rfl)
theorem dJ17_getChar_8 : decode cJ17_getChar 8 = .ok (.ireturn, 1) := dk_172 (dk_at dksJ17_getChar_0 8 rfl rfl)
abbrev cJ17_compareToUTF16 : ByteArray := prog_40_method_16_code
def yJ17_compareToUTF16 : MethodName := ⟨RJ17, "compareToUTF16", "([B[B)I"⟩
def dkwJ17_compareToUTF16_0 : List UInt8 := [42, 184, 0, 54, 61, 43, 184, 0, 58, 62, 42, 43, 28, 29, 184, 0, 59, 172]
abbrev dktJ17_compareToUTF16_0 : List UInt8 := dkwJ17_compareToUTF16_0 ++ []
theorem dksJ17_compareToUTF16_0 : cJ17_compareToUTF16.data.toList.drop 0 = dktJ17_compareToUTF16_0 := by decide +kernel
theorem dJ17_compareToUTF16_0 : decode cJ17_compareToUTF16 0 = .ok (.aload_n 0, 1) := dk_42 (dk_at dksJ17_compareToUTF16_0 0 rfl rfl)
theorem dJ17_compareToUTF16_1 : decode cJ17_compareToUTF16 1 = .ok (.invokestatic 54, 3) := dk_184 0 54 (dk_at dksJ17_compareToUTF16_0 1 rfl rfl)
theorem dJ17_compareToUTF16_4 : decode cJ17_compareToUTF16 4 = .ok (.istore_n 2, 1) := dk_61 (dk_at dksJ17_compareToUTF16_0 4 rfl rfl)
theorem dJ17_compareToUTF16_5 : decode cJ17_compareToUTF16 5 = .ok (.aload_n 1, 1) := dk_43 (dk_at dksJ17_compareToUTF16_0 5 rfl rfl)
theorem dJ17_compareToUTF16_6 : decode cJ17_compareToUTF16 6 = .ok (.invokestatic 58, 3) := dk_184 0 58 (dk_at dksJ17_compareToUTF16_0 6 rfl rfl)
theorem dJ17_compareToUTF16_9 : decode cJ17_compareToUTF16 9 = .ok (.istore_n 3, 1) := dk_62 (dk_at dksJ17_compareToUTF16_0 9 rfl rfl)
theorem dJ17_compareToUTF16_10 : decode cJ17_compareToUTF16 10 = .ok (.aload_n 0, 1) := dk_42 (dk_at dksJ17_compareToUTF16_0 10 rfl rfl)
theorem dJ17_compareToUTF16_11 : decode cJ17_compareToUTF16 11 = .ok (.aload_n 1, 1) := dk_43 (dk_at dksJ17_compareToUTF16_0 11 rfl rfl)
theorem dJ17_compareToUTF16_12 : decode cJ17_compareToUTF16 12 = .ok (.iload_n 2, 1) := dk_28 (dk_at dksJ17_compareToUTF16_0 12 rfl rfl)
theorem dJ17_compareToUTF16_13 : decode cJ17_compareToUTF16 13 = .ok (.iload_n 3, 1) := dk_29 (dk_at dksJ17_compareToUTF16_0 13 rfl rfl)
theorem dJ17_compareToUTF16_14 : decode cJ17_compareToUTF16 14 = .ok (.invokestatic 59, 3) := dk_184 0 59 (dk_at dksJ17_compareToUTF16_0 14 rfl rfl)
theorem dJ17_compareToUTF16_17 : decode cJ17_compareToUTF16 17 = .ok (.ireturn, 1) := dk_172 (dk_at dksJ17_compareToUTF16_0 17 rfl rfl)
abbrev cJ17_length : ByteArray := prog_40_method_5_code
def yJ17_length : MethodName := ⟨RJ17, "length", "([B)I"⟩
theorem dJ17_length_0 : decode cJ17_length 0 = .ok (.aload_n 0, 1) := by decide +kernel
theorem dJ17_length_1 : decode cJ17_length 1 = .ok (.arraylength, 1) := by decide +kernel
theorem dJ17_length_2 : decode cJ17_length 2 = .ok (.ireturn, 1) := by decide +kernel
abbrev cJ17_compareToUTF16Values : ByteArray := prog_40_method_18_code
def yJ17_compareToUTF16Values : MethodName := ⟨RJ17, "compareToUTF16Values", "([B[BII)I"⟩
def dkwJ17_compareToUTF16Values_2 : List UInt8 := [132, 5, 1, 167, 255, 217, 28, 29, 100, 172]
abbrev dktJ17_compareToUTF16Values_2 : List UInt8 := dkwJ17_compareToUTF16Values_2 ++ []
def dkwJ17_compareToUTF16Values_1 : List UInt8 := [54, 6, 43, 21, 5, 184, 0, 65, 54, 7, 21, 6, 21, 7, 159, 0, 9, 21, 6, 21, 7, 100, 172]
abbrev dktJ17_compareToUTF16Values_1 : List UInt8 := dkwJ17_compareToUTF16Values_1 ++ dktJ17_compareToUTF16Values_2
def dkwJ17_compareToUTF16Values_0 : List UInt8 := [28, 29, 184, 0, 38, 54, 4, 3, 54, 5, 21, 5, 21, 4, 162, 0, 38, 42, 21, 5, 184, 0, 50]
abbrev dktJ17_compareToUTF16Values_0 : List UInt8 := dkwJ17_compareToUTF16Values_0 ++ dktJ17_compareToUTF16Values_1
theorem dksJ17_compareToUTF16Values_0 : cJ17_compareToUTF16Values.data.toList.drop 0 = dktJ17_compareToUTF16Values_0 := by decide +kernel
theorem dksJ17_compareToUTF16Values_1 : cJ17_compareToUTF16Values.data.toList.drop 23 = dktJ17_compareToUTF16Values_1 := dk_seg dksJ17_compareToUTF16Values_0 23 rfl rfl
theorem dksJ17_compareToUTF16Values_2 : cJ17_compareToUTF16Values.data.toList.drop 46 = dktJ17_compareToUTF16Values_2 := dk_seg dksJ17_compareToUTF16Values_1 23 rfl rfl
theorem dJ17_compareToUTF16Values_0 : decode cJ17_compareToUTF16Values 0 = .ok (.iload_n 2, 1) := dk_28 (dk_at dksJ17_compareToUTF16Values_0 0 rfl rfl)
theorem dJ17_compareToUTF16Values_1 : decode cJ17_compareToUTF16Values 1 = .ok (.iload_n 3, 1) := dk_29 (dk_at dksJ17_compareToUTF16Values_0 1 rfl rfl)
theorem dJ17_compareToUTF16Values_2 : decode cJ17_compareToUTF16Values 2 = .ok (.invokestatic 38, 3) := dk_184 0 38 (dk_at dksJ17_compareToUTF16Values_0 2 rfl rfl)
theorem dJ17_compareToUTF16Values_5 : decode cJ17_compareToUTF16Values 5 = .ok (.istore 4, 2) := dk_54 4 (dk_at dksJ17_compareToUTF16Values_0 5 rfl rfl)
theorem dJ17_compareToUTF16Values_7 : decode cJ17_compareToUTF16Values 7 = .ok (.iconst 0, 1) := dk_3 (dk_at dksJ17_compareToUTF16Values_0 7 rfl rfl)
theorem dJ17_compareToUTF16Values_8 : decode cJ17_compareToUTF16Values 8 = .ok (.istore 5, 2) := dk_54 5 (dk_at dksJ17_compareToUTF16Values_0 8 rfl rfl)
theorem dJ17_compareToUTF16Values_10 : decode cJ17_compareToUTF16Values 10 = .ok (.iload 5, 2) := dk_21 5 (dk_at dksJ17_compareToUTF16Values_0 10 rfl rfl)
theorem dJ17_compareToUTF16Values_12 : decode cJ17_compareToUTF16Values 12 = .ok (.iload 4, 2) := dk_21 4 (dk_at dksJ17_compareToUTF16Values_0 12 rfl rfl)
theorem dJ17_compareToUTF16Values_14 : decode cJ17_compareToUTF16Values 14 = .ok (.if_icmp .ge 38, 3) := dk_162 0 38 (dk_at dksJ17_compareToUTF16Values_0 14 rfl rfl)
theorem dJ17_compareToUTF16Values_17 : decode cJ17_compareToUTF16Values 17 = .ok (.aload_n 0, 1) := dk_42 (dk_at dksJ17_compareToUTF16Values_0 17 rfl rfl)
theorem dJ17_compareToUTF16Values_18 : decode cJ17_compareToUTF16Values 18 = .ok (.iload 5, 2) := dk_21 5 (dk_at dksJ17_compareToUTF16Values_0 18 rfl rfl)
theorem dJ17_compareToUTF16Values_20 : decode cJ17_compareToUTF16Values 20 = .ok (.invokestatic 50, 3) := dk_184 0 50 (dk_at dksJ17_compareToUTF16Values_0 20 rfl rfl)
theorem dJ17_compareToUTF16Values_23 : decode cJ17_compareToUTF16Values 23 = .ok (.istore 6, 2) := dk_54 6 (dk_at dksJ17_compareToUTF16Values_1 0 rfl rfl)
theorem dJ17_compareToUTF16Values_25 : decode cJ17_compareToUTF16Values 25 = .ok (.aload_n 1, 1) := dk_43 (dk_at dksJ17_compareToUTF16Values_1 2 rfl rfl)
theorem dJ17_compareToUTF16Values_26 : decode cJ17_compareToUTF16Values 26 = .ok (.iload 5, 2) := dk_21 5 (dk_at dksJ17_compareToUTF16Values_1 3 rfl rfl)
theorem dJ17_compareToUTF16Values_28 : decode cJ17_compareToUTF16Values 28 = .ok (.invokestatic 65, 3) := dk_184 0 65 (dk_at dksJ17_compareToUTF16Values_1 5 rfl rfl)
theorem dJ17_compareToUTF16Values_31 : decode cJ17_compareToUTF16Values 31 = .ok (.istore 7, 2) := dk_54 7 (dk_at dksJ17_compareToUTF16Values_1 8 rfl rfl)
theorem dJ17_compareToUTF16Values_33 : decode cJ17_compareToUTF16Values 33 = .ok (.iload 6, 2) := dk_21 6 (dk_at dksJ17_compareToUTF16Values_1 10 rfl rfl)
theorem dJ17_compareToUTF16Values_35 : decode cJ17_compareToUTF16Values 35 = .ok (.iload 7, 2) := dk_21 7 (dk_at dksJ17_compareToUTF16Values_1 12 rfl rfl)
theorem dJ17_compareToUTF16Values_37 : decode cJ17_compareToUTF16Values 37 = .ok (.if_icmp .eq 9, 3) := dk_159 0 9 (dk_at dksJ17_compareToUTF16Values_1 14 rfl rfl)
theorem dJ17_compareToUTF16Values_40 : decode cJ17_compareToUTF16Values 40 = .ok (.iload 6, 2) := dk_21 6 (dk_at dksJ17_compareToUTF16Values_1 17 rfl rfl)
theorem dJ17_compareToUTF16Values_42 : decode cJ17_compareToUTF16Values 42 = .ok (.iload 7, 2) := dk_21 7 (dk_at dksJ17_compareToUTF16Values_1 19 rfl rfl)
theorem dJ17_compareToUTF16Values_44 : decode cJ17_compareToUTF16Values 44 = .ok (.isub, 1) := dk_100 (dk_at dksJ17_compareToUTF16Values_1 21 rfl rfl)
theorem dJ17_compareToUTF16Values_45 : decode cJ17_compareToUTF16Values 45 = .ok (.ireturn, 1) := dk_172 (dk_at dksJ17_compareToUTF16Values_1 22 rfl rfl)
theorem dJ17_compareToUTF16Values_46 : decode cJ17_compareToUTF16Values 46 = .ok (.iinc 5 1, 3) := dk_132 5 1 (dk_at dksJ17_compareToUTF16Values_2 0 rfl rfl)
theorem dJ17_compareToUTF16Values_49 : decode cJ17_compareToUTF16Values 49 = .ok (.goto (-39), 3) := dk_167 255 217 (dk_at dksJ17_compareToUTF16Values_2 3 rfl rfl)
theorem dJ17_compareToUTF16Values_52 : decode cJ17_compareToUTF16Values 52 = .ok (.iload_n 2, 1) := dk_28 (dk_at dksJ17_compareToUTF16Values_2 6 rfl rfl)
theorem dJ17_compareToUTF16Values_53 : decode cJ17_compareToUTF16Values 53 = .ok (.iload_n 3, 1) := dk_29 (dk_at dksJ17_compareToUTF16Values_2 7 rfl rfl)
theorem dJ17_compareToUTF16Values_54 : decode cJ17_compareToUTF16Values 54 = .ok (.isub, 1) := dk_100 (dk_at dksJ17_compareToUTF16Values_2 8 rfl rfl)
theorem dJ17_compareToUTF16Values_55 : decode cJ17_compareToUTF16Values 55 = .ok (.ireturn, 1) := dk_172 (dk_at dksJ17_compareToUTF16Values_2 9 rfl rfl)
abbrev cJ17_compareToUTF16_2 : ByteArray := prog_40_method_17_code
def yJ17_compareToUTF16_2 : MethodName := ⟨RJ17, "compareToUTF16", "([B[BII)I"⟩
def dkwJ17_compareToUTF16_2_0 : List UInt8 := [28, 42, 184, 0, 54, 184, 0, 62, 29, 43, 184, 0, 58, 184, 0, 62, 42, 43, 28, 29, 184, 0, 59, 172]
abbrev dktJ17_compareToUTF16_2_0 : List UInt8 := dkwJ17_compareToUTF16_2_0 ++ []
theorem dksJ17_compareToUTF16_2_0 : cJ17_compareToUTF16_2.data.toList.drop 0 = dktJ17_compareToUTF16_2_0 := by decide +kernel
theorem dJ17_compareToUTF16_2_0 : decode cJ17_compareToUTF16_2 0 = .ok (.iload_n 2, 1) := dk_28 (dk_at dksJ17_compareToUTF16_2_0 0 rfl rfl)
theorem dJ17_compareToUTF16_2_1 : decode cJ17_compareToUTF16_2 1 = .ok (.aload_n 0, 1) := dk_42 (dk_at dksJ17_compareToUTF16_2_0 1 rfl rfl)
theorem dJ17_compareToUTF16_2_2 : decode cJ17_compareToUTF16_2 2 = .ok (.invokestatic 54, 3) := dk_184 0 54 (dk_at dksJ17_compareToUTF16_2_0 2 rfl rfl)
theorem dJ17_compareToUTF16_2_5 : decode cJ17_compareToUTF16_2 5 = .ok (.invokestatic 62, 3) := dk_184 0 62 (dk_at dksJ17_compareToUTF16_2_0 5 rfl rfl)
theorem dJ17_compareToUTF16_2_8 : decode cJ17_compareToUTF16_2 8 = .ok (.iload_n 3, 1) := dk_29 (dk_at dksJ17_compareToUTF16_2_0 8 rfl rfl)
theorem dJ17_compareToUTF16_2_9 : decode cJ17_compareToUTF16_2 9 = .ok (.aload_n 1, 1) := dk_43 (dk_at dksJ17_compareToUTF16_2_0 9 rfl rfl)
theorem dJ17_compareToUTF16_2_10 : decode cJ17_compareToUTF16_2 10 = .ok (.invokestatic 58, 3) := dk_184 0 58 (dk_at dksJ17_compareToUTF16_2_0 10 rfl rfl)
theorem dJ17_compareToUTF16_2_13 : decode cJ17_compareToUTF16_2 13 = .ok (.invokestatic 62, 3) := dk_184 0 62 (dk_at dksJ17_compareToUTF16_2_0 13 rfl rfl)
theorem dJ17_compareToUTF16_2_16 : decode cJ17_compareToUTF16_2 16 = .ok (.aload_n 0, 1) := dk_42 (dk_at dksJ17_compareToUTF16_2_0 16 rfl rfl)
theorem dJ17_compareToUTF16_2_17 : decode cJ17_compareToUTF16_2 17 = .ok (.aload_n 1, 1) := dk_43 (dk_at dksJ17_compareToUTF16_2_0 17 rfl rfl)
theorem dJ17_compareToUTF16_2_18 : decode cJ17_compareToUTF16_2 18 = .ok (.iload_n 2, 1) := dk_28 (dk_at dksJ17_compareToUTF16_2_0 18 rfl rfl)
theorem dJ17_compareToUTF16_2_19 : decode cJ17_compareToUTF16_2 19 = .ok (.iload_n 3, 1) := dk_29 (dk_at dksJ17_compareToUTF16_2_0 19 rfl rfl)
theorem dJ17_compareToUTF16_2_20 : decode cJ17_compareToUTF16_2 20 = .ok (.invokestatic 59, 3) := dk_184 0 59 (dk_at dksJ17_compareToUTF16_2_0 20 rfl rfl)
theorem dJ17_compareToUTF16_2_23 : decode cJ17_compareToUTF16_2 23 = .ok (.ireturn, 1) := dk_172 (dk_at dksJ17_compareToUTF16_2_0 23 rfl rfl)
abbrev cJ17_fillNull : ByteArray := prog_40_method_48_code
def yJ17_fillNull : MethodName := ⟨RJ17, "fillNull", "([BII)V"⟩
def dkwJ17_fillNull_0 : List UInt8 := [42, 27, 28, 3, 184, 0, 236, 177]
abbrev dktJ17_fillNull_0 : List UInt8 := dkwJ17_fillNull_0 ++ []
theorem dksJ17_fillNull_0 : cJ17_fillNull.data.toList.drop 0 = dktJ17_fillNull_0 := by decide +kernel
theorem dJ17_fillNull_0 : decode cJ17_fillNull 0 = .ok (.aload_n 0, 1) := dk_42 (dk_at dksJ17_fillNull_0 0 rfl rfl)
theorem dJ17_fillNull_1 : decode cJ17_fillNull 1 = .ok (.iload_n 1, 1) := dk_27 (dk_at dksJ17_fillNull_0 1 rfl rfl)
theorem dJ17_fillNull_2 : decode cJ17_fillNull 2 = .ok (.iload_n 2, 1) := dk_28 (dk_at dksJ17_fillNull_0 2 rfl rfl)
theorem dJ17_fillNull_3 : decode cJ17_fillNull 3 = .ok (.iconst 0, 1) := dk_3 (dk_at dksJ17_fillNull_0 3 rfl rfl)
theorem dJ17_fillNull_4 : decode cJ17_fillNull 4 = .ok (.invokestatic 236, 3) := dk_184 0 236 (dk_at dksJ17_fillNull_0 4 rfl rfl)
theorem dJ17_fillNull_7 : decode cJ17_fillNull 7 = .ok (.return_, 1) := dk_177 (dk_at dksJ17_fillNull_0 7 rfl rfl)
abbrev cJ17_charAt : ByteArray := prog_40_method_2_code
def yJ17_charAt : MethodName := ⟨RJ17, "charAt", "([BI)C"⟩
def dkwJ17_charAt_0 : List UInt8 := [27, 42, 190, 184, 0, 9, 42, 27, 51, 17, 0, 255, 126, 146, 172]
abbrev dktJ17_charAt_0 : List UInt8 := dkwJ17_charAt_0 ++ []
theorem dksJ17_charAt_0 : cJ17_charAt.data.toList.drop 0 = dktJ17_charAt_0 := by decide +kernel
theorem dJ17_charAt_0 : decode cJ17_charAt 0 = .ok (.iload_n 1, 1) := dk_27 (dk_at dksJ17_charAt_0 0 rfl rfl)
theorem dJ17_charAt_1 : decode cJ17_charAt 1 = .ok (.aload_n 0, 1) := dk_42 (dk_at dksJ17_charAt_0 1 rfl rfl)
theorem dJ17_charAt_2 : decode cJ17_charAt 2 = .ok (.arraylength, 1) := dk_190 (dk_at dksJ17_charAt_0 2 rfl rfl)
theorem dJ17_charAt_3 : decode cJ17_charAt 3 = .ok (.invokestatic 9, 3) := dk_184 0 9 (dk_at dksJ17_charAt_0 3 rfl rfl)
theorem dJ17_charAt_6 : decode cJ17_charAt 6 = .ok (.aload_n 0, 1) := dk_42 (dk_at dksJ17_charAt_0 6 rfl rfl)
theorem dJ17_charAt_7 : decode cJ17_charAt 7 = .ok (.iload_n 1, 1) := dk_27 (dk_at dksJ17_charAt_0 7 rfl rfl)
theorem dJ17_charAt_8 : decode cJ17_charAt 8 = .ok (.baload, 1) := dk_51 (dk_at dksJ17_charAt_0 8 rfl rfl)
theorem dJ17_charAt_9 : decode cJ17_charAt 9 = .ok (.sipush 255, 3) := dk_17 0 255 (dk_at dksJ17_charAt_0 9 rfl rfl)
theorem dJ17_charAt_12 : decode cJ17_charAt 12 = .ok (.iand, 1) := dk_126 (dk_at dksJ17_charAt_0 12 rfl rfl)
theorem dJ17_charAt_13 : decode cJ17_charAt 13 = .ok (.i2c, 1) := dk_146 (dk_at dksJ17_charAt_0 13 rfl rfl)
theorem dJ17_charAt_14 : decode cJ17_charAt 14 = .ok (.ireturn, 1) := dk_172 (dk_at dksJ17_charAt_0 14 rfl rfl)
theorem q156 : (Jvm.Cond.initialized "java/lang/StringLatin1") ∈ lw_all := lw_g (lw_at lw_m1 22 rfl) rfl
theorem q505 : (Jvm.Cond.static ({ cls := "java/lang/StringLatin1", name := "inflate", desc := "([BI[BII)V" } : Jvm.MethodName)) ∈ lw_all := lw_g (lw_at lw_m2 131 rfl) rfl
theorem q506 : (Jvm.Cond.code ({ cls := "java/lang/StringLatin1", name := "inflate", desc := "([BI[BII)V" } : Jvm.MethodName) prog_40_method_50_code (5 : Nat) (Option.none : Option Jvm.ClassFile.FieldType)) ∈ lw_all := lw_g (lw_at lw_m2 132 rfl) rfl
theorem q507 : (Jvm.Cond.methodLink "java/lang/StringLatin1" (240 : Nat) ({ cls := "java/lang/StringUTF16", name := "inflate", desc := "([BI[BII)V" } : Jvm.MethodName)) ∈ lw_all := lw_g (lw_at lw_m2 133 rfl) rfl
theorem q947 : (Jvm.Cond.static ({ cls := "java/lang/StringLatin1", name := "canEncode", desc := "(C)Z" } : Jvm.MethodName)) ∈ lw_all := lw_g (lw_at lw_m4 93 rfl) rfl
theorem q948 : (Jvm.Cond.code ({ cls := "java/lang/StringLatin1", name := "canEncode", desc := "(C)Z" } : Jvm.MethodName) prog_40_method_3_code (1 : Nat) (Option.some Jvm.ClassFile.FieldType.boolean)) ∈ lw_all := lw_g (lw_at lw_m4 94 rfl) rfl
theorem q1014 : (Jvm.Cond.static ({ cls := "java/lang/StringLatin1", name := "equals", desc := "([B[B)Z" } : Jvm.MethodName)) ∈ lw_all := lw_g (lw_at lw_m4 160 rfl) rfl
theorem q1015 : (Jvm.Cond.code ({ cls := "java/lang/StringLatin1", name := "equals", desc := "([B[B)Z" } : Jvm.MethodName) prog_40_method_13_code (3 : Nat) (Option.some Jvm.ClassFile.FieldType.boolean)) ∈ lw_all := lw_g (lw_at lw_m4 161 rfl) rfl
theorem q1115 : (Jvm.Cond.static ({ cls := "java/lang/StringLatin1", name := "hashCode", desc := "([B)I" } : Jvm.MethodName)) ∈ lw_all := lw_g (lw_at lw_m5 21 rfl) rfl
theorem q1116 : (Jvm.Cond.code ({ cls := "java/lang/StringLatin1", name := "hashCode", desc := "([B)I" } : Jvm.MethodName) prog_40_method_21_code (1 : Nat) (Option.some Jvm.ClassFile.FieldType.int)) ∈ lw_all := lw_g (lw_at lw_m5 22 rfl) rfl
theorem q1117 : (Jvm.Cond.methodLink "java/lang/StringLatin1" (84 : Nat) ({ cls := "jdk/internal/util/ArraysSupport", name := "vectorizedHashCode", desc := "(Ljava/lang/Object;IIII)I" } : Jvm.MethodName)) ∈ lw_all := lw_g (lw_at lw_m5 23 rfl) rfl
theorem q2000 : (Jvm.Cond.static ({ cls := "java/lang/StringLatin1", name := "compareTo", desc := "([B[B)I" } : Jvm.MethodName)) ∈ lw_all := lw_g (lw_at lw_m8 186 rfl) rfl
theorem q2001 : (Jvm.Cond.code ({ cls := "java/lang/StringLatin1", name := "compareTo", desc := "([B[B)I" } : Jvm.MethodName) prog_40_method_14_code (4 : Nat) (Option.some Jvm.ClassFile.FieldType.int)) ∈ lw_all := lw_g (lw_at lw_m8 187 rfl) rfl
theorem q2002 : (Jvm.Cond.methodLink "java/lang/StringLatin1" (34 : Nat) ({ cls := "java/lang/StringLatin1", name := "compareTo", desc := "([B[BII)I" } : Jvm.MethodName)) ∈ lw_all := lw_g (lw_at lw_m8 188 rfl) rfl
theorem q2003 : (Jvm.Cond.static ({ cls := "java/lang/StringLatin1", name := "compareTo", desc := "([B[BII)I" } : Jvm.MethodName)) ∈ lw_all := lw_g (lw_at lw_m8 189 rfl) rfl
theorem q2004 : (Jvm.Cond.code ({ cls := "java/lang/StringLatin1", name := "compareTo", desc := "([B[BII)I" } : Jvm.MethodName) prog_40_method_15_code (6 : Nat) (Option.some Jvm.ClassFile.FieldType.int)) ∈ lw_all := lw_g (lw_at lw_m8 190 rfl) rfl
theorem q2005 : (Jvm.Cond.methodLink "java/lang/StringLatin1" (38 : Nat) ({ cls := "java/lang/Math", name := "min", desc := "(II)I" } : Jvm.MethodName)) ∈ lw_all := lw_g (lw_at lw_m8 191 rfl) rfl
theorem q2006 : (Jvm.Cond.methodLink "java/lang/StringLatin1" (44 : Nat) ({ cls := "jdk/internal/util/ArraysSupport", name := "mismatch", desc := "([B[BI)I" } : Jvm.MethodName)) ∈ lw_all := lw_g (lw_at lw_m8 192 rfl) rfl
theorem q2110 : (Jvm.Cond.methodLink "java/lang/StringLatin1" (50 : Nat) ({ cls := "java/lang/StringLatin1", name := "getChar", desc := "([BI)C" } : Jvm.MethodName)) ∈ lw_all := lw_g (lw_at lw_m9 56 rfl) rfl
theorem q2111 : (Jvm.Cond.static ({ cls := "java/lang/StringLatin1", name := "getChar", desc := "([BI)C" } : Jvm.MethodName)) ∈ lw_all := lw_g (lw_at lw_m9 57 rfl) rfl
theorem q2112 : (Jvm.Cond.code ({ cls := "java/lang/StringLatin1", name := "getChar", desc := "([BI)C" } : Jvm.MethodName) prog_40_method_44_code (2 : Nat) (Option.some Jvm.ClassFile.FieldType.char)) ∈ lw_all := lw_g (lw_at lw_m9 58 rfl) rfl
theorem q2121 : (Jvm.Cond.static ({ cls := "java/lang/StringLatin1", name := "compareToUTF16", desc := "([B[B)I" } : Jvm.MethodName)) ∈ lw_all := lw_g (lw_at lw_m9 67 rfl) rfl
theorem q2122 : (Jvm.Cond.code ({ cls := "java/lang/StringLatin1", name := "compareToUTF16", desc := "([B[B)I" } : Jvm.MethodName) prog_40_method_16_code (4 : Nat) (Option.some Jvm.ClassFile.FieldType.int)) ∈ lw_all := lw_g (lw_at lw_m9 68 rfl) rfl
theorem q2123 : (Jvm.Cond.methodLink "java/lang/StringLatin1" (54 : Nat) ({ cls := "java/lang/StringLatin1", name := "length", desc := "([B)I" } : Jvm.MethodName)) ∈ lw_all := lw_g (lw_at lw_m9 69 rfl) rfl
theorem q2124 : (Jvm.Cond.static ({ cls := "java/lang/StringLatin1", name := "length", desc := "([B)I" } : Jvm.MethodName)) ∈ lw_all := lw_g (lw_at lw_m9 70 rfl) rfl
theorem q2125 : (Jvm.Cond.code ({ cls := "java/lang/StringLatin1", name := "length", desc := "([B)I" } : Jvm.MethodName) prog_40_method_5_code (1 : Nat) (Option.some Jvm.ClassFile.FieldType.int)) ∈ lw_all := lw_g (lw_at lw_m9 71 rfl) rfl
theorem q2126 : (Jvm.Cond.methodLink "java/lang/StringLatin1" (58 : Nat) ({ cls := "java/lang/StringUTF16", name := "length", desc := "([B)I" } : Jvm.MethodName)) ∈ lw_all := lw_g (lw_at lw_m9 72 rfl) rfl
theorem q2127 : (Jvm.Cond.methodLink "java/lang/StringLatin1" (59 : Nat) ({ cls := "java/lang/StringLatin1", name := "compareToUTF16Values", desc := "([B[BII)I" } : Jvm.MethodName)) ∈ lw_all := lw_g (lw_at lw_m9 73 rfl) rfl
theorem q2128 : (Jvm.Cond.static ({ cls := "java/lang/StringLatin1", name := "compareToUTF16Values", desc := "([B[BII)I" } : Jvm.MethodName)) ∈ lw_all := lw_g (lw_at lw_m9 74 rfl) rfl
theorem q2129 : (Jvm.Cond.code ({ cls := "java/lang/StringLatin1", name := "compareToUTF16Values", desc := "([B[BII)I" } : Jvm.MethodName) prog_40_method_18_code (8 : Nat) (Option.some Jvm.ClassFile.FieldType.int)) ∈ lw_all := lw_g (lw_at lw_m9 75 rfl) rfl
theorem q2130 : (Jvm.Cond.methodLink "java/lang/StringLatin1" (65 : Nat) ({ cls := "java/lang/StringUTF16", name := "getChar", desc := "([BI)C" } : Jvm.MethodName)) ∈ lw_all := lw_g (lw_at lw_m9 76 rfl) rfl
theorem q2160 : (Jvm.Cond.static ({ cls := "java/lang/StringLatin1", name := "compareToUTF16", desc := "([B[BII)I" } : Jvm.MethodName)) ∈ lw_all := lw_g (lw_at lw_m9 106 rfl) rfl
theorem q2161 : (Jvm.Cond.code ({ cls := "java/lang/StringLatin1", name := "compareToUTF16", desc := "([B[BII)I" } : Jvm.MethodName) prog_40_method_17_code (4 : Nat) (Option.some Jvm.ClassFile.FieldType.int)) ∈ lw_all := lw_g (lw_at lw_m9 107 rfl) rfl
theorem q2162 : (Jvm.Cond.methodLink "java/lang/StringLatin1" (62 : Nat) ({ cls := "java/lang/String", name := "checkOffset", desc := "(II)V" } : Jvm.MethodName)) ∈ lw_all := lw_g (lw_at lw_m9 108 rfl) rfl
theorem q2406 : (Jvm.Cond.static ({ cls := "java/lang/StringLatin1", name := "fillNull", desc := "([BII)V" } : Jvm.MethodName)) ∈ lw_all := lw_g (lw_at lw_m10 112 rfl) rfl
theorem q2407 : (Jvm.Cond.code ({ cls := "java/lang/StringLatin1", name := "fillNull", desc := "([BII)V" } : Jvm.MethodName) prog_40_method_48_code (3 : Nat) (Option.none : Option Jvm.ClassFile.FieldType)) ∈ lw_all := lw_g (lw_at lw_m10 113 rfl) rfl
theorem q2408 : (Jvm.Cond.methodLink "java/lang/StringLatin1" (236 : Nat) ({ cls := "java/util/Arrays", name := "fill", desc := "([BIIB)V" } : Jvm.MethodName)) ∈ lw_all := lw_g (lw_at lw_m10 114 rfl) rfl
theorem q2649 : (Jvm.Cond.static ({ cls := "java/lang/StringLatin1", name := "charAt", desc := "([BI)C" } : Jvm.MethodName)) ∈ lw_all := lw_g (lw_at lw_m11 115 rfl) rfl
theorem q2650 : (Jvm.Cond.code ({ cls := "java/lang/StringLatin1", name := "charAt", desc := "([BI)C" } : Jvm.MethodName) prog_40_method_2_code (2 : Nat) (Option.some Jvm.ClassFile.FieldType.char)) ∈ lw_all := lw_g (lw_at lw_m11 116 rfl) rfl
theorem q2651 : (Jvm.Cond.methodLink "java/lang/StringLatin1" (9 : Nat) ({ cls := "java/lang/String", name := "checkIndex", desc := "(II)V" } : Jvm.MethodName)) ∈ lw_all := lw_g (lw_at lw_m11 117 rfl) rfl
/-! java/util/Objects -/
set_option maxRecDepth 100000
def RJ18 : String := "java/util/Objects"
abbrev cJ18_checkIndex : ByteArray := prog_59_method_17_code
def yJ18_checkIndex : MethodName := ⟨RJ18, "checkIndex", "(II)I"⟩
def dkwJ18_checkIndex_0 : List UInt8 := [26, 27, 1, 184, 0, 105, 172]
abbrev dktJ18_checkIndex_0 : List UInt8 := dkwJ18_checkIndex_0 ++ []
theorem dksJ18_checkIndex_0 : cJ18_checkIndex.data.toList.drop 0 = dktJ18_checkIndex_0 := by decide +kernel
theorem dJ18_checkIndex_0 : decode cJ18_checkIndex 0 = .ok (.iload_n 0, 1) := dk_26 (dk_at dksJ18_checkIndex_0 0 rfl rfl)
theorem dJ18_checkIndex_1 : decode cJ18_checkIndex 1 = .ok (.iload_n 1, 1) := dk_27 (dk_at dksJ18_checkIndex_0 1 rfl rfl)
theorem dJ18_checkIndex_2 : decode cJ18_checkIndex 2 = .ok (.aconst_null, 1) := dk_1 (dk_at dksJ18_checkIndex_0 2 rfl rfl)
theorem dJ18_checkIndex_3 : decode cJ18_checkIndex 3 = .ok (.invokestatic 105, 3) := dk_184 0 105 (dk_at dksJ18_checkIndex_0 3 rfl rfl)
theorem dJ18_checkIndex_6 : decode cJ18_checkIndex 6 = .ok (.ireturn, 1) := dk_172 (dk_at dksJ18_checkIndex_0 6 rfl rfl)
theorem q157 : (Jvm.Cond.initialized "java/util/Objects") ∈ lw_all := lw_g (lw_at lw_m1 23 rfl) rfl
theorem q682 : (Jvm.Cond.static ({ cls := "java/util/Objects", name := "checkIndex", desc := "(II)I" } : Jvm.MethodName)) ∈ lw_all := lw_g (lw_at lw_m3 68 rfl) rfl
theorem q683 : (Jvm.Cond.code ({ cls := "java/util/Objects", name := "checkIndex", desc := "(II)I" } : Jvm.MethodName) prog_59_method_17_code (2 : Nat) (Option.some Jvm.ClassFile.FieldType.int)) ∈ lw_all := lw_g (lw_at lw_m3 69 rfl) rfl
theorem q684 : (Jvm.Cond.methodLink "java/util/Objects" (105 : Nat) ({ cls := "jdk/internal/util/Preconditions", name := "checkIndex", desc := "(IILjava/util/function/BiFunction;)I" } : Jvm.MethodName)) ∈ lw_all := lw_g (lw_at lw_m3 70 rfl) rfl
/-! java/util/ArrayDeque -/
set_option maxRecDepth 100000
def RJ19 : String := "java/util/ArrayDeque"
def TJ19 : u_T := fun k => match k with
  | 0 => ("java/util/ArrayDeque", "elements", "[Ljava/lang/Object;", false)
  | 1 => ("java/util/ArrayDeque", "head", "I", false)
  | _ => ("java/util/ArrayDeque", "tail", "I", false)
def tyJ19 : Nat → FieldType := fun k => match k with
  | 0 => .array (.object "java/lang/Object")
  | 1 => .int
  | _ => .int
abbrev wsJ190 : List Cond := u_ws RJ19 TJ19 3
theorem nmJ19 : ∀ a, a < 3 → ∀ b, b < 3 → a ≠ b → (TJ19 a).2.1 ≠ (TJ19 b).2.1 := by decide +kernel
theorem tyJ19_ok : ∀ k, k < 3 → parseFieldDescriptor (TJ19 k).2.2.1 = some (tyJ19 k) := by decide +kernel
abbrev cJ19_init : ByteArray := prog_49_method_4_code
def yJ19_init : MethodName := ⟨RJ19, "<init>", "(I)V"⟩
def dkwJ19_init_1 : List UInt8 := [167, 0, 6, 27, 4, 96, 189, 0, 47, 181, 0, 3, 177]
abbrev dktJ19_init_1 : List UInt8 := dkwJ19_init_1 ++ []
def dkwJ19_init_0 : List UInt8 := [42, 183, 0, 42, 42, 27, 4, 162, 0, 7, 4, 167, 0, 17, 27, 18, 41, 160, 0, 8, 18, 41]
abbrev dktJ19_init_0 : List UInt8 := dkwJ19_init_0 ++ dktJ19_init_1
theorem dksJ19_init_0 : cJ19_init.data.toList.drop 0 = dktJ19_init_0 := by decide +kernel
theorem dksJ19_init_1 : cJ19_init.data.toList.drop 22 = dktJ19_init_1 := dk_seg dksJ19_init_0 22 rfl rfl
theorem dJ19_init_0 : decode cJ19_init 0 = .ok (.aload_n 0, 1) := dk_42 (dk_at dksJ19_init_0 0 rfl rfl)
theorem dJ19_init_1 : decode cJ19_init 1 = .ok (.invokespecial 42, 3) := dk_183 0 42 (dk_at dksJ19_init_0 1 rfl rfl)
theorem dJ19_init_4 : decode cJ19_init 4 = .ok (.aload_n 0, 1) := dk_42 (dk_at dksJ19_init_0 4 rfl rfl)
theorem dJ19_init_5 : decode cJ19_init 5 = .ok (.iload_n 1, 1) := dk_27 (dk_at dksJ19_init_0 5 rfl rfl)
theorem dJ19_init_6 : decode cJ19_init 6 = .ok (.iconst 1, 1) := dk_4 (dk_at dksJ19_init_0 6 rfl rfl)
theorem dJ19_init_7 : decode cJ19_init 7 = .ok (.if_icmp .ge 7, 3) := dk_162 0 7 (dk_at dksJ19_init_0 7 rfl rfl)
theorem dJ19_init_10 : decode cJ19_init 10 = .ok (.iconst 1, 1) := dk_4 (dk_at dksJ19_init_0 10 rfl rfl)
theorem dJ19_init_11 : decode cJ19_init 11 = .ok (.goto 17, 3) := dk_167 0 17 (dk_at dksJ19_init_0 11 rfl rfl)
theorem dJ19_init_14 : decode cJ19_init 14 = .ok (.iload_n 1, 1) := dk_27 (dk_at dksJ19_init_0 14 rfl rfl)
theorem dJ19_init_15 : decode cJ19_init 15 = .ok (.ldc 41, 2) := dk_18 41 (dk_at dksJ19_init_0 15 rfl rfl)
theorem dJ19_init_17 : decode cJ19_init 17 = .ok (.if_icmp .ne 8, 3) := dk_160 0 8 (dk_at dksJ19_init_0 17 rfl rfl)
theorem dJ19_init_20 : decode cJ19_init 20 = .ok (.ldc 41, 2) := dk_18 41 (dk_at dksJ19_init_0 20 rfl rfl)
theorem dJ19_init_22 : decode cJ19_init 22 = .ok (.goto 6, 3) := dk_167 0 6 (dk_at dksJ19_init_1 0 rfl rfl)
theorem dJ19_init_25 : decode cJ19_init 25 = .ok (.iload_n 1, 1) := dk_27 (dk_at dksJ19_init_1 3 rfl rfl)
theorem dJ19_init_26 : decode cJ19_init 26 = .ok (.iconst 1, 1) := dk_4 (dk_at dksJ19_init_1 4 rfl rfl)
theorem dJ19_init_27 : decode cJ19_init 27 = .ok (.iadd, 1) := dk_96 (dk_at dksJ19_init_1 5 rfl rfl)
theorem dJ19_init_28 : decode cJ19_init 28 = .ok (.anewarray 47, 3) := dk_189 0 47 (dk_at dksJ19_init_1 6 rfl rfl)
theorem dJ19_init_31 : decode cJ19_init 31 = .ok (.putfield 3, 3) := dk_181 0 3 (dk_at dksJ19_init_1 9 rfl rfl)
theorem dJ19_init_34 : decode cJ19_init 34 = .ok (.return_, 1) := dk_177 (dk_at dksJ19_init_1 12 rfl rfl)
abbrev cJ19_clear : ByteArray := prog_49_method_53_code
def yJ19_clear : MethodName := ⟨RJ19, "clear", "()V"⟩
def dkwJ19_clear_1 : List UInt8 := [181, 0, 24, 177]
abbrev dktJ19_clear_1 : List UInt8 := dkwJ19_clear_1 ++ []
def dkwJ19_clear_0 : List UInt8 := [42, 180, 0, 3, 42, 180, 0, 24, 42, 180, 0, 20, 184, 0, 181, 42, 42, 3, 90, 181, 0, 20]
abbrev dktJ19_clear_0 : List UInt8 := dkwJ19_clear_0 ++ dktJ19_clear_1
theorem dksJ19_clear_0 : cJ19_clear.data.toList.drop 0 = dktJ19_clear_0 := by decide +kernel
theorem dksJ19_clear_1 : cJ19_clear.data.toList.drop 22 = dktJ19_clear_1 := dk_seg dksJ19_clear_0 22 rfl rfl
theorem dJ19_clear_0 : decode cJ19_clear 0 = .ok (.aload_n 0, 1) := dk_42 (dk_at dksJ19_clear_0 0 rfl rfl)
theorem dJ19_clear_1 : decode cJ19_clear 1 = .ok (.getfield 3, 3) := dk_180 0 3 (dk_at dksJ19_clear_0 1 rfl rfl)
theorem dJ19_clear_4 : decode cJ19_clear 4 = .ok (.aload_n 0, 1) := dk_42 (dk_at dksJ19_clear_0 4 rfl rfl)
theorem dJ19_clear_5 : decode cJ19_clear 5 = .ok (.getfield 24, 3) := dk_180 0 24 (dk_at dksJ19_clear_0 5 rfl rfl)
theorem dJ19_clear_8 : decode cJ19_clear 8 = .ok (.aload_n 0, 1) := dk_42 (dk_at dksJ19_clear_0 8 rfl rfl)
theorem dJ19_clear_9 : decode cJ19_clear 9 = .ok (.getfield 20, 3) := dk_180 0 20 (dk_at dksJ19_clear_0 9 rfl rfl)
theorem dJ19_clear_12 : decode cJ19_clear 12 = .ok (.invokestatic 181, 3) := dk_184 0 181 (dk_at dksJ19_clear_0 12 rfl rfl)
theorem dJ19_clear_15 : decode cJ19_clear 15 = .ok (.aload_n 0, 1) := dk_42 (dk_at dksJ19_clear_0 15 rfl rfl)
theorem dJ19_clear_16 : decode cJ19_clear 16 = .ok (.aload_n 0, 1) := dk_42 (dk_at dksJ19_clear_0 16 rfl rfl)
theorem dJ19_clear_17 : decode cJ19_clear 17 = .ok (.iconst 0, 1) := dk_3 (dk_at dksJ19_clear_0 17 rfl rfl)
theorem dJ19_clear_18 : decode cJ19_clear 18 = .ok (.dup_x1, 1) := dk_90 (dk_at dksJ19_clear_0 18 rfl rfl)
theorem dJ19_clear_19 : decode cJ19_clear 19 = .ok (.putfield 20, 3) := dk_181 0 20 (dk_at dksJ19_clear_0 19 rfl rfl)
theorem dJ19_clear_22 : decode cJ19_clear 22 = .ok (.putfield 24, 3) := dk_181 0 24 (dk_at dksJ19_clear_1 0 rfl rfl)
theorem dJ19_clear_25 : decode cJ19_clear 25 = .ok (.return_, 1) := dk_177 (dk_at dksJ19_clear_1 3 rfl rfl)
abbrev cJ19_circularClear : ByteArray := prog_49_method_54_code
def yJ19_circularClear : MethodName := ⟨RJ19, "circularClear", "([Ljava/lang/Object;II)V"⟩
def dkwJ19_circularClear_1 : List UInt8 := [167, 255, 244, 29, 28, 160, 0, 6, 167, 0, 10, 3, 60, 28, 62, 167, 255, 229, 177]
abbrev dktJ19_circularClear_1 : List UInt8 := dkwJ19_circularClear_1 ++ []
def dkwJ19_circularClear_0 : List UInt8 := [27, 28, 163, 0, 7, 28, 167, 0, 5, 42, 190, 62, 27, 29, 162, 0, 13, 42, 27, 1, 83, 132, 1, 1]
abbrev dktJ19_circularClear_0 : List UInt8 := dkwJ19_circularClear_0 ++ dktJ19_circularClear_1
theorem dksJ19_circularClear_0 : cJ19_circularClear.data.toList.drop 0 = dktJ19_circularClear_0 := by decide +kernel
theorem dksJ19_circularClear_1 : cJ19_circularClear.data.toList.drop 24 = dktJ19_circularClear_1 := dk_seg dksJ19_circularClear_0 24 rfl rfl
theorem dJ19_circularClear_0 : decode cJ19_circularClear 0 = .ok (.iload_n 1, 1) := dk_27 (dk_at dksJ19_circularClear_0 0 rfl rfl)
theorem dJ19_circularClear_1 : decode cJ19_circularClear 1 = .ok (.iload_n 2, 1) := dk_28 (dk_at dksJ19_circularClear_0 1 rfl rfl)
theorem dJ19_circularClear_2 : decode cJ19_circularClear 2 = .ok (.if_icmp .gt 7, 3) := dk_163 0 7 (dk_at dksJ19_circularClear_0 2 rfl rfl)
theorem dJ19_circularClear_5 : decode cJ19_circularClear 5 = .ok (.iload_n 2, 1) := dk_28 (dk_at dksJ19_circularClear_0 5 rfl rfl)
theorem dJ19_circularClear_6 : decode cJ19_circularClear 6 = .ok (.goto 5, 3) := dk_167 0 5 (dk_at dksJ19_circularClear_0 6 rfl rfl)
theorem dJ19_circularClear_9 : decode cJ19_circularClear 9 = .ok (.aload_n 0, 1) := dk_42 (dk_at dksJ19_circularClear_0 9 rfl rfl)
theorem dJ19_circularClear_10 : decode cJ19_circularClear 10 = .ok (.arraylength, 1) := dk_190 (dk_at dksJ19_circularClear_0 10 rfl rfl)
theorem dJ19_circularClear_11 : decode cJ19_circularClear 11 = .ok (.istore_n 3, 1) := dk_62 (dk_at dksJ19_circularClear_0 11 rfl rfl)
theorem dJ19_circularClear_12 : decode cJ19_circularClear 12 = .ok (.iload_n 1, 1) := dk_27 (dk_at dksJ19_circularClear_0 12 rfl rfl)
theorem dJ19_circularClear_13 : decode cJ19_circularClear 13 = .ok (.iload_n 3, 1) := dk_29 (dk_at dksJ19_circularClear_0 13 rfl rfl)
theorem dJ19_circularClear_14 : decode cJ19_circularClear 14 = .ok (.if_icmp .ge 13, 3) := dk_162 0 13 (dk_at dksJ19_circularClear_0 14 rfl rfl)
theorem dJ19_circularClear_17 : decode cJ19_circularClear 17 = .ok (.aload_n 0, 1) := dk_42 (dk_at dksJ19_circularClear_0 17 rfl rfl)
theorem dJ19_circularClear_18 : decode cJ19_circularClear 18 = .ok (.iload_n 1, 1) := dk_27 (dk_at dksJ19_circularClear_0 18 rfl rfl)
theorem dJ19_circularClear_19 : decode cJ19_circularClear 19 = .ok (.aconst_null, 1) := dk_1 (dk_at dksJ19_circularClear_0 19 rfl rfl)
theorem dJ19_circularClear_20 : decode cJ19_circularClear 20 = .ok (.aastore, 1) := dk_83 (dk_at dksJ19_circularClear_0 20 rfl rfl)
theorem dJ19_circularClear_21 : decode cJ19_circularClear 21 = .ok (.iinc 1 1, 3) := dk_132 1 1 (dk_at dksJ19_circularClear_0 21 rfl rfl)
theorem dJ19_circularClear_24 : decode cJ19_circularClear 24 = .ok (.goto (-12), 3) := dk_167 255 244 (dk_at dksJ19_circularClear_1 0 rfl rfl)
theorem dJ19_circularClear_27 : decode cJ19_circularClear 27 = .ok (.iload_n 3, 1) := dk_29 (dk_at dksJ19_circularClear_1 3 rfl rfl)
theorem dJ19_circularClear_28 : decode cJ19_circularClear 28 = .ok (.iload_n 2, 1) := dk_28 (dk_at dksJ19_circularClear_1 4 rfl rfl)
theorem dJ19_circularClear_29 : decode cJ19_circularClear 29 = .ok (.if_icmp .ne 6, 3) := dk_160 0 6 (dk_at dksJ19_circularClear_1 5 rfl rfl)
theorem dJ19_circularClear_32 : decode cJ19_circularClear 32 = .ok (.goto 10, 3) := dk_167 0 10 (dk_at dksJ19_circularClear_1 8 rfl rfl)
theorem dJ19_circularClear_35 : decode cJ19_circularClear 35 = .ok (.iconst 0, 1) := dk_3 (dk_at dksJ19_circularClear_1 11 rfl rfl)
theorem dJ19_circularClear_36 : decode cJ19_circularClear 36 = .ok (.istore_n 1, 1) := dk_60 (dk_at dksJ19_circularClear_1 12 rfl rfl)
theorem dJ19_circularClear_37 : decode cJ19_circularClear 37 = .ok (.iload_n 2, 1) := dk_28 (dk_at dksJ19_circularClear_1 13 rfl rfl)
theorem dJ19_circularClear_38 : decode cJ19_circularClear 38 = .ok (.istore_n 3, 1) := dk_62 (dk_at dksJ19_circularClear_1 14 rfl rfl)
theorem dJ19_circularClear_39 : decode cJ19_circularClear 39 = .ok (.goto (-27), 3) := dk_167 255 229 (dk_at dksJ19_circularClear_1 15 rfl rfl)
theorem dJ19_circularClear_42 : decode cJ19_circularClear 42 = .ok (.return_, 1) := dk_177 (dk_at dksJ19_circularClear_1 18 rfl rfl)
abbrev cJ19_size : ByteArray := prog_49_method_37_code
def yJ19_size : MethodName := ⟨RJ19, "size", "()I"⟩
def dkwJ19_size_0 : List UInt8 := [42, 180, 0, 20, 42, 180, 0, 24, 42, 180, 0, 3, 190, 184, 0, 127, 172]
abbrev dktJ19_size_0 : List UInt8 := dkwJ19_size_0 ++ []
theorem dksJ19_size_0 : cJ19_size.data.toList.drop 0 = dktJ19_size_0 := by decide +kernel
theorem dJ19_size_0 : decode cJ19_size 0 = .ok (.aload_n 0, 1) := dk_42 (dk_at dksJ19_size_0 0 rfl rfl)
theorem dJ19_size_1 : decode cJ19_size 1 = .ok (.getfield 20, 3) := dk_180 0 20 (dk_at dksJ19_size_0 1 rfl rfl)
theorem dJ19_size_4 : decode cJ19_size 4 = .ok (.aload_n 0, 1) := dk_42 (dk_at dksJ19_size_0 4 rfl rfl)
theorem dJ19_size_5 : decode cJ19_size 5 = .ok (.getfield 24, 3) := dk_180 0 24 (dk_at dksJ19_size_0 5 rfl rfl)
theorem dJ19_size_8 : decode cJ19_size 8 = .ok (.aload_n 0, 1) := dk_42 (dk_at dksJ19_size_0 8 rfl rfl)
theorem dJ19_size_9 : decode cJ19_size 9 = .ok (.getfield 3, 3) := dk_180 0 3 (dk_at dksJ19_size_0 9 rfl rfl)
theorem dJ19_size_12 : decode cJ19_size 12 = .ok (.arraylength, 1) := dk_190 (dk_at dksJ19_size_0 12 rfl rfl)
theorem dJ19_size_13 : decode cJ19_size 13 = .ok (.invokestatic 127, 3) := dk_184 0 127 (dk_at dksJ19_size_0 13 rfl rfl)
theorem dJ19_size_16 : decode cJ19_size 16 = .ok (.ireturn, 1) := dk_172 (dk_at dksJ19_size_0 16 rfl rfl)
abbrev cJ19_sub : ByteArray := prog_49_method_9_code
def yJ19_sub : MethodName := ⟨RJ19, "sub", "(III)I"⟩
def dkwJ19_sub_0 : List UInt8 := [26, 27, 100, 89, 59, 156, 0, 7, 26, 28, 96, 59, 26, 172]
abbrev dktJ19_sub_0 : List UInt8 := dkwJ19_sub_0 ++ []
theorem dksJ19_sub_0 : cJ19_sub.data.toList.drop 0 = dktJ19_sub_0 := by decide +kernel
theorem dJ19_sub_0 : decode cJ19_sub 0 = .ok (.iload_n 0, 1) := dk_26 (dk_at dksJ19_sub_0 0 rfl rfl)
theorem dJ19_sub_1 : decode cJ19_sub 1 = .ok (.iload_n 1, 1) := dk_27 (dk_at dksJ19_sub_0 1 rfl rfl)
theorem dJ19_sub_2 : decode cJ19_sub 2 = .ok (.isub, 1) := dk_100 (dk_at dksJ19_sub_0 2 rfl rfl)
theorem dJ19_sub_3 : decode cJ19_sub 3 = .ok (.dup, 1) := dk_89 (dk_at dksJ19_sub_0 3 rfl rfl)
theorem dJ19_sub_4 : decode cJ19_sub 4 = .ok (.istore_n 0, 1) := dk_59 (dk_at dksJ19_sub_0 4 rfl rfl)
theorem dJ19_sub_5 : decode cJ19_sub 5 = .ok (.ifCond .ge 7, 3) := dk_156 0 7 (dk_at dksJ19_sub_0 5 rfl rfl)
theorem dJ19_sub_8 : decode cJ19_sub 8 = .ok (.iload_n 0, 1) := dk_26 (dk_at dksJ19_sub_0 8 rfl rfl)
theorem dJ19_sub_9 : decode cJ19_sub 9 = .ok (.iload_n 2, 1) := dk_28 (dk_at dksJ19_sub_0 9 rfl rfl)
theorem dJ19_sub_10 : decode cJ19_sub 10 = .ok (.iadd, 1) := dk_96 (dk_at dksJ19_sub_0 10 rfl rfl)
theorem dJ19_sub_11 : decode cJ19_sub 11 = .ok (.istore_n 0, 1) := dk_59 (dk_at dksJ19_sub_0 11 rfl rfl)
theorem dJ19_sub_12 : decode cJ19_sub 12 = .ok (.iload_n 0, 1) := dk_26 (dk_at dksJ19_sub_0 12 rfl rfl)
theorem dJ19_sub_13 : decode cJ19_sub 13 = .ok (.ireturn, 1) := dk_172 (dk_at dksJ19_sub_0 13 rfl rfl)
abbrev cJ19_removeFirst : ByteArray := prog_49_method_18_code
def yJ19_removeFirst : MethodName := ⟨RJ19, "removeFirst", "()Ljava/lang/Object;"⟩
def dkwJ19_removeFirst_0 : List UInt8 := [42, 182, 0, 93, 76, 43, 199, 0, 11, 187, 0, 97, 89, 183, 0, 99, 191, 43, 176]
abbrev dktJ19_removeFirst_0 : List UInt8 := dkwJ19_removeFirst_0 ++ []
theorem dksJ19_removeFirst_0 : cJ19_removeFirst.data.toList.drop 0 = dktJ19_removeFirst_0 := by decide +kernel
theorem dJ19_removeFirst_0 : decode cJ19_removeFirst 0 = .ok (.aload_n 0, 1) := dk_42 (dk_at dksJ19_removeFirst_0 0 rfl rfl)
theorem dJ19_removeFirst_1 : decode cJ19_removeFirst 1 = .ok (.invokevirtual 93, 3) := dk_182 0 93 (dk_at dksJ19_removeFirst_0 1 rfl rfl)
theorem dJ19_removeFirst_4 : decode cJ19_removeFirst 4 = .ok (.astore_n 1, 1) := dk_76 (dk_at dksJ19_removeFirst_0 4 rfl rfl)
theorem dJ19_removeFirst_5 : decode cJ19_removeFirst 5 = .ok (.aload_n 1, 1) := dk_43 (dk_at dksJ19_removeFirst_0 5 rfl rfl)
theorem dJ19_removeFirst_6 : decode cJ19_removeFirst 6 = .ok (.ifnonnull 11, 3) := dk_199 0 11 (dk_at dksJ19_removeFirst_0 6 rfl rfl)
theorem dJ19_removeFirst_9 : decode cJ19_removeFirst 9 = .ok (.new 97, 3) := dk_187 0 97 (dk_at dksJ19_removeFirst_0 9 rfl rfl)
theorem dJ19_removeFirst_12 : decode cJ19_removeFirst 12 = .ok (.dup, 1) := dk_89 (dk_at dksJ19_removeFirst_0 12 rfl rfl)
theorem dJ19_removeFirst_13 : decode cJ19_removeFirst 13 = .ok (.invokespecial 99, 3) := dk_183 0 99 (dk_at dksJ19_removeFirst_0 13 rfl rfl)
theorem dJ19_removeFirst_16 : decode cJ19_removeFirst 16 = .ok (.athrow, 1) := dk_191 (dk_at dksJ19_removeFirst_0 16 rfl rfl)
theorem dJ19_removeFirst_17 : decode cJ19_removeFirst 17 = .ok (.aload_n 1, 1) := dk_43 (dk_at dksJ19_removeFirst_0 17 rfl rfl)
theorem dJ19_removeFirst_18 : decode cJ19_removeFirst 18 = .ok (.areturn, 1) := dk_176 (dk_at dksJ19_removeFirst_0 18 rfl rfl)
abbrev cJ19_pollFirst : ByteArray := prog_49_method_20_code
def yJ19_pollFirst : MethodName := ⟨RJ19, "pollFirst", "()Ljava/lang/Object;"⟩
def dkwJ19_pollFirst_1 : List UInt8 := [42, 28, 43, 190, 184, 0, 74, 181, 0, 24, 45, 176]
abbrev dktJ19_pollFirst_1 : List UInt8 := dkwJ19_pollFirst_1 ++ []
def dkwJ19_pollFirst_0 : List UInt8 := [42, 180, 0, 3, 89, 76, 42, 180, 0, 24, 89, 61, 184, 0, 103, 78, 45, 198, 0, 17, 43, 28, 1, 83]
abbrev dktJ19_pollFirst_0 : List UInt8 := dkwJ19_pollFirst_0 ++ dktJ19_pollFirst_1
theorem dksJ19_pollFirst_0 : cJ19_pollFirst.data.toList.drop 0 = dktJ19_pollFirst_0 := by decide +kernel
theorem dksJ19_pollFirst_1 : cJ19_pollFirst.data.toList.drop 24 = dktJ19_pollFirst_1 := dk_seg dksJ19_pollFirst_0 24 rfl rfl
theorem dJ19_pollFirst_0 : decode cJ19_pollFirst 0 = .ok (.aload_n 0, 1) := dk_42 (dk_at dksJ19_pollFirst_0 0 rfl rfl)
theorem dJ19_pollFirst_1 : decode cJ19_pollFirst 1 = .ok (.getfield 3, 3) := dk_180 0 3 (dk_at dksJ19_pollFirst_0 1 rfl rfl)
theorem dJ19_pollFirst_4 : decode cJ19_pollFirst 4 = .ok (.dup, 1) := dk_89 (dk_at dksJ19_pollFirst_0 4 rfl rfl)
theorem dJ19_pollFirst_5 : decode cJ19_pollFirst 5 = .ok (.astore_n 1, 1) := dk_76 (dk_at dksJ19_pollFirst_0 5 rfl rfl)
theorem dJ19_pollFirst_6 : decode cJ19_pollFirst 6 = .ok (.aload_n 0, 1) := dk_42 (dk_at dksJ19_pollFirst_0 6 rfl rfl)
theorem dJ19_pollFirst_7 : decode cJ19_pollFirst 7 = .ok (.getfield 24, 3) := dk_180 0 24 (dk_at dksJ19_pollFirst_0 7 rfl rfl)
theorem dJ19_pollFirst_10 : decode cJ19_pollFirst 10 = .ok (.dup, 1) := dk_89 (dk_at dksJ19_pollFirst_0 10 rfl rfl)
theorem dJ19_pollFirst_11 : decode cJ19_pollFirst 11 = .ok (.istore_n 2, 1) := dk_61 (dk_at dksJ19_pollFirst_0 11 rfl rfl)
theorem dJ19_pollFirst_12 : decode cJ19_pollFirst 12 = .ok (.invokestatic 103, 3) := dk_184 0 103 (dk_at dksJ19_pollFirst_0 12 rfl rfl)
theorem dJ19_pollFirst_15 : decode cJ19_pollFirst 15 = .ok (.astore_n 3, 1) := dk_78 (dk_at dksJ19_pollFirst_0 15 rfl rfl)
theorem dJ19_pollFirst_16 : decode cJ19_pollFirst 16 = .ok (.aload_n 3, 1) := dk_45 (dk_at dksJ19_pollFirst_0 16 rfl rfl)
theorem dJ19_pollFirst_17 : decode cJ19_pollFirst 17 = .ok (.ifnull 17, 3) := dk_198 0 17 (dk_at dksJ19_pollFirst_0 17 rfl rfl)
theorem dJ19_pollFirst_20 : decode cJ19_pollFirst 20 = .ok (.aload_n 1, 1) := dk_43 (dk_at dksJ19_pollFirst_0 20 rfl rfl)
theorem dJ19_pollFirst_21 : decode cJ19_pollFirst 21 = .ok (.iload_n 2, 1) := dk_28 (dk_at dksJ19_pollFirst_0 21 rfl rfl)
theorem dJ19_pollFirst_22 : decode cJ19_pollFirst 22 = .ok (.aconst_null, 1) := dk_1 (dk_at dksJ19_pollFirst_0 22 rfl rfl)
theorem dJ19_pollFirst_23 : decode cJ19_pollFirst 23 = .ok (.aastore, 1) := dk_83 (dk_at dksJ19_pollFirst_0 23 rfl rfl)
theorem dJ19_pollFirst_24 : decode cJ19_pollFirst 24 = .ok (.aload_n 0, 1) := dk_42 (dk_at dksJ19_pollFirst_1 0 rfl rfl)
theorem dJ19_pollFirst_25 : decode cJ19_pollFirst 25 = .ok (.iload_n 2, 1) := dk_28 (dk_at dksJ19_pollFirst_1 1 rfl rfl)
theorem dJ19_pollFirst_26 : decode cJ19_pollFirst 26 = .ok (.aload_n 1, 1) := dk_43 (dk_at dksJ19_pollFirst_1 2 rfl rfl)
theorem dJ19_pollFirst_27 : decode cJ19_pollFirst 27 = .ok (.arraylength, 1) := dk_190 (dk_at dksJ19_pollFirst_1 3 rfl rfl)
theorem dJ19_pollFirst_28 : decode cJ19_pollFirst 28 = .ok (.invokestatic 74, 3) := dk_184 0 74 (dk_at dksJ19_pollFirst_1 4 rfl rfl)
theorem dJ19_pollFirst_31 : decode cJ19_pollFirst 31 = .ok (.putfield 24, 3) := dk_181 0 24 (dk_at dksJ19_pollFirst_1 7 rfl rfl)
theorem dJ19_pollFirst_34 : decode cJ19_pollFirst 34 = .ok (.aload_n 3, 1) := dk_45 (dk_at dksJ19_pollFirst_1 10 rfl rfl)
theorem dJ19_pollFirst_35 : decode cJ19_pollFirst 35 = .ok (.areturn, 1) := dk_176 (dk_at dksJ19_pollFirst_1 11 rfl rfl)
abbrev cJ19_elementAt : ByteArray := prog_49_method_10_code
def yJ19_elementAt : MethodName := ⟨RJ19, "elementAt", "([Ljava/lang/Object;I)Ljava/lang/Object;"⟩
def dkwJ19_elementAt_0 : List UInt8 := [42, 27, 50, 176]
abbrev dktJ19_elementAt_0 : List UInt8 := dkwJ19_elementAt_0 ++ []
theorem dksJ19_elementAt_0 : cJ19_elementAt.data.toList.drop 0 = dktJ19_elementAt_0 := by decide +kernel
theorem dJ19_elementAt_0 : decode cJ19_elementAt 0 = .ok (.aload_n 0, 1) := dk_42 (dk_at dksJ19_elementAt_0 0 rfl rfl)
theorem dJ19_elementAt_1 : decode cJ19_elementAt 1 = .ok (.iload_n 1, 1) := dk_27 (dk_at dksJ19_elementAt_0 1 rfl rfl)
theorem dJ19_elementAt_2 : decode cJ19_elementAt 2 = .ok (.aaload, 1) := dk_50 (dk_at dksJ19_elementAt_0 2 rfl rfl)
theorem dJ19_elementAt_3 : decode cJ19_elementAt 3 = .ok (.areturn, 1) := dk_176 (dk_at dksJ19_elementAt_0 3 rfl rfl)
abbrev cJ19_inc : ByteArray := prog_49_method_6_code
def yJ19_inc : MethodName := ⟨RJ19, "inc", "(II)I"⟩
def dkwJ19_inc_0 : List UInt8 := [132, 0, 1, 26, 27, 161, 0, 5, 3, 59, 26, 172]
abbrev dktJ19_inc_0 : List UInt8 := dkwJ19_inc_0 ++ []
theorem dksJ19_inc_0 : cJ19_inc.data.toList.drop 0 = dktJ19_inc_0 := by decide +kernel
theorem dJ19_inc_0 : decode cJ19_inc 0 = .ok (.iinc 0 1, 3) := dk_132 0 1 (dk_at dksJ19_inc_0 0 rfl rfl)
theorem dJ19_inc_3 : decode cJ19_inc 3 = .ok (.iload_n 0, 1) := dk_26 (dk_at dksJ19_inc_0 3 rfl rfl)
theorem dJ19_inc_4 : decode cJ19_inc 4 = .ok (.iload_n 1, 1) := dk_27 (dk_at dksJ19_inc_0 4 rfl rfl)
theorem dJ19_inc_5 : decode cJ19_inc 5 = .ok (.if_icmp .lt 5, 3) := dk_161 0 5 (dk_at dksJ19_inc_0 5 rfl rfl)
theorem dJ19_inc_8 : decode cJ19_inc 8 = .ok (.iconst 0, 1) := dk_3 (dk_at dksJ19_inc_0 8 rfl rfl)
theorem dJ19_inc_9 : decode cJ19_inc 9 = .ok (.istore_n 0, 1) := dk_59 (dk_at dksJ19_inc_0 9 rfl rfl)
theorem dJ19_inc_10 : decode cJ19_inc 10 = .ok (.iload_n 0, 1) := dk_26 (dk_at dksJ19_inc_0 10 rfl rfl)
theorem dJ19_inc_11 : decode cJ19_inc 11 = .ok (.ireturn, 1) := dk_172 (dk_at dksJ19_inc_0 11 rfl rfl)
abbrev cJ19_addLast : ByteArray := prog_49_method_13_code
def yJ19_addLast : MethodName := ⟨RJ19, "addLast", "(Ljava/lang/Object;)V"⟩
def dkwJ19_addLast_2 : List UInt8 := [182, 0, 71, 177]
abbrev dktJ19_addLast_2 : List UInt8 := dkwJ19_addLast_2 ++ []
def dkwJ19_addLast_1 : List UInt8 := [42, 180, 0, 24, 42, 42, 180, 0, 20, 44, 190, 184, 0, 74, 90, 181, 0, 20, 160, 0, 8, 42, 4]
abbrev dktJ19_addLast_1 : List UInt8 := dkwJ19_addLast_1 ++ dktJ19_addLast_2
def dkwJ19_addLast_0 : List UInt8 := [43, 199, 0, 11, 187, 0, 65, 89, 183, 0, 67, 191, 42, 180, 0, 3, 77, 44, 42, 180, 0, 20, 43, 83]
abbrev dktJ19_addLast_0 : List UInt8 := dkwJ19_addLast_0 ++ dktJ19_addLast_1
theorem dksJ19_addLast_0 : cJ19_addLast.data.toList.drop 0 = dktJ19_addLast_0 := by decide +kernel
theorem dksJ19_addLast_1 : cJ19_addLast.data.toList.drop 24 = dktJ19_addLast_1 := dk_seg dksJ19_addLast_0 24 rfl rfl
theorem dksJ19_addLast_2 : cJ19_addLast.data.toList.drop 47 = dktJ19_addLast_2 := dk_seg dksJ19_addLast_1 23 rfl rfl
theorem dJ19_addLast_0 : decode cJ19_addLast 0 = .ok (.aload_n 1, 1) := dk_43 (dk_at dksJ19_addLast_0 0 rfl rfl)
theorem dJ19_addLast_1 : decode cJ19_addLast 1 = .ok (.ifnonnull 11, 3) := dk_199 0 11 (dk_at dksJ19_addLast_0 1 rfl rfl)
theorem dJ19_addLast_4 : decode cJ19_addLast 4 = .ok (.new 65, 3) := dk_187 0 65 (dk_at dksJ19_addLast_0 4 rfl rfl)
theorem dJ19_addLast_7 : decode cJ19_addLast 7 = .ok (.dup, 1) := dk_89 (dk_at dksJ19_addLast_0 7 rfl rfl)
theorem dJ19_addLast_8 : decode cJ19_addLast 8 = .ok (.invokespecial 67, 3) := dk_183 0 67 (dk_at dksJ19_addLast_0 8 rfl rfl)
theorem dJ19_addLast_11 : decode cJ19_addLast 11 = .ok (.athrow, 1) := dk_191 (dk_at dksJ19_addLast_0 11 rfl rfl)
theorem dJ19_addLast_12 : decode cJ19_addLast 12 = .ok (.aload_n 0, 1) := dk_42 (dk_at dksJ19_addLast_0 12 rfl rfl)
theorem dJ19_addLast_13 : decode cJ19_addLast 13 = .ok (.getfield 3, 3) := dk_180 0 3 (dk_at dksJ19_addLast_0 13 rfl rfl)
theorem dJ19_addLast_16 : decode cJ19_addLast 16 = .ok (.astore_n 2, 1) := dk_77 (dk_at dksJ19_addLast_0 16 rfl rfl)
theorem dJ19_addLast_17 : decode cJ19_addLast 17 = .ok (.aload_n 2, 1) := dk_44 (dk_at dksJ19_addLast_0 17 rfl rfl)
theorem dJ19_addLast_18 : decode cJ19_addLast 18 = .ok (.aload_n 0, 1) := dk_42 (dk_at dksJ19_addLast_0 18 rfl rfl)
theorem dJ19_addLast_19 : decode cJ19_addLast 19 = .ok (.getfield 20, 3) := dk_180 0 20 (dk_at dksJ19_addLast_0 19 rfl rfl)
theorem dJ19_addLast_22 : decode cJ19_addLast 22 = .ok (.aload_n 1, 1) := dk_43 (dk_at dksJ19_addLast_0 22 rfl rfl)
theorem dJ19_addLast_23 : decode cJ19_addLast 23 = .ok (.aastore, 1) := dk_83 (dk_at dksJ19_addLast_0 23 rfl rfl)
theorem dJ19_addLast_24 : decode cJ19_addLast 24 = .ok (.aload_n 0, 1) := dk_42 (dk_at dksJ19_addLast_1 0 rfl rfl)
theorem dJ19_addLast_25 : decode cJ19_addLast 25 = .ok (.getfield 24, 3) := dk_180 0 24 (dk_at dksJ19_addLast_1 1 rfl rfl)
theorem dJ19_addLast_28 : decode cJ19_addLast 28 = .ok (.aload_n 0, 1) := dk_42 (dk_at dksJ19_addLast_1 4 rfl rfl)
theorem dJ19_addLast_29 : decode cJ19_addLast 29 = .ok (.aload_n 0, 1) := dk_42 (dk_at dksJ19_addLast_1 5 rfl rfl)
theorem dJ19_addLast_30 : decode cJ19_addLast 30 = .ok (.getfield 20, 3) := dk_180 0 20 (dk_at dksJ19_addLast_1 6 rfl rfl)
theorem dJ19_addLast_33 : decode cJ19_addLast 33 = .ok (.aload_n 2, 1) := dk_44 (dk_at dksJ19_addLast_1 9 rfl rfl)
theorem dJ19_addLast_34 : decode cJ19_addLast 34 = .ok (.arraylength, 1) := dk_190 (dk_at dksJ19_addLast_1 10 rfl rfl)
theorem dJ19_addLast_35 : decode cJ19_addLast 35 = .ok (.invokestatic 74, 3) := dk_184 0 74 (dk_at dksJ19_addLast_1 11 rfl rfl)
theorem dJ19_addLast_38 : decode cJ19_addLast 38 = .ok (.dup_x1, 1) := dk_90 (dk_at dksJ19_addLast_1 14 rfl rfl)
theorem dJ19_addLast_39 : decode cJ19_addLast 39 = .ok (.putfield 20, 3) := dk_181 0 20 (dk_at dksJ19_addLast_1 15 rfl rfl)
theorem dJ19_addLast_42 : decode cJ19_addLast 42 = .ok (.if_icmp .ne 8, 3) := dk_160 0 8 (dk_at dksJ19_addLast_1 18 rfl rfl)
theorem dJ19_addLast_45 : decode cJ19_addLast 45 = .ok (.aload_n 0, 1) := dk_42 (dk_at dksJ19_addLast_1 21 rfl rfl)
theorem dJ19_addLast_46 : decode cJ19_addLast 46 = .ok (.iconst 1, 1) := dk_4 (dk_at dksJ19_addLast_1 22 rfl rfl)
theorem dJ19_addLast_47 : decode cJ19_addLast 47 = .ok (.invokevirtual 71, 3) := dk_182 0 71 (dk_at dksJ19_addLast_2 0 rfl rfl)
theorem dJ19_addLast_50 : decode cJ19_addLast 50 = .ok (.return_, 1) := dk_177 (dk_at dksJ19_addLast_2 3 rfl rfl)
abbrev cJ19_grow : ByteArray := prog_49_method_1_code
def yJ19_grow : MethodName := ⟨RJ19, "grow", "(I)V"⟩
def dkwJ19_grow_7 : List UInt8 := [177]
abbrev dktJ19_grow_7 : List UInt8 := dkwJ19_grow_7 ++ []
def dkwJ19_grow_6 : List UInt8 := [181, 0, 24, 54, 8, 21, 7, 21, 8, 162, 0, 15, 25, 5, 21, 7, 1, 83, 132, 7, 1, 167, 255, 240]
abbrev dktJ19_grow_6 : List UInt8 := dkwJ19_grow_6 ++ dktJ19_grow_7
def dkwJ19_grow_5 : List UInt8 := [42, 180, 0, 24, 100, 184, 0, 27, 42, 180, 0, 24, 54, 7, 42, 89, 180, 0, 24, 21, 6, 96, 90]
abbrev dktJ19_grow_5 : List UInt8 := dkwJ19_grow_5 ++ dktJ19_grow_6
def dkwJ19_grow_4 : List UInt8 := [198, 0, 71, 29, 28, 100, 54, 6, 25, 5, 42, 180, 0, 24, 25, 5, 42, 180, 0, 24, 21, 6, 96, 28]
abbrev dktJ19_grow_4 : List UInt8 := dkwJ19_grow_4 ++ dktJ19_grow_5
def dkwJ19_grow_3 : List UInt8 := [180, 0, 24, 161, 0, 24, 42, 180, 0, 20, 42, 180, 0, 24, 160, 0, 81, 25, 5, 42, 180, 0, 24, 50]
abbrev dktJ19_grow_3 : List UInt8 := dkwJ19_grow_3 ++ dktJ19_grow_4
def dkwJ19_grow_2 : List UInt8 := [182, 0, 10, 62, 42, 42, 180, 0, 3, 29, 184, 0, 14, 90, 181, 0, 3, 58, 5, 42, 180, 0, 20, 42]
abbrev dktJ19_grow_2 : List UInt8 := dkwJ19_grow_2 ++ dktJ19_grow_3
def dkwJ19_grow_1 : List UInt8 := [21, 4, 27, 161, 0, 15, 28, 21, 4, 96, 89, 62, 18, 9, 100, 158, 0, 11, 42, 27, 21, 4]
abbrev dktJ19_grow_1 : List UInt8 := dkwJ19_grow_1 ++ dktJ19_grow_2
def dkwJ19_grow_0 : List UInt8 := [42, 180, 0, 3, 190, 61, 28, 16, 64, 162, 0, 9, 28, 5, 96, 167, 0, 6, 28, 4, 122, 54, 4]
abbrev dktJ19_grow_0 : List UInt8 := dkwJ19_grow_0 ++ dktJ19_grow_1
theorem dksJ19_grow_0 : cJ19_grow.data.toList.drop 0 = dktJ19_grow_0 := by decide +kernel
theorem dksJ19_grow_1 : cJ19_grow.data.toList.drop 23 = dktJ19_grow_1 := dk_seg dksJ19_grow_0 23 rfl rfl
theorem dksJ19_grow_2 : cJ19_grow.data.toList.drop 45 = dktJ19_grow_2 := dk_seg dksJ19_grow_1 22 rfl rfl
theorem dksJ19_grow_3 : cJ19_grow.data.toList.drop 69 = dktJ19_grow_3 := dk_seg dksJ19_grow_2 24 rfl rfl
theorem dksJ19_grow_4 : cJ19_grow.data.toList.drop 93 = dktJ19_grow_4 := dk_seg dksJ19_grow_3 24 rfl rfl
theorem dksJ19_grow_5 : cJ19_grow.data.toList.drop 117 = dktJ19_grow_5 := dk_seg dksJ19_grow_4 24 rfl rfl
theorem dksJ19_grow_6 : cJ19_grow.data.toList.drop 140 = dktJ19_grow_6 := dk_seg dksJ19_grow_5 23 rfl rfl
theorem dksJ19_grow_7 : cJ19_grow.data.toList.drop 164 = dktJ19_grow_7 := dk_seg dksJ19_grow_6 24 rfl rfl
theorem dJ19_grow_0 : decode cJ19_grow 0 = .ok (.aload_n 0, 1) := dk_42 (dk_at dksJ19_grow_0 0 rfl rfl)
theorem dJ19_grow_1 : decode cJ19_grow 1 = .ok (.getfield 3, 3) := dk_180 0 3 (dk_at dksJ19_grow_0 1 rfl rfl)
theorem dJ19_grow_4 : decode cJ19_grow 4 = .ok (.arraylength, 1) := dk_190 (dk_at dksJ19_grow_0 4 rfl rfl)
theorem dJ19_grow_5 : decode cJ19_grow 5 = .ok (.istore_n 2, 1) := dk_61 (dk_at dksJ19_grow_0 5 rfl rfl)
theorem dJ19_grow_6 : decode cJ19_grow 6 = .ok (.iload_n 2, 1) := dk_28 (dk_at dksJ19_grow_0 6 rfl rfl)
theorem dJ19_grow_7 : decode cJ19_grow 7 = .ok (.bipush 64, 2) := dk_16 64 (dk_at dksJ19_grow_0 7 rfl rfl)
theorem dJ19_grow_9 : decode cJ19_grow 9 = .ok (.if_icmp .ge 9, 3) := dk_162 0 9 (dk_at dksJ19_grow_0 9 rfl rfl)
theorem dJ19_grow_12 : decode cJ19_grow 12 = .ok (.iload_n 2, 1) := dk_28 (dk_at dksJ19_grow_0 12 rfl rfl)
theorem dJ19_grow_13 : decode cJ19_grow 13 = .ok (.iconst 2, 1) := dk_5 (dk_at dksJ19_grow_0 13 rfl rfl)
theorem dJ19_grow_14 : decode cJ19_grow 14 = .ok (.iadd, 1) := dk_96 (dk_at dksJ19_grow_0 14 rfl rfl)
theorem dJ19_grow_15 : decode cJ19_grow 15 = .ok (.goto 6, 3) := dk_167 0 6 (dk_at dksJ19_grow_0 15 rfl rfl)
theorem dJ19_grow_18 : decode cJ19_grow 18 = .ok (.iload_n 2, 1) := dk_28 (dk_at dksJ19_grow_0 18 rfl rfl)
theorem dJ19_grow_19 : decode cJ19_grow 19 = .ok (.iconst 1, 1) := dk_4 (dk_at dksJ19_grow_0 19 rfl rfl)
theorem dJ19_grow_20 : decode cJ19_grow 20 = .ok (.ishr, 1) := dk_122 (dk_at dksJ19_grow_0 20 rfl rfl)
theorem dJ19_grow_21 : decode cJ19_grow 21 = .ok (.istore 4, 2) := dk_54 4 (dk_at dksJ19_grow_0 21 rfl rfl)
theorem dJ19_grow_23 : decode cJ19_grow 23 = .ok (.iload 4, 2) := dk_21 4 (dk_at dksJ19_grow_1 0 rfl rfl)
theorem dJ19_grow_25 : decode cJ19_grow 25 = .ok (.iload_n 1, 1) := dk_27 (dk_at dksJ19_grow_1 2 rfl rfl)
theorem dJ19_grow_26 : decode cJ19_grow 26 = .ok (.if_icmp .lt 15, 3) := dk_161 0 15 (dk_at dksJ19_grow_1 3 rfl rfl)
theorem dJ19_grow_29 : decode cJ19_grow 29 = .ok (.iload_n 2, 1) := dk_28 (dk_at dksJ19_grow_1 6 rfl rfl)
theorem dJ19_grow_30 : decode cJ19_grow 30 = .ok (.iload 4, 2) := dk_21 4 (dk_at dksJ19_grow_1 7 rfl rfl)
theorem dJ19_grow_32 : decode cJ19_grow 32 = .ok (.iadd, 1) := dk_96 (dk_at dksJ19_grow_1 9 rfl rfl)
theorem dJ19_grow_33 : decode cJ19_grow 33 = .ok (.dup, 1) := dk_89 (dk_at dksJ19_grow_1 10 rfl rfl)
theorem dJ19_grow_34 : decode cJ19_grow 34 = .ok (.istore_n 3, 1) := dk_62 (dk_at dksJ19_grow_1 11 rfl rfl)
theorem dJ19_grow_35 : decode cJ19_grow 35 = .ok (.ldc 9, 2) := dk_18 9 (dk_at dksJ19_grow_1 12 rfl rfl)
theorem dJ19_grow_37 : decode cJ19_grow 37 = .ok (.isub, 1) := dk_100 (dk_at dksJ19_grow_1 14 rfl rfl)
theorem dJ19_grow_38 : decode cJ19_grow 38 = .ok (.ifCond .le 11, 3) := dk_158 0 11 (dk_at dksJ19_grow_1 15 rfl rfl)
theorem dJ19_grow_41 : decode cJ19_grow 41 = .ok (.aload_n 0, 1) := dk_42 (dk_at dksJ19_grow_1 18 rfl rfl)
theorem dJ19_grow_42 : decode cJ19_grow 42 = .ok (.iload_n 1, 1) := dk_27 (dk_at dksJ19_grow_1 19 rfl rfl)
theorem dJ19_grow_43 : decode cJ19_grow 43 = .ok (.iload 4, 2) := dk_21 4 (dk_at dksJ19_grow_1 20 rfl rfl)
theorem dJ19_grow_45 : decode cJ19_grow 45 = .ok (.invokevirtual 10, 3) := dk_182 0 10 (dk_at dksJ19_grow_2 0 rfl rfl)
theorem dJ19_grow_48 : decode cJ19_grow 48 = .ok (.istore_n 3, 1) := dk_62 (dk_at dksJ19_grow_2 3 rfl rfl)
theorem dJ19_grow_49 : decode cJ19_grow 49 = .ok (.aload_n 0, 1) := dk_42 (dk_at dksJ19_grow_2 4 rfl rfl)
theorem dJ19_grow_50 : decode cJ19_grow 50 = .ok (.aload_n 0, 1) := dk_42 (dk_at dksJ19_grow_2 5 rfl rfl)
theorem dJ19_grow_51 : decode cJ19_grow 51 = .ok (.getfield 3, 3) := dk_180 0 3 (dk_at dksJ19_grow_2 6 rfl rfl)
theorem dJ19_grow_54 : decode cJ19_grow 54 = .ok (.iload_n 3, 1) := dk_29 (dk_at dksJ19_grow_2 9 rfl rfl)
theorem dJ19_grow_55 : decode cJ19_grow 55 = .ok (.invokestatic 14, 3) := dk_184 0 14 (dk_at dksJ19_grow_2 10 rfl rfl)
theorem dJ19_grow_58 : decode cJ19_grow 58 = .ok (.dup_x1, 1) := dk_90 (dk_at dksJ19_grow_2 13 rfl rfl)
theorem dJ19_grow_59 : decode cJ19_grow 59 = .ok (.putfield 3, 3) := dk_181 0 3 (dk_at dksJ19_grow_2 14 rfl rfl)
theorem dJ19_grow_62 : decode cJ19_grow 62 = .ok (.astore 5, 2) := dk_58 5 (dk_at dksJ19_grow_2 17 rfl rfl)
theorem dJ19_grow_64 : decode cJ19_grow 64 = .ok (.aload_n 0, 1) := dk_42 (dk_at dksJ19_grow_2 19 rfl rfl)
theorem dJ19_grow_65 : decode cJ19_grow 65 = .ok (.getfield 20, 3) := dk_180 0 20 (dk_at dksJ19_grow_2 20 rfl rfl)
theorem dJ19_grow_68 : decode cJ19_grow 68 = .ok (.aload_n 0, 1) := dk_42 (dk_at dksJ19_grow_2 23 rfl rfl)
theorem dJ19_grow_69 : decode cJ19_grow 69 = .ok (.getfield 24, 3) := dk_180 0 24 (dk_at dksJ19_grow_3 0 rfl rfl)
theorem dJ19_grow_72 : decode cJ19_grow 72 = .ok (.if_icmp .lt 24, 3) := dk_161 0 24 (dk_at dksJ19_grow_3 3 rfl rfl)
theorem dJ19_grow_75 : decode cJ19_grow 75 = .ok (.aload_n 0, 1) := dk_42 (dk_at dksJ19_grow_3 6 rfl rfl)
theorem dJ19_grow_76 : decode cJ19_grow 76 = .ok (.getfield 20, 3) := dk_180 0 20 (dk_at dksJ19_grow_3 7 rfl rfl)
theorem dJ19_grow_79 : decode cJ19_grow 79 = .ok (.aload_n 0, 1) := dk_42 (dk_at dksJ19_grow_3 10 rfl rfl)
theorem dJ19_grow_80 : decode cJ19_grow 80 = .ok (.getfield 24, 3) := dk_180 0 24 (dk_at dksJ19_grow_3 11 rfl rfl)
theorem dJ19_grow_83 : decode cJ19_grow 83 = .ok (.if_icmp .ne 81, 3) := dk_160 0 81 (dk_at dksJ19_grow_3 14 rfl rfl)
theorem dJ19_grow_86 : decode cJ19_grow 86 = .ok (.aload 5, 2) := dk_25 5 (dk_at dksJ19_grow_3 17 rfl rfl)
theorem dJ19_grow_88 : decode cJ19_grow 88 = .ok (.aload_n 0, 1) := dk_42 (dk_at dksJ19_grow_3 19 rfl rfl)
theorem dJ19_grow_89 : decode cJ19_grow 89 = .ok (.getfield 24, 3) := dk_180 0 24 (dk_at dksJ19_grow_3 20 rfl rfl)
theorem dJ19_grow_92 : decode cJ19_grow 92 = .ok (.aaload, 1) := dk_50 (dk_at dksJ19_grow_3 23 rfl rfl)
theorem dJ19_grow_93 : decode cJ19_grow 93 = .ok (.ifnull 71, 3) := dk_198 0 71 (dk_at dksJ19_grow_4 0 rfl rfl)
theorem dJ19_grow_96 : decode cJ19_grow 96 = .ok (.iload_n 3, 1) := dk_29 (dk_at dksJ19_grow_4 3 rfl rfl)
theorem dJ19_grow_97 : decode cJ19_grow 97 = .ok (.iload_n 2, 1) := dk_28 (dk_at dksJ19_grow_4 4 rfl rfl)
theorem dJ19_grow_98 : decode cJ19_grow 98 = .ok (.isub, 1) := dk_100 (dk_at dksJ19_grow_4 5 rfl rfl)
theorem dJ19_grow_99 : decode cJ19_grow 99 = .ok (.istore 6, 2) := dk_54 6 (dk_at dksJ19_grow_4 6 rfl rfl)
theorem dJ19_grow_101 : decode cJ19_grow 101 = .ok (.aload 5, 2) := dk_25 5 (dk_at dksJ19_grow_4 8 rfl rfl)
theorem dJ19_grow_103 : decode cJ19_grow 103 = .ok (.aload_n 0, 1) := dk_42 (dk_at dksJ19_grow_4 10 rfl rfl)
theorem dJ19_grow_104 : decode cJ19_grow 104 = .ok (.getfield 24, 3) := dk_180 0 24 (dk_at dksJ19_grow_4 11 rfl rfl)
theorem dJ19_grow_107 : decode cJ19_grow 107 = .ok (.aload 5, 2) := dk_25 5 (dk_at dksJ19_grow_4 14 rfl rfl)
theorem dJ19_grow_109 : decode cJ19_grow 109 = .ok (.aload_n 0, 1) := dk_42 (dk_at dksJ19_grow_4 16 rfl rfl)
theorem dJ19_grow_110 : decode cJ19_grow 110 = .ok (.getfield 24, 3) := dk_180 0 24 (dk_at dksJ19_grow_4 17 rfl rfl)
theorem dJ19_grow_113 : decode cJ19_grow 113 = .ok (.iload 6, 2) := dk_21 6 (dk_at dksJ19_grow_4 20 rfl rfl)
theorem dJ19_grow_115 : decode cJ19_grow 115 = .ok (.iadd, 1) := dk_96 (dk_at dksJ19_grow_4 22 rfl rfl)
theorem dJ19_grow_116 : decode cJ19_grow 116 = .ok (.iload_n 2, 1) := dk_28 (dk_at dksJ19_grow_4 23 rfl rfl)
theorem dJ19_grow_117 : decode cJ19_grow 117 = .ok (.aload_n 0, 1) := dk_42 (dk_at dksJ19_grow_5 0 rfl rfl)
theorem dJ19_grow_118 : decode cJ19_grow 118 = .ok (.getfield 24, 3) := dk_180 0 24 (dk_at dksJ19_grow_5 1 rfl rfl)
theorem dJ19_grow_121 : decode cJ19_grow 121 = .ok (.isub, 1) := dk_100 (dk_at dksJ19_grow_5 4 rfl rfl)
theorem dJ19_grow_122 : decode cJ19_grow 122 = .ok (.invokestatic 27, 3) := dk_184 0 27 (dk_at dksJ19_grow_5 5 rfl rfl)
theorem dJ19_grow_125 : decode cJ19_grow 125 = .ok (.aload_n 0, 1) := dk_42 (dk_at dksJ19_grow_5 8 rfl rfl)
theorem dJ19_grow_126 : decode cJ19_grow 126 = .ok (.getfield 24, 3) := dk_180 0 24 (dk_at dksJ19_grow_5 9 rfl rfl)
theorem dJ19_grow_129 : decode cJ19_grow 129 = .ok (.istore 7, 2) := dk_54 7 (dk_at dksJ19_grow_5 12 rfl rfl)
theorem dJ19_grow_131 : decode cJ19_grow 131 = .ok (.aload_n 0, 1) := dk_42 (dk_at dksJ19_grow_5 14 rfl rfl)
theorem dJ19_grow_132 : decode cJ19_grow 132 = .ok (.dup, 1) := dk_89 (dk_at dksJ19_grow_5 15 rfl rfl)
theorem dJ19_grow_133 : decode cJ19_grow 133 = .ok (.getfield 24, 3) := dk_180 0 24 (dk_at dksJ19_grow_5 16 rfl rfl)
theorem dJ19_grow_136 : decode cJ19_grow 136 = .ok (.iload 6, 2) := dk_21 6 (dk_at dksJ19_grow_5 19 rfl rfl)
theorem dJ19_grow_138 : decode cJ19_grow 138 = .ok (.iadd, 1) := dk_96 (dk_at dksJ19_grow_5 21 rfl rfl)
theorem dJ19_grow_139 : decode cJ19_grow 139 = .ok (.dup_x1, 1) := dk_90 (dk_at dksJ19_grow_5 22 rfl rfl)
theorem dJ19_grow_140 : decode cJ19_grow 140 = .ok (.putfield 24, 3) := dk_181 0 24 (dk_at dksJ19_grow_6 0 rfl rfl)
theorem dJ19_grow_143 : decode cJ19_grow 143 = .ok (.istore 8, 2) := dk_54 8 (dk_at dksJ19_grow_6 3 rfl rfl)
theorem dJ19_grow_145 : decode cJ19_grow 145 = .ok (.iload 7, 2) := dk_21 7 (dk_at dksJ19_grow_6 5 rfl rfl)
theorem dJ19_grow_147 : decode cJ19_grow 147 = .ok (.iload 8, 2) := dk_21 8 (dk_at dksJ19_grow_6 7 rfl rfl)
theorem dJ19_grow_149 : decode cJ19_grow 149 = .ok (.if_icmp .ge 15, 3) := dk_162 0 15 (dk_at dksJ19_grow_6 9 rfl rfl)
theorem dJ19_grow_152 : decode cJ19_grow 152 = .ok (.aload 5, 2) := dk_25 5 (dk_at dksJ19_grow_6 12 rfl rfl)
theorem dJ19_grow_154 : decode cJ19_grow 154 = .ok (.iload 7, 2) := dk_21 7 (dk_at dksJ19_grow_6 14 rfl rfl)
theorem dJ19_grow_156 : decode cJ19_grow 156 = .ok (.aconst_null, 1) := dk_1 (dk_at dksJ19_grow_6 16 rfl rfl)
theorem dJ19_grow_157 : decode cJ19_grow 157 = .ok (.aastore, 1) := dk_83 (dk_at dksJ19_grow_6 17 rfl rfl)
theorem dJ19_grow_158 : decode cJ19_grow 158 = .ok (.iinc 7 1, 3) := dk_132 7 1 (dk_at dksJ19_grow_6 18 rfl rfl)
theorem dJ19_grow_161 : decode cJ19_grow 161 = .ok (.goto (-16), 3) := dk_167 255 240 (dk_at dksJ19_grow_6 21 rfl rfl)
theorem dJ19_grow_164 : decode cJ19_grow 164 = .ok (.return_, 1) := dk_177 (dk_at dksJ19_grow_7 0 rfl rfl)
abbrev cJ19_newCapacity : ByteArray := prog_49_method_2_code
def yJ19_newCapacity : MethodName := ⟨RJ19, "newCapacity", "(II)I"⟩
def dkwJ19_newCapacity_2 : List UInt8 := [18, 9, 100, 156, 0, 9, 29, 28, 96, 167, 0, 5, 18, 9, 172]
abbrev dktJ19_newCapacity_2 : List UInt8 := dkwJ19_newCapacity_2 ++ []
def dkwJ19_newCapacity_1 : List UInt8 := [187, 0, 33, 89, 18, 35, 183, 0, 37, 191, 18, 41, 172, 27, 28, 164, 0, 6, 21, 4, 172, 29, 28, 96]
abbrev dktJ19_newCapacity_1 : List UInt8 := dkwJ19_newCapacity_1 ++ dktJ19_newCapacity_2
def dkwJ19_newCapacity_0 : List UInt8 := [42, 180, 0, 3, 190, 62, 29, 27, 96, 89, 54, 4, 18, 9, 100, 158, 0, 21, 21, 4, 156, 0, 13]
abbrev dktJ19_newCapacity_0 : List UInt8 := dkwJ19_newCapacity_0 ++ dktJ19_newCapacity_1
theorem dksJ19_newCapacity_0 : cJ19_newCapacity.data.toList.drop 0 = dktJ19_newCapacity_0 := by decide +kernel
theorem dksJ19_newCapacity_1 : cJ19_newCapacity.data.toList.drop 23 = dktJ19_newCapacity_1 := dk_seg dksJ19_newCapacity_0 23 rfl rfl
theorem dksJ19_newCapacity_2 : cJ19_newCapacity.data.toList.drop 47 = dktJ19_newCapacity_2 := dk_seg dksJ19_newCapacity_1 24 rfl rfl
theorem dJ19_newCapacity_0 : decode cJ19_newCapacity 0 = .ok (.aload_n 0, 1) := dk_42 (dk_at dksJ19_newCapacity_0 0 rfl rfl)
theorem dJ19_newCapacity_1 : decode cJ19_newCapacity 1 = .ok (.getfield 3, 3) := dk_180 0 3 (dk_at dksJ19_newCapacity_0 1 rfl rfl)
theorem dJ19_newCapacity_4 : decode cJ19_newCapacity 4 = .ok (.arraylength, 1) := dk_190 (dk_at dksJ19_newCapacity_0 4 rfl rfl)
theorem dJ19_newCapacity_5 : decode cJ19_newCapacity 5 = .ok (.istore_n 3, 1) := dk_62 (dk_at dksJ19_newCapacity_0 5 rfl rfl)
theorem dJ19_newCapacity_6 : decode cJ19_newCapacity 6 = .ok (.iload_n 3, 1) := dk_29 (dk_at dksJ19_newCapacity_0 6 rfl rfl)
theorem dJ19_newCapacity_7 : decode cJ19_newCapacity 7 = .ok (.iload_n 1, 1) := dk_27 (dk_at dksJ19_newCapacity_0 7 rfl rfl)
theorem dJ19_newCapacity_8 : decode cJ19_newCapacity 8 = .ok (.iadd, 1) := dk_96 (dk_at dksJ19_newCapacity_0 8 rfl rfl)
theorem dJ19_newCapacity_9 : decode cJ19_newCapacity 9 = .ok (.dup, 1) := dk_89 (dk_at dksJ19_newCapacity_0 9 rfl rfl)
theorem dJ19_newCapacity_10 : decode cJ19_newCapacity 10 = .ok (.istore 4, 2) := dk_54 4 (dk_at dksJ19_newCapacity_0 10 rfl rfl)
theorem dJ19_newCapacity_12 : decode cJ19_newCapacity 12 = .ok (.ldc 9, 2) := dk_18 9 (dk_at dksJ19_newCapacity_0 12 rfl rfl)
theorem dJ19_newCapacity_14 : decode cJ19_newCapacity 14 = .ok (.isub, 1) := dk_100 (dk_at dksJ19_newCapacity_0 14 rfl rfl)
theorem dJ19_newCapacity_15 : decode cJ19_newCapacity 15 = .ok (.ifCond .le 21, 3) := dk_158 0 21 (dk_at dksJ19_newCapacity_0 15 rfl rfl)
theorem dJ19_newCapacity_18 : decode cJ19_newCapacity 18 = .ok (.iload 4, 2) := dk_21 4 (dk_at dksJ19_newCapacity_0 18 rfl rfl)
theorem dJ19_newCapacity_20 : decode cJ19_newCapacity 20 = .ok (.ifCond .ge 13, 3) := dk_156 0 13 (dk_at dksJ19_newCapacity_0 20 rfl rfl)
theorem dJ19_newCapacity_23 : decode cJ19_newCapacity 23 = .ok (.new 33, 3) := dk_187 0 33 (dk_at dksJ19_newCapacity_1 0 rfl rfl)
theorem dJ19_newCapacity_26 : decode cJ19_newCapacity 26 = .ok (.dup, 1) := dk_89 (dk_at dksJ19_newCapacity_1 3 rfl rfl)
theorem dJ19_newCapacity_27 : decode cJ19_newCapacity 27 = .ok (.ldc 35, 2) := dk_18 35 (dk_at dksJ19_newCapacity_1 4 rfl rfl)
theorem dJ19_newCapacity_29 : decode cJ19_newCapacity 29 = .ok (.invokespecial 37, 3) := dk_183 0 37 (dk_at dksJ19_newCapacity_1 6 rfl rfl)
theorem dJ19_newCapacity_32 : decode cJ19_newCapacity 32 = .ok (.athrow, 1) := dk_191 (dk_at dksJ19_newCapacity_1 9 rfl rfl)
theorem dJ19_newCapacity_33 : decode cJ19_newCapacity 33 = .ok (.ldc 41, 2) := dk_18 41 (dk_at dksJ19_newCapacity_1 10 rfl rfl)
theorem dJ19_newCapacity_35 : decode cJ19_newCapacity 35 = .ok (.ireturn, 1) := dk_172 (dk_at dksJ19_newCapacity_1 12 rfl rfl)
theorem dJ19_newCapacity_36 : decode cJ19_newCapacity 36 = .ok (.iload_n 1, 1) := dk_27 (dk_at dksJ19_newCapacity_1 13 rfl rfl)
theorem dJ19_newCapacity_37 : decode cJ19_newCapacity 37 = .ok (.iload_n 2, 1) := dk_28 (dk_at dksJ19_newCapacity_1 14 rfl rfl)
theorem dJ19_newCapacity_38 : decode cJ19_newCapacity 38 = .ok (.if_icmp .le 6, 3) := dk_164 0 6 (dk_at dksJ19_newCapacity_1 15 rfl rfl)
theorem dJ19_newCapacity_41 : decode cJ19_newCapacity 41 = .ok (.iload 4, 2) := dk_21 4 (dk_at dksJ19_newCapacity_1 18 rfl rfl)
theorem dJ19_newCapacity_43 : decode cJ19_newCapacity 43 = .ok (.ireturn, 1) := dk_172 (dk_at dksJ19_newCapacity_1 20 rfl rfl)
theorem dJ19_newCapacity_44 : decode cJ19_newCapacity 44 = .ok (.iload_n 3, 1) := dk_29 (dk_at dksJ19_newCapacity_1 21 rfl rfl)
theorem dJ19_newCapacity_45 : decode cJ19_newCapacity 45 = .ok (.iload_n 2, 1) := dk_28 (dk_at dksJ19_newCapacity_1 22 rfl rfl)
theorem dJ19_newCapacity_46 : decode cJ19_newCapacity 46 = .ok (.iadd, 1) := dk_96 (dk_at dksJ19_newCapacity_1 23 rfl rfl)
theorem dJ19_newCapacity_47 : decode cJ19_newCapacity 47 = .ok (.ldc 9, 2) := dk_18 9 (dk_at dksJ19_newCapacity_2 0 rfl rfl)
theorem dJ19_newCapacity_49 : decode cJ19_newCapacity 49 = .ok (.isub, 1) := dk_100 (dk_at dksJ19_newCapacity_2 2 rfl rfl)
theorem dJ19_newCapacity_50 : decode cJ19_newCapacity 50 = .ok (.ifCond .ge 9, 3) := dk_156 0 9 (dk_at dksJ19_newCapacity_2 3 rfl rfl)
theorem dJ19_newCapacity_53 : decode cJ19_newCapacity 53 = .ok (.iload_n 3, 1) := dk_29 (dk_at dksJ19_newCapacity_2 6 rfl rfl)
theorem dJ19_newCapacity_54 : decode cJ19_newCapacity 54 = .ok (.iload_n 2, 1) := dk_28 (dk_at dksJ19_newCapacity_2 7 rfl rfl)
theorem dJ19_newCapacity_55 : decode cJ19_newCapacity 55 = .ok (.iadd, 1) := dk_96 (dk_at dksJ19_newCapacity_2 8 rfl rfl)
theorem dJ19_newCapacity_56 : decode cJ19_newCapacity 56 = .ok (.goto 5, 3) := dk_167 0 5 (dk_at dksJ19_newCapacity_2 9 rfl rfl)
theorem dJ19_newCapacity_59 : decode cJ19_newCapacity 59 = .ok (.ldc 9, 2) := dk_18 9 (dk_at dksJ19_newCapacity_2 12 rfl rfl)
theorem dJ19_newCapacity_61 : decode cJ19_newCapacity 61 = .ok (.ireturn, 1) := dk_172 (dk_at dksJ19_newCapacity_2 14 rfl rfl)
abbrev cJ19_isEmpty : ByteArray := prog_49_method_38_code
def yJ19_isEmpty : MethodName := ⟨RJ19, "isEmpty", "()Z"⟩
def dkwJ19_isEmpty_0 : List UInt8 := [42, 180, 0, 24, 42, 180, 0, 20, 160, 0, 7, 4, 167, 0, 4, 3, 172]
abbrev dktJ19_isEmpty_0 : List UInt8 := dkwJ19_isEmpty_0 ++ []
theorem dksJ19_isEmpty_0 : cJ19_isEmpty.data.toList.drop 0 = dktJ19_isEmpty_0 := by decide +kernel
theorem dJ19_isEmpty_0 : decode cJ19_isEmpty 0 = .ok (.aload_n 0, 1) := dk_42 (dk_at dksJ19_isEmpty_0 0 rfl rfl)
theorem dJ19_isEmpty_1 : decode cJ19_isEmpty 1 = .ok (.getfield 24, 3) := dk_180 0 24 (dk_at dksJ19_isEmpty_0 1 rfl rfl)
theorem dJ19_isEmpty_4 : decode cJ19_isEmpty 4 = .ok (.aload_n 0, 1) := dk_42 (dk_at dksJ19_isEmpty_0 4 rfl rfl)
theorem dJ19_isEmpty_5 : decode cJ19_isEmpty 5 = .ok (.getfield 20, 3) := dk_180 0 20 (dk_at dksJ19_isEmpty_0 5 rfl rfl)
theorem dJ19_isEmpty_8 : decode cJ19_isEmpty 8 = .ok (.if_icmp .ne 7, 3) := dk_160 0 7 (dk_at dksJ19_isEmpty_0 8 rfl rfl)
theorem dJ19_isEmpty_11 : decode cJ19_isEmpty 11 = .ok (.iconst 1, 1) := dk_4 (dk_at dksJ19_isEmpty_0 11 rfl rfl)
theorem dJ19_isEmpty_12 : decode cJ19_isEmpty 12 = .ok (.goto 4, 3) := dk_167 0 4 (dk_at dksJ19_isEmpty_0 12 rfl rfl)
theorem dJ19_isEmpty_15 : decode cJ19_isEmpty 15 = .ok (.iconst 0, 1) := dk_3 (dk_at dksJ19_isEmpty_0 15 rfl rfl)
theorem dJ19_isEmpty_16 : decode cJ19_isEmpty 16 = .ok (.ireturn, 1) := dk_172 (dk_at dksJ19_isEmpty_0 16 rfl rfl)
abbrev cJ19_removeLast : ByteArray := prog_49_method_19_code
def yJ19_removeLast : MethodName := ⟨RJ19, "removeLast", "()Ljava/lang/Object;"⟩
def dkwJ19_removeLast_0 : List UInt8 := [42, 182, 0, 100, 76, 43, 199, 0, 11, 187, 0, 97, 89, 183, 0, 99, 191, 43, 176]
abbrev dktJ19_removeLast_0 : List UInt8 := dkwJ19_removeLast_0 ++ []
theorem dksJ19_removeLast_0 : cJ19_removeLast.data.toList.drop 0 = dktJ19_removeLast_0 := by decide +kernel
theorem dJ19_removeLast_0 : decode cJ19_removeLast 0 = .ok (.aload_n 0, 1) := dk_42 (dk_at dksJ19_removeLast_0 0 rfl rfl)
theorem dJ19_removeLast_1 : decode cJ19_removeLast 1 = .ok (.invokevirtual 100, 3) := dk_182 0 100 (dk_at dksJ19_removeLast_0 1 rfl rfl)
theorem dJ19_removeLast_4 : decode cJ19_removeLast 4 = .ok (.astore_n 1, 1) := dk_76 (dk_at dksJ19_removeLast_0 4 rfl rfl)
theorem dJ19_removeLast_5 : decode cJ19_removeLast 5 = .ok (.aload_n 1, 1) := dk_43 (dk_at dksJ19_removeLast_0 5 rfl rfl)
theorem dJ19_removeLast_6 : decode cJ19_removeLast 6 = .ok (.ifnonnull 11, 3) := dk_199 0 11 (dk_at dksJ19_removeLast_0 6 rfl rfl)
theorem dJ19_removeLast_9 : decode cJ19_removeLast 9 = .ok (.new 97, 3) := dk_187 0 97 (dk_at dksJ19_removeLast_0 9 rfl rfl)
theorem dJ19_removeLast_12 : decode cJ19_removeLast 12 = .ok (.dup, 1) := dk_89 (dk_at dksJ19_removeLast_0 12 rfl rfl)
theorem dJ19_removeLast_13 : decode cJ19_removeLast 13 = .ok (.invokespecial 99, 3) := dk_183 0 99 (dk_at dksJ19_removeLast_0 13 rfl rfl)
theorem dJ19_removeLast_16 : decode cJ19_removeLast 16 = .ok (.athrow, 1) := dk_191 (dk_at dksJ19_removeLast_0 16 rfl rfl)
theorem dJ19_removeLast_17 : decode cJ19_removeLast 17 = .ok (.aload_n 1, 1) := dk_43 (dk_at dksJ19_removeLast_0 17 rfl rfl)
theorem dJ19_removeLast_18 : decode cJ19_removeLast 18 = .ok (.areturn, 1) := dk_176 (dk_at dksJ19_removeLast_0 18 rfl rfl)
abbrev cJ19_pollLast : ByteArray := prog_49_method_21_code
def yJ19_pollLast : MethodName := ⟨RJ19, "pollLast", "()Ljava/lang/Object;"⟩
def dkwJ19_pollLast_1 : List UInt8 := [198, 0, 12, 43, 42, 28, 90, 181, 0, 20, 1, 83, 45, 176]
abbrev dktJ19_pollLast_1 : List UInt8 := dkwJ19_pollLast_1 ++ []
def dkwJ19_pollLast_0 : List UInt8 := [42, 180, 0, 3, 89, 76, 42, 180, 0, 20, 43, 190, 184, 0, 68, 89, 61, 184, 0, 103, 78, 45]
abbrev dktJ19_pollLast_0 : List UInt8 := dkwJ19_pollLast_0 ++ dktJ19_pollLast_1
theorem dksJ19_pollLast_0 : cJ19_pollLast.data.toList.drop 0 = dktJ19_pollLast_0 := by decide +kernel
theorem dksJ19_pollLast_1 : cJ19_pollLast.data.toList.drop 22 = dktJ19_pollLast_1 := dk_seg dksJ19_pollLast_0 22 rfl rfl
theorem dJ19_pollLast_0 : decode cJ19_pollLast 0 = .ok (.aload_n 0, 1) := dk_42 (dk_at dksJ19_pollLast_0 0 rfl rfl)
theorem dJ19_pollLast_1 : decode cJ19_pollLast 1 = .ok (.getfield 3, 3) := dk_180 0 3 (dk_at dksJ19_pollLast_0 1 rfl rfl)
theorem dJ19_pollLast_4 : decode cJ19_pollLast 4 = .ok (.dup, 1) := dk_89 (dk_at dksJ19_pollLast_0 4 rfl rfl)
theorem dJ19_pollLast_5 : decode cJ19_pollLast 5 = .ok (.astore_n 1, 1) := dk_76 (dk_at dksJ19_pollLast_0 5 rfl rfl)
theorem dJ19_pollLast_6 : decode cJ19_pollLast 6 = .ok (.aload_n 0, 1) := dk_42 (dk_at dksJ19_pollLast_0 6 rfl rfl)
theorem dJ19_pollLast_7 : decode cJ19_pollLast 7 = .ok (.getfield 20, 3) := dk_180 0 20 (dk_at dksJ19_pollLast_0 7 rfl rfl)
theorem dJ19_pollLast_10 : decode cJ19_pollLast 10 = .ok (.aload_n 1, 1) := dk_43 (dk_at dksJ19_pollLast_0 10 rfl rfl)
theorem dJ19_pollLast_11 : decode cJ19_pollLast 11 = .ok (.arraylength, 1) := dk_190 (dk_at dksJ19_pollLast_0 11 rfl rfl)
theorem dJ19_pollLast_12 : decode cJ19_pollLast 12 = .ok (.invokestatic 68, 3) := dk_184 0 68 (dk_at dksJ19_pollLast_0 12 rfl rfl)
theorem dJ19_pollLast_15 : decode cJ19_pollLast 15 = .ok (.dup, 1) := dk_89 (dk_at dksJ19_pollLast_0 15 rfl rfl)
theorem dJ19_pollLast_16 : decode cJ19_pollLast 16 = .ok (.istore_n 2, 1) := dk_61 (dk_at dksJ19_pollLast_0 16 rfl rfl)
theorem dJ19_pollLast_17 : decode cJ19_pollLast 17 = .ok (.invokestatic 103, 3) := dk_184 0 103 (dk_at dksJ19_pollLast_0 17 rfl rfl)
theorem dJ19_pollLast_20 : decode cJ19_pollLast 20 = .ok (.astore_n 3, 1) := dk_78 (dk_at dksJ19_pollLast_0 20 rfl rfl)
theorem dJ19_pollLast_21 : decode cJ19_pollLast 21 = .ok (.aload_n 3, 1) := dk_45 (dk_at dksJ19_pollLast_0 21 rfl rfl)
theorem dJ19_pollLast_22 : decode cJ19_pollLast 22 = .ok (.ifnull 12, 3) := dk_198 0 12 (dk_at dksJ19_pollLast_1 0 rfl rfl)
theorem dJ19_pollLast_25 : decode cJ19_pollLast 25 = .ok (.aload_n 1, 1) := dk_43 (dk_at dksJ19_pollLast_1 3 rfl rfl)
theorem dJ19_pollLast_26 : decode cJ19_pollLast 26 = .ok (.aload_n 0, 1) := dk_42 (dk_at dksJ19_pollLast_1 4 rfl rfl)
theorem dJ19_pollLast_27 : decode cJ19_pollLast 27 = .ok (.iload_n 2, 1) := dk_28 (dk_at dksJ19_pollLast_1 5 rfl rfl)
theorem dJ19_pollLast_28 : decode cJ19_pollLast 28 = .ok (.dup_x1, 1) := dk_90 (dk_at dksJ19_pollLast_1 6 rfl rfl)
theorem dJ19_pollLast_29 : decode cJ19_pollLast 29 = .ok (.putfield 20, 3) := dk_181 0 20 (dk_at dksJ19_pollLast_1 7 rfl rfl)
theorem dJ19_pollLast_32 : decode cJ19_pollLast 32 = .ok (.aconst_null, 1) := dk_1 (dk_at dksJ19_pollLast_1 10 rfl rfl)
theorem dJ19_pollLast_33 : decode cJ19_pollLast 33 = .ok (.aastore, 1) := dk_83 (dk_at dksJ19_pollLast_1 11 rfl rfl)
theorem dJ19_pollLast_34 : decode cJ19_pollLast 34 = .ok (.aload_n 3, 1) := dk_45 (dk_at dksJ19_pollLast_1 12 rfl rfl)
theorem dJ19_pollLast_35 : decode cJ19_pollLast 35 = .ok (.areturn, 1) := dk_176 (dk_at dksJ19_pollLast_1 13 rfl rfl)
abbrev cJ19_dec : ByteArray := prog_49_method_7_code
def yJ19_dec : MethodName := ⟨RJ19, "dec", "(II)I"⟩
def dkwJ19_dec_0 : List UInt8 := [132, 0, 255, 26, 156, 0, 7, 27, 4, 100, 59, 26, 172]
abbrev dktJ19_dec_0 : List UInt8 := dkwJ19_dec_0 ++ []
theorem dksJ19_dec_0 : cJ19_dec.data.toList.drop 0 = dktJ19_dec_0 := by decide +kernel
theorem dJ19_dec_0 : decode cJ19_dec 0 = .ok (.iinc 0 (-1), 3) := dk_132 0 255 (dk_at dksJ19_dec_0 0 rfl rfl)
theorem dJ19_dec_3 : decode cJ19_dec 3 = .ok (.iload_n 0, 1) := dk_26 (dk_at dksJ19_dec_0 3 rfl rfl)
theorem dJ19_dec_4 : decode cJ19_dec 4 = .ok (.ifCond .ge 7, 3) := dk_156 0 7 (dk_at dksJ19_dec_0 4 rfl rfl)
theorem dJ19_dec_7 : decode cJ19_dec 7 = .ok (.iload_n 1, 1) := dk_27 (dk_at dksJ19_dec_0 7 rfl rfl)
theorem dJ19_dec_8 : decode cJ19_dec 8 = .ok (.iconst 1, 1) := dk_4 (dk_at dksJ19_dec_0 8 rfl rfl)
theorem dJ19_dec_9 : decode cJ19_dec 9 = .ok (.isub, 1) := dk_100 (dk_at dksJ19_dec_0 9 rfl rfl)
theorem dJ19_dec_10 : decode cJ19_dec 10 = .ok (.istore_n 0, 1) := dk_59 (dk_at dksJ19_dec_0 10 rfl rfl)
theorem dJ19_dec_11 : decode cJ19_dec 11 = .ok (.iload_n 0, 1) := dk_26 (dk_at dksJ19_dec_0 11 rfl rfl)
theorem dJ19_dec_12 : decode cJ19_dec 12 = .ok (.ireturn, 1) := dk_172 (dk_at dksJ19_dec_0 12 rfl rfl)
abbrev cJ19_init_2 : ByteArray := prog_49_method_3_code
def yJ19_init_2 : MethodName := ⟨RJ19, "<init>", "()V"⟩
def dkwJ19_init_2_0 : List UInt8 := [42, 183, 0, 42, 42, 16, 17, 189, 0, 47, 181, 0, 3, 177]
abbrev dktJ19_init_2_0 : List UInt8 := dkwJ19_init_2_0 ++ []
theorem dksJ19_init_2_0 : cJ19_init_2.data.toList.drop 0 = dktJ19_init_2_0 := by decide +kernel
theorem dJ19_init_2_0 : decode cJ19_init_2 0 = .ok (.aload_n 0, 1) := dk_42 (dk_at dksJ19_init_2_0 0 rfl rfl)
theorem dJ19_init_2_1 : decode cJ19_init_2 1 = .ok (.invokespecial 42, 3) := dk_183 0 42 (dk_at dksJ19_init_2_0 1 rfl rfl)
theorem dJ19_init_2_4 : decode cJ19_init_2 4 = .ok (.aload_n 0, 1) := dk_42 (dk_at dksJ19_init_2_0 4 rfl rfl)
theorem dJ19_init_2_5 : decode cJ19_init_2 5 = .ok (.bipush 17, 2) := dk_16 17 (dk_at dksJ19_init_2_0 5 rfl rfl)
theorem dJ19_init_2_7 : decode cJ19_init_2 7 = .ok (.anewarray 47, 3) := dk_189 0 47 (dk_at dksJ19_init_2_0 7 rfl rfl)
theorem dJ19_init_2_10 : decode cJ19_init_2 10 = .ok (.putfield 3, 3) := dk_181 0 3 (dk_at dksJ19_init_2_0 10 rfl rfl)
theorem dJ19_init_2_13 : decode cJ19_init_2 13 = .ok (.return_, 1) := dk_177 (dk_at dksJ19_init_2_0 13 rfl rfl)
theorem q163 : (Jvm.Cond.initialized "java/util/ArrayDeque") ∈ lw_all := lw_g (lw_at lw_m1 29 rfl) rfl
theorem q308 : (Jvm.Cond.selects "java/util/ArrayDeque" ({ cls := "java/lang/Object", name := "getClass", desc := "()Ljava/lang/Class;" } : Jvm.MethodName) ({ cls := "java/lang/Object", name := "getClass", desc := "()Ljava/lang/Class;" } : Jvm.MethodName)) ∈ lw_all := lw_g (lw_at lw_m1 174 rfl) rfl
theorem q843 : (Jvm.Cond.instantiable "java/util/ArrayDeque" (3 : Nat)) ∈ lw_all := lw_g (lw_at lw_m3 229 rfl) rfl
theorem q845 : (Jvm.Cond.instanceMethod ({ cls := "java/util/ArrayDeque", name := "<init>", desc := "(I)V" } : Jvm.MethodName)) ∈ lw_all := lw_g (lw_at lw_m3 231 rfl) rfl
theorem q846 : (Jvm.Cond.code ({ cls := "java/util/ArrayDeque", name := "<init>", desc := "(I)V" } : Jvm.MethodName) prog_49_method_4_code (2 : Nat) (Option.none : Option Jvm.ClassFile.FieldType)) ∈ lw_all := lw_g (lw_at lw_m3 232 rfl) rfl
theorem q847 : (Jvm.Cond.methodLink "java/util/ArrayDeque" (42 : Nat) ({ cls := "java/util/AbstractCollection", name := "<init>", desc := "()V" } : Jvm.MethodName)) ∈ lw_all := lw_g (lw_at lw_m3 233 rfl) rfl
theorem q848 : (Jvm.Cond.constant "java/util/ArrayDeque" (41 : Nat) (2147483647 : Int32)) ∈ lw_all := lw_g (lw_at lw_m3 234 rfl) rfl
theorem q849 : (Jvm.Cond.classLink "java/util/ArrayDeque" (47 : Nat) "java/lang/Object") ∈ lw_all := lw_g (lw_at lw_m3 235 rfl) rfl
theorem q850 : (Jvm.Cond.fieldLink "java/util/ArrayDeque" (3 : Nat) "java/util/ArrayDeque" "elements" "[Ljava/lang/Object;") ∈ lw_all := lw_g (lw_at lw_m3 236 rfl) rfl
theorem q851 : (Jvm.Cond.fieldLink "java/util/ArrayDeque" (24 : Nat) "java/util/ArrayDeque" "head" "I") ∈ lw_all := lw_g (lw_at lw_m3 237 rfl) rfl
theorem q852 : (Jvm.Cond.fieldLink "java/util/ArrayDeque" (20 : Nat) "java/util/ArrayDeque" "tail" "I") ∈ lw_all := lw_g (lw_at lw_m3 238 rfl) rfl
theorem q853 : (Jvm.Cond.lays "java/util/ArrayDeque" "java/util/ArrayDeque" "elements" "[Ljava/lang/Object;") ∈ lw_all := lw_g (lw_at lw_m3 239 rfl) rfl
theorem q854 : (Jvm.Cond.soleField "java/util/ArrayDeque" "elements") ∈ lw_all := lw_g (lw_at lw_m4 0 rfl) rfl
theorem q855 : (Jvm.Cond.lays "java/util/ArrayDeque" "java/util/ArrayDeque" "head" "I") ∈ lw_all := lw_g (lw_at lw_m4 1 rfl) rfl
theorem q856 : (Jvm.Cond.soleField "java/util/ArrayDeque" "head") ∈ lw_all := lw_g (lw_at lw_m4 2 rfl) rfl
theorem q857 : (Jvm.Cond.lays "java/util/ArrayDeque" "java/util/ArrayDeque" "tail" "I") ∈ lw_all := lw_g (lw_at lw_m4 3 rfl) rfl
theorem q858 : (Jvm.Cond.soleField "java/util/ArrayDeque" "tail") ∈ lw_all := lw_g (lw_at lw_m4 4 rfl) rfl
theorem q859 : (Jvm.Cond.superclass "java/util/ArrayDeque" "java/util/AbstractCollection") ∈ lw_all := lw_g (lw_at lw_m4 5 rfl) rfl
theorem q1076 : (Jvm.Cond.instanceMethod ({ cls := "java/util/ArrayDeque", name := "clear", desc := "()V" } : Jvm.MethodName)) ∈ lw_all := lw_g (lw_at lw_m4 222 rfl) rfl
theorem q1077 : (Jvm.Cond.selects "java/util/ArrayDeque" ({ cls := "java/util/ArrayDeque", name := "clear", desc := "()V" } : Jvm.MethodName) ({ cls := "java/util/ArrayDeque", name := "clear", desc := "()V" } : Jvm.MethodName)) ∈ lw_all := lw_g (lw_at lw_m4 223 rfl) rfl
theorem q1078 : (Jvm.Cond.code ({ cls := "java/util/ArrayDeque", name := "clear", desc := "()V" } : Jvm.MethodName) prog_49_method_53_code (1 : Nat) (Option.none : Option Jvm.ClassFile.FieldType)) ∈ lw_all := lw_g (lw_at lw_m4 224 rfl) rfl
theorem q1079 : (Jvm.Cond.methodLink "java/util/ArrayDeque" (181 : Nat) ({ cls := "java/util/ArrayDeque", name := "circularClear", desc := "([Ljava/lang/Object;II)V" } : Jvm.MethodName)) ∈ lw_all := lw_g (lw_at lw_m4 225 rfl) rfl
theorem q1080 : (Jvm.Cond.static ({ cls := "java/util/ArrayDeque", name := "circularClear", desc := "([Ljava/lang/Object;II)V" } : Jvm.MethodName)) ∈ lw_all := lw_g (lw_at lw_m4 226 rfl) rfl
theorem q1081 : (Jvm.Cond.code ({ cls := "java/util/ArrayDeque", name := "circularClear", desc := "([Ljava/lang/Object;II)V" } : Jvm.MethodName) prog_49_method_54_code (4 : Nat) (Option.none : Option Jvm.ClassFile.FieldType)) ∈ lw_all := lw_g (lw_at lw_m4 227 rfl) rfl
theorem q1282 : (Jvm.Cond.instanceMethod ({ cls := "java/util/ArrayDeque", name := "size", desc := "()I" } : Jvm.MethodName)) ∈ lw_all := lw_g (lw_at lw_m5 188 rfl) rfl
theorem q1283 : (Jvm.Cond.selects "java/util/ArrayDeque" ({ cls := "java/util/ArrayDeque", name := "size", desc := "()I" } : Jvm.MethodName) ({ cls := "java/util/ArrayDeque", name := "size", desc := "()I" } : Jvm.MethodName)) ∈ lw_all := lw_g (lw_at lw_m5 189 rfl) rfl
theorem q1284 : (Jvm.Cond.code ({ cls := "java/util/ArrayDeque", name := "size", desc := "()I" } : Jvm.MethodName) prog_49_method_37_code (1 : Nat) (Option.some Jvm.ClassFile.FieldType.int)) ∈ lw_all := lw_g (lw_at lw_m5 190 rfl) rfl
theorem q1285 : (Jvm.Cond.methodLink "java/util/ArrayDeque" (127 : Nat) ({ cls := "java/util/ArrayDeque", name := "sub", desc := "(III)I" } : Jvm.MethodName)) ∈ lw_all := lw_g (lw_at lw_m5 191 rfl) rfl
theorem q1286 : (Jvm.Cond.static ({ cls := "java/util/ArrayDeque", name := "sub", desc := "(III)I" } : Jvm.MethodName)) ∈ lw_all := lw_g (lw_at lw_m5 192 rfl) rfl
theorem q1287 : (Jvm.Cond.code ({ cls := "java/util/ArrayDeque", name := "sub", desc := "(III)I" } : Jvm.MethodName) prog_49_method_9_code (3 : Nat) (Option.some Jvm.ClassFile.FieldType.int)) ∈ lw_all := lw_g (lw_at lw_m5 193 rfl) rfl
theorem q1289 : (Jvm.Cond.instanceMethod ({ cls := "java/util/ArrayDeque", name := "removeFirst", desc := "()Ljava/lang/Object;" } : Jvm.MethodName)) ∈ lw_all := lw_g (lw_at lw_m5 195 rfl) rfl
theorem q1290 : (Jvm.Cond.selects "java/util/ArrayDeque" ({ cls := "java/util/ArrayDeque", name := "removeFirst", desc := "()Ljava/lang/Object;" } : Jvm.MethodName) ({ cls := "java/util/ArrayDeque", name := "removeFirst", desc := "()Ljava/lang/Object;" } : Jvm.MethodName)) ∈ lw_all := lw_g (lw_at lw_m5 196 rfl) rfl
theorem q1291 : (Jvm.Cond.code ({ cls := "java/util/ArrayDeque", name := "removeFirst", desc := "()Ljava/lang/Object;" } : Jvm.MethodName) prog_49_method_18_code (2 : Nat) (Option.some (Jvm.ClassFile.FieldType.object "java/lang/Object"))) ∈ lw_all := lw_g (lw_at lw_m5 197 rfl) rfl
theorem q1292 : (Jvm.Cond.methodLink "java/util/ArrayDeque" (93 : Nat) ({ cls := "java/util/ArrayDeque", name := "pollFirst", desc := "()Ljava/lang/Object;" } : Jvm.MethodName)) ∈ lw_all := lw_g (lw_at lw_m5 198 rfl) rfl
theorem q1293 : (Jvm.Cond.instanceMethod ({ cls := "java/util/ArrayDeque", name := "pollFirst", desc := "()Ljava/lang/Object;" } : Jvm.MethodName)) ∈ lw_all := lw_g (lw_at lw_m5 199 rfl) rfl
theorem q1294 : (Jvm.Cond.selects "java/util/ArrayDeque" ({ cls := "java/util/ArrayDeque", name := "pollFirst", desc := "()Ljava/lang/Object;" } : Jvm.MethodName) ({ cls := "java/util/ArrayDeque", name := "pollFirst", desc := "()Ljava/lang/Object;" } : Jvm.MethodName)) ∈ lw_all := lw_g (lw_at lw_m5 200 rfl) rfl
theorem q1295 : (Jvm.Cond.code ({ cls := "java/util/ArrayDeque", name := "pollFirst", desc := "()Ljava/lang/Object;" } : Jvm.MethodName) prog_49_method_20_code (4 : Nat) (Option.some (Jvm.ClassFile.FieldType.object "java/lang/Object"))) ∈ lw_all := lw_g (lw_at lw_m5 201 rfl) rfl
theorem q1296 : (Jvm.Cond.methodLink "java/util/ArrayDeque" (103 : Nat) ({ cls := "java/util/ArrayDeque", name := "elementAt", desc := "([Ljava/lang/Object;I)Ljava/lang/Object;" } : Jvm.MethodName)) ∈ lw_all := lw_g (lw_at lw_m5 202 rfl) rfl
theorem q1297 : (Jvm.Cond.static ({ cls := "java/util/ArrayDeque", name := "elementAt", desc := "([Ljava/lang/Object;I)Ljava/lang/Object;" } : Jvm.MethodName)) ∈ lw_all := lw_g (lw_at lw_m5 203 rfl) rfl
theorem q1298 : (Jvm.Cond.code ({ cls := "java/util/ArrayDeque", name := "elementAt", desc := "([Ljava/lang/Object;I)Ljava/lang/Object;" } : Jvm.MethodName) prog_49_method_10_code (2 : Nat) (Option.some (Jvm.ClassFile.FieldType.object "java/lang/Object"))) ∈ lw_all := lw_g (lw_at lw_m5 204 rfl) rfl
theorem q1299 : (Jvm.Cond.methodLink "java/util/ArrayDeque" (74 : Nat) ({ cls := "java/util/ArrayDeque", name := "inc", desc := "(II)I" } : Jvm.MethodName)) ∈ lw_all := lw_g (lw_at lw_m5 205 rfl) rfl
theorem q1300 : (Jvm.Cond.static ({ cls := "java/util/ArrayDeque", name := "inc", desc := "(II)I" } : Jvm.MethodName)) ∈ lw_all := lw_g (lw_at lw_m5 206 rfl) rfl
theorem q1301 : (Jvm.Cond.code ({ cls := "java/util/ArrayDeque", name := "inc", desc := "(II)I" } : Jvm.MethodName) prog_49_method_6_code (2 : Nat) (Option.some Jvm.ClassFile.FieldType.int)) ∈ lw_all := lw_g (lw_at lw_m5 207 rfl) rfl
theorem q1302 : (Jvm.Cond.classLink "java/util/ArrayDeque" (97 : Nat) "java/util/NoSuchElementException") ∈ lw_all := lw_g (lw_at lw_m5 208 rfl) rfl
theorem q1311 : (Jvm.Cond.methodLink "java/util/ArrayDeque" (99 : Nat) ({ cls := "java/util/NoSuchElementException", name := "<init>", desc := "()V" } : Jvm.MethodName)) ∈ lw_all := lw_g (lw_at lw_m5 217 rfl) rfl
theorem q1324 : (Jvm.Cond.instanceMethod ({ cls := "java/util/ArrayDeque", name := "addLast", desc := "(Ljava/lang/Object;)V" } : Jvm.MethodName)) ∈ lw_all := lw_g (lw_at lw_m5 230 rfl) rfl
theorem q1325 : (Jvm.Cond.selects "java/util/ArrayDeque" ({ cls := "java/util/ArrayDeque", name := "addLast", desc := "(Ljava/lang/Object;)V" } : Jvm.MethodName) ({ cls := "java/util/ArrayDeque", name := "addLast", desc := "(Ljava/lang/Object;)V" } : Jvm.MethodName)) ∈ lw_all := lw_g (lw_at lw_m5 231 rfl) rfl
theorem q1326 : (Jvm.Cond.code ({ cls := "java/util/ArrayDeque", name := "addLast", desc := "(Ljava/lang/Object;)V" } : Jvm.MethodName) prog_49_method_13_code (3 : Nat) (Option.none : Option Jvm.ClassFile.FieldType)) ∈ lw_all := lw_g (lw_at lw_m5 232 rfl) rfl
theorem q1327 : (Jvm.Cond.methodLink "java/util/ArrayDeque" (71 : Nat) ({ cls := "java/util/ArrayDeque", name := "grow", desc := "(I)V" } : Jvm.MethodName)) ∈ lw_all := lw_g (lw_at lw_m5 233 rfl) rfl
theorem q1328 : (Jvm.Cond.privateMethod ({ cls := "java/util/ArrayDeque", name := "grow", desc := "(I)V" } : Jvm.MethodName)) ∈ lw_tbl := lw_at lw_m5 234 rfl
theorem q1329 : (Jvm.Cond.instanceMethod ({ cls := "java/util/ArrayDeque", name := "grow", desc := "(I)V" } : Jvm.MethodName)) ∈ lw_all := lw_g (lw_at lw_m5 235 rfl) rfl
theorem q1330 : (Jvm.Cond.code ({ cls := "java/util/ArrayDeque", name := "grow", desc := "(I)V" } : Jvm.MethodName) prog_49_method_1_code (9 : Nat) (Option.none : Option Jvm.ClassFile.FieldType)) ∈ lw_all := lw_g (lw_at lw_m5 236 rfl) rfl
theorem q1331 : (Jvm.Cond.constant "java/util/ArrayDeque" (9 : Nat) (2147483639 : Int32)) ∈ lw_all := lw_g (lw_at lw_m5 237 rfl) rfl
theorem q1332 : (Jvm.Cond.methodLink "java/util/ArrayDeque" (10 : Nat) ({ cls := "java/util/ArrayDeque", name := "newCapacity", desc := "(II)I" } : Jvm.MethodName)) ∈ lw_all := lw_g (lw_at lw_m5 238 rfl) rfl
theorem q1333 : (Jvm.Cond.privateMethod ({ cls := "java/util/ArrayDeque", name := "newCapacity", desc := "(II)I" } : Jvm.MethodName)) ∈ lw_tbl := lw_at lw_m5 239 rfl
theorem q1334 : (Jvm.Cond.instanceMethod ({ cls := "java/util/ArrayDeque", name := "newCapacity", desc := "(II)I" } : Jvm.MethodName)) ∈ lw_all := lw_g (lw_at lw_m6 0 rfl) rfl
theorem q1335 : (Jvm.Cond.code ({ cls := "java/util/ArrayDeque", name := "newCapacity", desc := "(II)I" } : Jvm.MethodName) prog_49_method_2_code (5 : Nat) (Option.some Jvm.ClassFile.FieldType.int)) ∈ lw_all := lw_g (lw_at lw_m6 1 rfl) rfl
theorem q1336 : (Jvm.Cond.classLink "java/util/ArrayDeque" (33 : Nat) "java/lang/IllegalStateException") ∈ lw_all := lw_g (lw_at lw_m6 2 rfl) rfl
theorem q1345 : (Jvm.Cond.stringRef "java/util/ArrayDeque" (35 : Nat) "Sorry, deque too big") ∈ lw_tbl := lw_at lw_m6 11 rfl
theorem q1346 : (Jvm.Cond.methodLink "java/util/ArrayDeque" (37 : Nat) ({ cls := "java/lang/IllegalStateException", name := "<init>", desc := "(Ljava/lang/String;)V" } : Jvm.MethodName)) ∈ lw_all := lw_g (lw_at lw_m6 12 rfl) rfl
theorem q1352 : (Jvm.Cond.methodLink "java/util/ArrayDeque" (14 : Nat) ({ cls := "java/util/Arrays", name := "copyOf", desc := "([Ljava/lang/Object;I)[Ljava/lang/Object;" } : Jvm.MethodName)) ∈ lw_all := lw_g (lw_at lw_m6 18 rfl) rfl
theorem q1353 : (Jvm.Cond.methodLink "java/util/ArrayDeque" (27 : Nat) ({ cls := "java/lang/System", name := "arraycopy", desc := "(Ljava/lang/Object;ILjava/lang/Object;II)V" } : Jvm.MethodName)) ∈ lw_all := lw_g (lw_at lw_m6 19 rfl) rfl
theorem q1616 : (Jvm.Cond.instanceMethod ({ cls := "java/util/ArrayDeque", name := "isEmpty", desc := "()Z" } : Jvm.MethodName)) ∈ lw_all := lw_g (lw_at lw_m7 42 rfl) rfl
theorem q1617 : (Jvm.Cond.selects "java/util/ArrayDeque" ({ cls := "java/util/ArrayDeque", name := "isEmpty", desc := "()Z" } : Jvm.MethodName) ({ cls := "java/util/ArrayDeque", name := "isEmpty", desc := "()Z" } : Jvm.MethodName)) ∈ lw_all := lw_g (lw_at lw_m7 43 rfl) rfl
theorem q1618 : (Jvm.Cond.code ({ cls := "java/util/ArrayDeque", name := "isEmpty", desc := "()Z" } : Jvm.MethodName) prog_49_method_38_code (1 : Nat) (Option.some Jvm.ClassFile.FieldType.boolean)) ∈ lw_all := lw_g (lw_at lw_m7 44 rfl) rfl
theorem q1620 : (Jvm.Cond.instanceMethod ({ cls := "java/util/ArrayDeque", name := "removeLast", desc := "()Ljava/lang/Object;" } : Jvm.MethodName)) ∈ lw_all := lw_g (lw_at lw_m7 46 rfl) rfl
theorem q1621 : (Jvm.Cond.selects "java/util/ArrayDeque" ({ cls := "java/util/ArrayDeque", name := "removeLast", desc := "()Ljava/lang/Object;" } : Jvm.MethodName) ({ cls := "java/util/ArrayDeque", name := "removeLast", desc := "()Ljava/lang/Object;" } : Jvm.MethodName)) ∈ lw_all := lw_g (lw_at lw_m7 47 rfl) rfl
theorem q1622 : (Jvm.Cond.code ({ cls := "java/util/ArrayDeque", name := "removeLast", desc := "()Ljava/lang/Object;" } : Jvm.MethodName) prog_49_method_19_code (2 : Nat) (Option.some (Jvm.ClassFile.FieldType.object "java/lang/Object"))) ∈ lw_all := lw_g (lw_at lw_m7 48 rfl) rfl
theorem q1623 : (Jvm.Cond.methodLink "java/util/ArrayDeque" (100 : Nat) ({ cls := "java/util/ArrayDeque", name := "pollLast", desc := "()Ljava/lang/Object;" } : Jvm.MethodName)) ∈ lw_all := lw_g (lw_at lw_m7 49 rfl) rfl
theorem q1624 : (Jvm.Cond.instanceMethod ({ cls := "java/util/ArrayDeque", name := "pollLast", desc := "()Ljava/lang/Object;" } : Jvm.MethodName)) ∈ lw_all := lw_g (lw_at lw_m7 50 rfl) rfl
theorem q1625 : (Jvm.Cond.selects "java/util/ArrayDeque" ({ cls := "java/util/ArrayDeque", name := "pollLast", desc := "()Ljava/lang/Object;" } : Jvm.MethodName) ({ cls := "java/util/ArrayDeque", name := "pollLast", desc := "()Ljava/lang/Object;" } : Jvm.MethodName)) ∈ lw_all := lw_g (lw_at lw_m7 51 rfl) rfl
theorem q1626 : (Jvm.Cond.code ({ cls := "java/util/ArrayDeque", name := "pollLast", desc := "()Ljava/lang/Object;" } : Jvm.MethodName) prog_49_method_21_code (4 : Nat) (Option.some (Jvm.ClassFile.FieldType.object "java/lang/Object"))) ∈ lw_all := lw_g (lw_at lw_m7 52 rfl) rfl
theorem q1627 : (Jvm.Cond.methodLink "java/util/ArrayDeque" (68 : Nat) ({ cls := "java/util/ArrayDeque", name := "dec", desc := "(II)I" } : Jvm.MethodName)) ∈ lw_all := lw_g (lw_at lw_m7 53 rfl) rfl
theorem q1628 : (Jvm.Cond.static ({ cls := "java/util/ArrayDeque", name := "dec", desc := "(II)I" } : Jvm.MethodName)) ∈ lw_all := lw_g (lw_at lw_m7 54 rfl) rfl
theorem q1629 : (Jvm.Cond.code ({ cls := "java/util/ArrayDeque", name := "dec", desc := "(II)I" } : Jvm.MethodName) prog_49_method_7_code (2 : Nat) (Option.some Jvm.ClassFile.FieldType.int)) ∈ lw_all := lw_g (lw_at lw_m7 55 rfl) rfl
theorem q1749 : (Jvm.Cond.instanceMethod ({ cls := "java/util/ArrayDeque", name := "<init>", desc := "()V" } : Jvm.MethodName)) ∈ lw_all := lw_g (lw_at lw_m7 175 rfl) rfl
theorem q1750 : (Jvm.Cond.code ({ cls := "java/util/ArrayDeque", name := "<init>", desc := "()V" } : Jvm.MethodName) prog_49_method_3_code (1 : Nat) (Option.none : Option Jvm.ClassFile.FieldType)) ∈ lw_all := lw_g (lw_at lw_m7 176 rfl) rfl
theorem q3145 : (Jvm.Cond.castable "java/util/ArrayDeque" "java/lang/Object") ∈ lw_tbl := lw_at lw_m13 131 rfl
theorem in_J19 : ∀ w ∈ wsJ190, w ∈ lw_all := lw_in wsJ190 [853, 855, 857] (by decide +kernel) (by decide +kernel)
