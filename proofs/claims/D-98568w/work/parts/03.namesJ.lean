theorem q2641 : (Jvm.Cond.castable "[B" "java/lang/Object") ∈ lw_tbl := lw_at lw_m11 118 rfl
set_option maxRecDepth 100000
theorem q2642 : (Jvm.Cond.castable "[I" "java/lang/Object") ∈ lw_tbl := lw_at lw_m11 119 rfl
set_option maxRecDepth 100000
theorem q2643 : (Jvm.Cond.castable "[J" "java/lang/Object") ∈ lw_tbl := lw_at lw_m11 120 rfl
set_option maxRecDepth 100000
theorem q2646 : (Jvm.Cond.castable "[LNameOrchard$Boughs;" "java/lang/Object") ∈ lw_tbl := lw_at lw_m11 123 rfl
set_option maxRecDepth 100000
theorem q2647 : (Jvm.Cond.castable "[LNameOrchard$Mark;" "java/lang/Object") ∈ lw_tbl := lw_at lw_m11 124 rfl
set_option maxRecDepth 100000
theorem q2637 : (Jvm.Cond.sameMethod "[Ljava/lang/Object;" "java/lang/Object" "getClass" "()Ljava/lang/Class;") ∈ lw_all := lw_g (lw_at lw_m11 114 rfl) rfl
set_option maxRecDepth 100000
theorem q2638 : (Jvm.Cond.selects "[Ljava/lang/Object;" ({ cls := "java/lang/Object", name := "getClass", desc := "()Ljava/lang/Class;" } : Jvm.MethodName) ({ cls := "java/lang/Object", name := "getClass", desc := "()Ljava/lang/Class;" } : Jvm.MethodName)) ∈ lw_all := lw_g (lw_at lw_m11 115 rfl) rfl
theorem q2644 : (Jvm.Cond.castable "[Ljava/lang/Object;" "java/lang/Object") ∈ lw_tbl := lw_at lw_m11 121 rfl
theorem q2640 : (Jvm.Cond.castable "[Ljava/lang/String;" "java/lang/Object") ∈ lw_tbl := lw_at lw_m11 117 rfl
set_option maxRecDepth 100000
theorem q2645 : (Jvm.Cond.castable "[Z" "java/lang/Object") ∈ lw_tbl := lw_at lw_m11 122 rfl
set_option maxRecDepth 100000
theorem q157 : (Jvm.Cond.initialized "java/lang/Long$LongCache") ∈ lw_all := lw_g (lw_at lw_m1 34 rfl) rfl
set_option maxRecDepth 100000
theorem q1063 : (Jvm.Cond.laysStatic "java/lang/Long$LongCache" "cache" "[Ljava/lang/Long;") ∈ lw_tbl := lw_at lw_m4 220 rfl
theorem q152 : (Jvm.Cond.initialized "java/lang/System") ∈ lw_all := lw_g (lw_at lw_m1 29 rfl) rfl
set_option maxRecDepth 100000
theorem q976 : (Jvm.Cond.static ({ cls := "java/lang/System", name := "arraycopy", desc := "(Ljava/lang/Object;ILjava/lang/Object;II)V" } : Jvm.MethodName)) ∈ lw_all := lw_g (lw_at lw_m4 133 rfl) rfl
theorem q977 : (Jvm.Cond.native ({ cls := "java/lang/System", name := "arraycopy", desc := "(Ljava/lang/Object;ILjava/lang/Object;II)V" } : Jvm.MethodName)) ∈ lw_all := lw_g (lw_at lw_m4 134 rfl) rfl
theorem q193 : (Jvm.Cond.arrayOver (Jvm.ClassFile.FieldType.object "java/lang/String")) ∈ lw_tbl := lw_at lw_m1 70 rfl
set_option maxRecDepth 100000
theorem q265 : (Jvm.Cond.arrayClass Jvm.ClassFile.FieldType.byte) ∈ lw_all := lw_g (lw_at lw_m1 142 rfl) rfl
theorem q266 : (Jvm.Cond.arrayClass Jvm.ClassFile.FieldType.int) ∈ lw_all := lw_g (lw_at lw_m1 143 rfl) rfl
theorem q267 : (Jvm.Cond.arrayClass Jvm.ClassFile.FieldType.long) ∈ lw_all := lw_g (lw_at lw_m1 144 rfl) rfl
theorem q327 : (Jvm.Cond.arrayOver (Jvm.ClassFile.FieldType.object "java/lang/Object")) ∈ lw_tbl := lw_at lw_m1 204 rfl
theorem q460 : (Jvm.Cond.arrayClass Jvm.ClassFile.FieldType.boolean) ∈ lw_all := lw_g (lw_at lw_m2 97 rfl) rfl
theorem q468 : (Jvm.Cond.arrayOver (Jvm.ClassFile.FieldType.object "NameOrchard$Boughs")) ∈ lw_tbl := lw_at lw_m2 105 rfl
theorem q517 : (Jvm.Cond.arrayOver (Jvm.ClassFile.FieldType.object "NameOrchard$Mark")) ∈ lw_tbl := lw_at lw_m2 154 rfl
/-! java/util/AbstractCollection -/
set_option maxRecDepth 100000
def RJ0 : String := "java/util/AbstractCollection"
abbrev cJ0_init : ByteArray := prog_55_method_1_code
def yJ0_init : MethodName := ⟨RJ0, "<init>", "()V"⟩
theorem dJ0_init_0 : decode cJ0_init 0 = .ok (.aload_n 0, 1) := by decide +kernel
theorem dJ0_init_1 : decode cJ0_init 1 = .ok (.invokespecial 1, 3) := by decide +kernel
theorem dJ0_init_4 : decode cJ0_init 4 = .ok (.return_, 1) := by decide +kernel
theorem q128 : (Jvm.Cond.initialized "java/util/AbstractCollection") ∈ lw_all := lw_g (lw_at lw_m1 5 rfl) rfl
theorem q323 : (Jvm.Cond.instanceMethod ({ cls := "java/util/AbstractCollection", name := "<init>", desc := "()V" } : Jvm.MethodName)) ∈ lw_all := lw_g (lw_at lw_m1 200 rfl) rfl
theorem q324 : (Jvm.Cond.code ({ cls := "java/util/AbstractCollection", name := "<init>", desc := "()V" } : Jvm.MethodName) prog_55_method_1_code (1 : Nat) (Option.none : Option Jvm.ClassFile.FieldType)) ∈ lw_all := lw_g (lw_at lw_m1 201 rfl) rfl
theorem q325 : (Jvm.Cond.methodLink "java/util/AbstractCollection" (1 : Nat) ({ cls := "java/lang/Object", name := "<init>", desc := "()V" } : Jvm.MethodName)) ∈ lw_all := lw_g (lw_at lw_m1 202 rfl) rfl
/-! java/util/AbstractList -/
set_option maxRecDepth 100000
def RJ1 : String := "java/util/AbstractList"
abbrev cJ1_init : ByteArray := prog_56_method_1_code
def yJ1_init : MethodName := ⟨RJ1, "<init>", "()V"⟩
def dkwJ1_init_0 : List UInt8 := [42, 183, 0, 1, 42, 3, 181, 0, 7, 177]
abbrev dktJ1_init_0 : List UInt8 := dkwJ1_init_0 ++ []
theorem dksJ1_init_0 : cJ1_init.data.toList.drop 0 = dktJ1_init_0 := by decide +kernel
theorem dJ1_init_0 : decode cJ1_init 0 = .ok (.aload_n 0, 1) := dk_42 (dk_at dksJ1_init_0 0 rfl rfl)
theorem dJ1_init_1 : decode cJ1_init 1 = .ok (.invokespecial 1, 3) := dk_183 0 1 (dk_at dksJ1_init_0 1 rfl rfl)
theorem dJ1_init_4 : decode cJ1_init 4 = .ok (.aload_n 0, 1) := dk_42 (dk_at dksJ1_init_0 4 rfl rfl)
theorem dJ1_init_5 : decode cJ1_init 5 = .ok (.iconst 0, 1) := dk_3 (dk_at dksJ1_init_0 5 rfl rfl)
theorem dJ1_init_6 : decode cJ1_init 6 = .ok (.putfield 7, 3) := dk_181 0 7 (dk_at dksJ1_init_0 6 rfl rfl)
theorem dJ1_init_9 : decode cJ1_init 9 = .ok (.return_, 1) := dk_177 (dk_at dksJ1_init_0 9 rfl rfl)
theorem q129 : (Jvm.Cond.initialized "java/util/AbstractList") ∈ lw_all := lw_g (lw_at lw_m1 6 rfl) rfl
theorem q320 : (Jvm.Cond.instanceMethod ({ cls := "java/util/AbstractList", name := "<init>", desc := "()V" } : Jvm.MethodName)) ∈ lw_all := lw_g (lw_at lw_m1 197 rfl) rfl
theorem q321 : (Jvm.Cond.code ({ cls := "java/util/AbstractList", name := "<init>", desc := "()V" } : Jvm.MethodName) prog_56_method_1_code (1 : Nat) (Option.none : Option Jvm.ClassFile.FieldType)) ∈ lw_all := lw_g (lw_at lw_m1 198 rfl) rfl
theorem q322 : (Jvm.Cond.methodLink "java/util/AbstractList" (1 : Nat) ({ cls := "java/util/AbstractCollection", name := "<init>", desc := "()V" } : Jvm.MethodName)) ∈ lw_all := lw_g (lw_at lw_m1 199 rfl) rfl
theorem q332 : (Jvm.Cond.fieldLink "java/util/AbstractList" (7 : Nat) "java/util/AbstractList" "modCount" "I") ∈ lw_all := lw_g (lw_at lw_m1 209 rfl) rfl
theorem q340 : (Jvm.Cond.soleField "java/util/AbstractList" "modCount") ∈ lw_all := lw_g (lw_at lw_m1 217 rfl) rfl
/-! java/util/ArrayList -/
set_option maxRecDepth 100000
def RJ2 : String := "java/util/ArrayList"
def TJ2 : u_T := fun k => match k with
  | 0 => ("java/util/AbstractList", "modCount", "I", false)
  | 1 => ("java/util/ArrayList", "elementData", "[Ljava/lang/Object;", false)
  | _ => ("java/util/ArrayList", "size", "I", false)
def tyJ2 : Nat → FieldType := fun k => match k with
  | 0 => .int
  | 1 => .array (.object "java/lang/Object")
  | _ => .int
abbrev wsJ20 : List Cond := u_ws RJ2 TJ2 3
theorem nmJ2 : ∀ a, a < 3 → ∀ b, b < 3 → a ≠ b → (TJ2 a).2.1 ≠ (TJ2 b).2.1 := by decide +kernel
theorem tyJ2_ok : ∀ k, k < 3 → parseFieldDescriptor (TJ2 k).2.2.1 = some (tyJ2 k) := by decide +kernel
abbrev cJ2_init : ByteArray := prog_57_method_1_code
def yJ2_init : MethodName := ⟨RJ2, "<init>", "(I)V"⟩
def dkwJ2_init_2 : List UInt8 := [182, 0, 25, 27, 182, 0, 29, 182, 0, 32, 183, 0, 36, 191, 177]
abbrev dktJ2_init_2 : List UInt8 := dkwJ2_init_2 ++ []
def dkwJ2_init_1 : List UInt8 := [178, 0, 15, 181, 0, 9, 167, 0, 30, 187, 0, 18, 89, 187, 0, 20, 89, 183, 0, 22, 18, 23]
abbrev dktJ2_init_1 : List UInt8 := dkwJ2_init_1 ++ dktJ2_init_2
def dkwJ2_init_0 : List UInt8 := [42, 183, 0, 1, 27, 158, 0, 14, 42, 27, 189, 0, 7, 181, 0, 9, 167, 0, 44, 27, 154, 0, 13, 42]
abbrev dktJ2_init_0 : List UInt8 := dkwJ2_init_0 ++ dktJ2_init_1
theorem dksJ2_init_0 : cJ2_init.data.toList.drop 0 = dktJ2_init_0 := by decide +kernel
theorem dksJ2_init_1 : cJ2_init.data.toList.drop 24 = dktJ2_init_1 := dk_seg dksJ2_init_0 24 rfl rfl
theorem dksJ2_init_2 : cJ2_init.data.toList.drop 46 = dktJ2_init_2 := dk_seg dksJ2_init_1 22 rfl rfl
theorem dJ2_init_0 : decode cJ2_init 0 = .ok (.aload_n 0, 1) := dk_42 (dk_at dksJ2_init_0 0 rfl rfl)
theorem dJ2_init_1 : decode cJ2_init 1 = .ok (.invokespecial 1, 3) := dk_183 0 1 (dk_at dksJ2_init_0 1 rfl rfl)
theorem dJ2_init_4 : decode cJ2_init 4 = .ok (.iload_n 1, 1) := dk_27 (dk_at dksJ2_init_0 4 rfl rfl)
theorem dJ2_init_5 : decode cJ2_init 5 = .ok (.ifCond .le 14, 3) := dk_158 0 14 (dk_at dksJ2_init_0 5 rfl rfl)
theorem dJ2_init_8 : decode cJ2_init 8 = .ok (.aload_n 0, 1) := dk_42 (dk_at dksJ2_init_0 8 rfl rfl)
theorem dJ2_init_9 : decode cJ2_init 9 = .ok (.iload_n 1, 1) := dk_27 (dk_at dksJ2_init_0 9 rfl rfl)
theorem dJ2_init_10 : decode cJ2_init 10 = .ok (.anewarray 7, 3) := dk_189 0 7 (dk_at dksJ2_init_0 10 rfl rfl)
theorem dJ2_init_13 : decode cJ2_init 13 = .ok (.putfield 9, 3) := dk_181 0 9 (dk_at dksJ2_init_0 13 rfl rfl)
theorem dJ2_init_16 : decode cJ2_init 16 = .ok (.goto 44, 3) := dk_167 0 44 (dk_at dksJ2_init_0 16 rfl rfl)
theorem dJ2_init_19 : decode cJ2_init 19 = .ok (.iload_n 1, 1) := dk_27 (dk_at dksJ2_init_0 19 rfl rfl)
theorem dJ2_init_20 : decode cJ2_init 20 = .ok (.ifCond .ne 13, 3) := dk_154 0 13 (dk_at dksJ2_init_0 20 rfl rfl)
theorem dJ2_init_23 : decode cJ2_init 23 = .ok (.aload_n 0, 1) := dk_42 (dk_at dksJ2_init_0 23 rfl rfl)
theorem dJ2_init_24 : decode cJ2_init 24 = .ok (.getstatic 15, 3) := dk_178 0 15 (dk_at dksJ2_init_1 0 rfl rfl)
theorem dJ2_init_27 : decode cJ2_init 27 = .ok (.putfield 9, 3) := dk_181 0 9 (dk_at dksJ2_init_1 3 rfl rfl)
theorem dJ2_init_30 : decode cJ2_init 30 = .ok (.goto 30, 3) := dk_167 0 30 (dk_at dksJ2_init_1 6 rfl rfl)
theorem dJ2_init_33 : decode cJ2_init 33 = .ok (.new 18, 3) := dk_187 0 18 (dk_at dksJ2_init_1 9 rfl rfl)
theorem dJ2_init_36 : decode cJ2_init 36 = .ok (.dup, 1) := dk_89 (dk_at dksJ2_init_1 12 rfl rfl)
theorem dJ2_init_37 : decode cJ2_init 37 = .ok (.new 20, 3) := dk_187 0 20 (dk_at dksJ2_init_1 13 rfl rfl)
theorem dJ2_init_40 : decode cJ2_init 40 = .ok (.dup, 1) := dk_89 (dk_at dksJ2_init_1 16 rfl rfl)
theorem dJ2_init_41 : decode cJ2_init 41 = .ok (.invokespecial 22, 3) := dk_183 0 22 (dk_at dksJ2_init_1 17 rfl rfl)
theorem dJ2_init_44 : decode cJ2_init 44 = .ok (.ldc 23, 2) := dk_18 23 (dk_at dksJ2_init_1 20 rfl rfl)
theorem dJ2_init_46 : decode cJ2_init 46 = .ok (.invokevirtual 25, 3) := dk_182 0 25 (dk_at dksJ2_init_2 0 rfl rfl)
theorem dJ2_init_49 : decode cJ2_init 49 = .ok (.iload_n 1, 1) := dk_27 (dk_at dksJ2_init_2 3 rfl rfl)
theorem dJ2_init_50 : decode cJ2_init 50 = .ok (.invokevirtual 29, 3) := dk_182 0 29 (dk_at dksJ2_init_2 4 rfl rfl)
theorem dJ2_init_53 : decode cJ2_init 53 = .ok (.invokevirtual 32, 3) := dk_182 0 32 (dk_at dksJ2_init_2 7 rfl rfl)
theorem dJ2_init_56 : decode cJ2_init 56 = .ok (.invokespecial 36, 3) := dk_183 0 36 (dk_at dksJ2_init_2 10 rfl rfl)
theorem dJ2_init_59 : decode cJ2_init 59 = .ok (.athrow, 1) := dk_191 (dk_at dksJ2_init_2 13 rfl rfl)
theorem dJ2_init_60 : decode cJ2_init 60 = .ok (.return_, 1) := dk_177 (dk_at dksJ2_init_2 14 rfl rfl)
abbrev cJ2_size : ByteArray := prog_57_method_8_code
def yJ2_size : MethodName := ⟨RJ2, "size", "()I"⟩
theorem dJ2_size_0 : decode cJ2_size 0 = .ok (.aload_n 0, 1) := by decide +kernel
theorem dJ2_size_1 : decode cJ2_size 1 = .ok (.getfield 48, 3) := by decide +kernel
theorem dJ2_size_4 : decode cJ2_size 4 = .ok (.ireturn, 1) := by decide +kernel
abbrev cJ2_get : ByteArray := prog_57_method_20_code
def yJ2_get : MethodName := ⟨RJ2, "get", "(I)Ljava/lang/Object;"⟩
def dkwJ2_get_0 : List UInt8 := [27, 42, 180, 0, 48, 184, 0, 118, 87, 42, 27, 182, 0, 123, 176]
abbrev dktJ2_get_0 : List UInt8 := dkwJ2_get_0 ++ []
theorem dksJ2_get_0 : cJ2_get.data.toList.drop 0 = dktJ2_get_0 := by decide +kernel
theorem dJ2_get_0 : decode cJ2_get 0 = .ok (.iload_n 1, 1) := dk_27 (dk_at dksJ2_get_0 0 rfl rfl)
theorem dJ2_get_1 : decode cJ2_get 1 = .ok (.aload_n 0, 1) := dk_42 (dk_at dksJ2_get_0 1 rfl rfl)
theorem dJ2_get_2 : decode cJ2_get 2 = .ok (.getfield 48, 3) := dk_180 0 48 (dk_at dksJ2_get_0 2 rfl rfl)
theorem dJ2_get_5 : decode cJ2_get 5 = .ok (.invokestatic 118, 3) := dk_184 0 118 (dk_at dksJ2_get_0 5 rfl rfl)
theorem dJ2_get_8 : decode cJ2_get 8 = .ok (.pop, 1) := dk_87 (dk_at dksJ2_get_0 8 rfl rfl)
theorem dJ2_get_9 : decode cJ2_get 9 = .ok (.aload_n 0, 1) := dk_42 (dk_at dksJ2_get_0 9 rfl rfl)
theorem dJ2_get_10 : decode cJ2_get 10 = .ok (.iload_n 1, 1) := dk_27 (dk_at dksJ2_get_0 10 rfl rfl)
theorem dJ2_get_11 : decode cJ2_get 11 = .ok (.invokevirtual 123, 3) := dk_182 0 123 (dk_at dksJ2_get_0 11 rfl rfl)
theorem dJ2_get_14 : decode cJ2_get 14 = .ok (.areturn, 1) := dk_176 (dk_at dksJ2_get_0 14 rfl rfl)
abbrev cJ2_elementData : ByteArray := prog_57_method_18_code
def yJ2_elementData : MethodName := ⟨RJ2, "elementData", "(I)Ljava/lang/Object;"⟩
def dkwJ2_elementData_0 : List UInt8 := [42, 180, 0, 9, 27, 50, 176]
abbrev dktJ2_elementData_0 : List UInt8 := dkwJ2_elementData_0 ++ []
theorem dksJ2_elementData_0 : cJ2_elementData.data.toList.drop 0 = dktJ2_elementData_0 := by decide +kernel
theorem dJ2_elementData_0 : decode cJ2_elementData 0 = .ok (.aload_n 0, 1) := dk_42 (dk_at dksJ2_elementData_0 0 rfl rfl)
theorem dJ2_elementData_1 : decode cJ2_elementData 1 = .ok (.getfield 9, 3) := dk_180 0 9 (dk_at dksJ2_elementData_0 1 rfl rfl)
theorem dJ2_elementData_4 : decode cJ2_elementData 4 = .ok (.iload_n 1, 1) := dk_27 (dk_at dksJ2_elementData_0 4 rfl rfl)
theorem dJ2_elementData_5 : decode cJ2_elementData 5 = .ok (.aaload, 1) := dk_50 (dk_at dksJ2_elementData_0 5 rfl rfl)
theorem dJ2_elementData_6 : decode cJ2_elementData 6 = .ok (.areturn, 1) := dk_176 (dk_at dksJ2_elementData_0 6 rfl rfl)
abbrev cJ2_init_2 : ByteArray := prog_57_method_2_code
def yJ2_init_2 : MethodName := ⟨RJ2, "<init>", "()V"⟩
def dkwJ2_init_2_0 : List UInt8 := [42, 183, 0, 1, 42, 178, 0, 39, 181, 0, 9, 177]
abbrev dktJ2_init_2_0 : List UInt8 := dkwJ2_init_2_0 ++ []
theorem dksJ2_init_2_0 : cJ2_init_2.data.toList.drop 0 = dktJ2_init_2_0 := by decide +kernel
theorem dJ2_init_2_0 : decode cJ2_init_2 0 = .ok (.aload_n 0, 1) := dk_42 (dk_at dksJ2_init_2_0 0 rfl rfl)
theorem dJ2_init_2_1 : decode cJ2_init_2 1 = .ok (.invokespecial 1, 3) := dk_183 0 1 (dk_at dksJ2_init_2_0 1 rfl rfl)
theorem dJ2_init_2_4 : decode cJ2_init_2 4 = .ok (.aload_n 0, 1) := dk_42 (dk_at dksJ2_init_2_0 4 rfl rfl)
theorem dJ2_init_2_5 : decode cJ2_init_2 5 = .ok (.getstatic 39, 3) := dk_178 0 39 (dk_at dksJ2_init_2_0 5 rfl rfl)
theorem dJ2_init_2_8 : decode cJ2_init_2 8 = .ok (.putfield 9, 3) := dk_181 0 9 (dk_at dksJ2_init_2_0 8 rfl rfl)
theorem dJ2_init_2_11 : decode cJ2_init_2 11 = .ok (.return_, 1) := dk_177 (dk_at dksJ2_init_2_0 11 rfl rfl)
abbrev cJ2_add : ByteArray := prog_57_method_25_code
def yJ2_add : MethodName := ⟨RJ2, "add", "(Ljava/lang/Object;)Z"⟩
def dkwJ2_add_1 : List UInt8 := [172]
abbrev dktJ2_add_1 : List UInt8 := dkwJ2_add_1 ++ []
def dkwJ2_add_0 : List UInt8 := [42, 89, 180, 0, 63, 4, 96, 181, 0, 63, 42, 43, 42, 180, 0, 9, 42, 180, 0, 48, 182, 0, 131, 4]
abbrev dktJ2_add_0 : List UInt8 := dkwJ2_add_0 ++ dktJ2_add_1
theorem dksJ2_add_0 : cJ2_add.data.toList.drop 0 = dktJ2_add_0 := by decide +kernel
theorem dksJ2_add_1 : cJ2_add.data.toList.drop 24 = dktJ2_add_1 := dk_seg dksJ2_add_0 24 rfl rfl
theorem dJ2_add_0 : decode cJ2_add 0 = .ok (.aload_n 0, 1) := dk_42 (dk_at dksJ2_add_0 0 rfl rfl)
theorem dJ2_add_1 : decode cJ2_add 1 = .ok (.dup, 1) := dk_89 (dk_at dksJ2_add_0 1 rfl rfl)
theorem dJ2_add_2 : decode cJ2_add 2 = .ok (.getfield 63, 3) := dk_180 0 63 (dk_at dksJ2_add_0 2 rfl rfl)
theorem dJ2_add_5 : decode cJ2_add 5 = .ok (.iconst 1, 1) := dk_4 (dk_at dksJ2_add_0 5 rfl rfl)
theorem dJ2_add_6 : decode cJ2_add 6 = .ok (.iadd, 1) := dk_96 (dk_at dksJ2_add_0 6 rfl rfl)
theorem dJ2_add_7 : decode cJ2_add 7 = .ok (.putfield 63, 3) := dk_181 0 63 (dk_at dksJ2_add_0 7 rfl rfl)
theorem dJ2_add_10 : decode cJ2_add 10 = .ok (.aload_n 0, 1) := dk_42 (dk_at dksJ2_add_0 10 rfl rfl)
theorem dJ2_add_11 : decode cJ2_add 11 = .ok (.aload_n 1, 1) := dk_43 (dk_at dksJ2_add_0 11 rfl rfl)
theorem dJ2_add_12 : decode cJ2_add 12 = .ok (.aload_n 0, 1) := dk_42 (dk_at dksJ2_add_0 12 rfl rfl)
theorem dJ2_add_13 : decode cJ2_add 13 = .ok (.getfield 9, 3) := dk_180 0 9 (dk_at dksJ2_add_0 13 rfl rfl)
theorem dJ2_add_16 : decode cJ2_add 16 = .ok (.aload_n 0, 1) := dk_42 (dk_at dksJ2_add_0 16 rfl rfl)
theorem dJ2_add_17 : decode cJ2_add 17 = .ok (.getfield 48, 3) := dk_180 0 48 (dk_at dksJ2_add_0 17 rfl rfl)
theorem dJ2_add_20 : decode cJ2_add 20 = .ok (.invokevirtual 131, 3) := dk_182 0 131 (dk_at dksJ2_add_0 20 rfl rfl)
theorem dJ2_add_23 : decode cJ2_add 23 = .ok (.iconst 1, 1) := dk_4 (dk_at dksJ2_add_0 23 rfl rfl)
theorem dJ2_add_24 : decode cJ2_add 24 = .ok (.ireturn, 1) := dk_172 (dk_at dksJ2_add_1 0 rfl rfl)
abbrev cJ2_add_2 : ByteArray := prog_57_method_24_code
def yJ2_add_2 : MethodName := ⟨RJ2, "add", "(Ljava/lang/Object;[Ljava/lang/Object;I)V"⟩
def dkwJ2_add_2_0 : List UInt8 := [29, 44, 190, 160, 0, 8, 42, 182, 0, 129, 77, 44, 29, 43, 83, 42, 29, 4, 96, 181, 0, 48, 177]
abbrev dktJ2_add_2_0 : List UInt8 := dkwJ2_add_2_0 ++ []
theorem dksJ2_add_2_0 : cJ2_add_2.data.toList.drop 0 = dktJ2_add_2_0 := by decide +kernel
theorem dJ2_add_2_0 : decode cJ2_add_2 0 = .ok (.iload_n 3, 1) := dk_29 (dk_at dksJ2_add_2_0 0 rfl rfl)
theorem dJ2_add_2_1 : decode cJ2_add_2 1 = .ok (.aload_n 2, 1) := dk_44 (dk_at dksJ2_add_2_0 1 rfl rfl)
theorem dJ2_add_2_2 : decode cJ2_add_2 2 = .ok (.arraylength, 1) := dk_190 (dk_at dksJ2_add_2_0 2 rfl rfl)
theorem dJ2_add_2_3 : decode cJ2_add_2 3 = .ok (.if_icmp .ne 8, 3) := dk_160 0 8 (dk_at dksJ2_add_2_0 3 rfl rfl)
theorem dJ2_add_2_6 : decode cJ2_add_2 6 = .ok (.aload_n 0, 1) := dk_42 (dk_at dksJ2_add_2_0 6 rfl rfl)
theorem dJ2_add_2_7 : decode cJ2_add_2 7 = .ok (.invokevirtual 129, 3) := dk_182 0 129 (dk_at dksJ2_add_2_0 7 rfl rfl)
theorem dJ2_add_2_10 : decode cJ2_add_2 10 = .ok (.astore_n 2, 1) := dk_77 (dk_at dksJ2_add_2_0 10 rfl rfl)
theorem dJ2_add_2_11 : decode cJ2_add_2 11 = .ok (.aload_n 2, 1) := dk_44 (dk_at dksJ2_add_2_0 11 rfl rfl)
theorem dJ2_add_2_12 : decode cJ2_add_2 12 = .ok (.iload_n 3, 1) := dk_29 (dk_at dksJ2_add_2_0 12 rfl rfl)
theorem dJ2_add_2_13 : decode cJ2_add_2 13 = .ok (.aload_n 1, 1) := dk_43 (dk_at dksJ2_add_2_0 13 rfl rfl)
theorem dJ2_add_2_14 : decode cJ2_add_2 14 = .ok (.aastore, 1) := dk_83 (dk_at dksJ2_add_2_0 14 rfl rfl)
theorem dJ2_add_2_15 : decode cJ2_add_2 15 = .ok (.aload_n 0, 1) := dk_42 (dk_at dksJ2_add_2_0 15 rfl rfl)
theorem dJ2_add_2_16 : decode cJ2_add_2 16 = .ok (.iload_n 3, 1) := dk_29 (dk_at dksJ2_add_2_0 16 rfl rfl)
theorem dJ2_add_2_17 : decode cJ2_add_2 17 = .ok (.iconst 1, 1) := dk_4 (dk_at dksJ2_add_2_0 17 rfl rfl)
theorem dJ2_add_2_18 : decode cJ2_add_2 18 = .ok (.iadd, 1) := dk_96 (dk_at dksJ2_add_2_0 18 rfl rfl)
theorem dJ2_add_2_19 : decode cJ2_add_2 19 = .ok (.putfield 48, 3) := dk_181 0 48 (dk_at dksJ2_add_2_0 19 rfl rfl)
theorem dJ2_add_2_22 : decode cJ2_add_2 22 = .ok (.return_, 1) := dk_177 (dk_at dksJ2_add_2_0 22 rfl rfl)
abbrev cJ2_grow : ByteArray := prog_57_method_7_code
def yJ2_grow : MethodName := ⟨RJ2, "grow", "()[Ljava/lang/Object;"⟩
def dkwJ2_grow_0 : List UInt8 := [42, 42, 180, 0, 48, 4, 96, 182, 0, 69, 176]
abbrev dktJ2_grow_0 : List UInt8 := dkwJ2_grow_0 ++ []
theorem dksJ2_grow_0 : cJ2_grow.data.toList.drop 0 = dktJ2_grow_0 := by decide +kernel
theorem dJ2_grow_0 : decode cJ2_grow 0 = .ok (.aload_n 0, 1) := dk_42 (dk_at dksJ2_grow_0 0 rfl rfl)
theorem dJ2_grow_1 : decode cJ2_grow 1 = .ok (.aload_n 0, 1) := dk_42 (dk_at dksJ2_grow_0 1 rfl rfl)
theorem dJ2_grow_2 : decode cJ2_grow 2 = .ok (.getfield 48, 3) := dk_180 0 48 (dk_at dksJ2_grow_0 2 rfl rfl)
theorem dJ2_grow_5 : decode cJ2_grow 5 = .ok (.iconst 1, 1) := dk_4 (dk_at dksJ2_grow_0 5 rfl rfl)
theorem dJ2_grow_6 : decode cJ2_grow 6 = .ok (.iadd, 1) := dk_96 (dk_at dksJ2_grow_0 6 rfl rfl)
theorem dJ2_grow_7 : decode cJ2_grow 7 = .ok (.invokevirtual 69, 3) := dk_182 0 69 (dk_at dksJ2_grow_0 7 rfl rfl)
theorem dJ2_grow_10 : decode cJ2_grow 10 = .ok (.areturn, 1) := dk_176 (dk_at dksJ2_grow_0 10 rfl rfl)
abbrev cJ2_grow_2 : ByteArray := prog_57_method_6_code
def yJ2_grow_2 : MethodName := ⟨RJ2, "grow", "(I)[Ljava/lang/Object;"⟩
def dkwJ2_grow_2_2 : List UInt8 := [27, 184, 0, 79, 189, 0, 7, 90, 181, 0, 9, 176]
abbrev dktJ2_grow_2_2 : List UInt8 := dkwJ2_grow_2_2 ++ []
def dkwJ2_grow_2_1 : List UInt8 := [28, 4, 122, 184, 0, 73, 62, 42, 42, 180, 0, 9, 29, 184, 0, 66, 90, 181, 0, 9, 176, 42, 16, 10]
abbrev dktJ2_grow_2_1 : List UInt8 := dkwJ2_grow_2_1 ++ dktJ2_grow_2_2
def dkwJ2_grow_2_0 : List UInt8 := [42, 180, 0, 9, 190, 61, 28, 157, 0, 13, 42, 180, 0, 9, 178, 0, 39, 165, 0, 28, 28, 27, 28, 100]
abbrev dktJ2_grow_2_0 : List UInt8 := dkwJ2_grow_2_0 ++ dktJ2_grow_2_1
theorem dksJ2_grow_2_0 : cJ2_grow_2.data.toList.drop 0 = dktJ2_grow_2_0 := by decide +kernel
theorem dksJ2_grow_2_1 : cJ2_grow_2.data.toList.drop 24 = dktJ2_grow_2_1 := dk_seg dksJ2_grow_2_0 24 rfl rfl
theorem dksJ2_grow_2_2 : cJ2_grow_2.data.toList.drop 48 = dktJ2_grow_2_2 := dk_seg dksJ2_grow_2_1 24 rfl rfl
theorem dJ2_grow_2_0 : decode cJ2_grow_2 0 = .ok (.aload_n 0, 1) := dk_42 (dk_at dksJ2_grow_2_0 0 rfl rfl)
theorem dJ2_grow_2_1 : decode cJ2_grow_2 1 = .ok (.getfield 9, 3) := dk_180 0 9 (dk_at dksJ2_grow_2_0 1 rfl rfl)
theorem dJ2_grow_2_4 : decode cJ2_grow_2 4 = .ok (.arraylength, 1) := dk_190 (dk_at dksJ2_grow_2_0 4 rfl rfl)
theorem dJ2_grow_2_5 : decode cJ2_grow_2 5 = .ok (.istore_n 2, 1) := dk_61 (dk_at dksJ2_grow_2_0 5 rfl rfl)
theorem dJ2_grow_2_6 : decode cJ2_grow_2 6 = .ok (.iload_n 2, 1) := dk_28 (dk_at dksJ2_grow_2_0 6 rfl rfl)
theorem dJ2_grow_2_7 : decode cJ2_grow_2 7 = .ok (.ifCond .gt 13, 3) := dk_157 0 13 (dk_at dksJ2_grow_2_0 7 rfl rfl)
theorem dJ2_grow_2_10 : decode cJ2_grow_2 10 = .ok (.aload_n 0, 1) := dk_42 (dk_at dksJ2_grow_2_0 10 rfl rfl)
theorem dJ2_grow_2_11 : decode cJ2_grow_2 11 = .ok (.getfield 9, 3) := dk_180 0 9 (dk_at dksJ2_grow_2_0 11 rfl rfl)
theorem dJ2_grow_2_14 : decode cJ2_grow_2 14 = .ok (.getstatic 39, 3) := dk_178 0 39 (dk_at dksJ2_grow_2_0 14 rfl rfl)
theorem dJ2_grow_2_17 : decode cJ2_grow_2 17 = .ok (.if_acmp .eq 28, 3) := dk_165 0 28 (dk_at dksJ2_grow_2_0 17 rfl rfl)
theorem dJ2_grow_2_20 : decode cJ2_grow_2 20 = .ok (.iload_n 2, 1) := dk_28 (dk_at dksJ2_grow_2_0 20 rfl rfl)
theorem dJ2_grow_2_21 : decode cJ2_grow_2 21 = .ok (.iload_n 1, 1) := dk_27 (dk_at dksJ2_grow_2_0 21 rfl rfl)
theorem dJ2_grow_2_22 : decode cJ2_grow_2 22 = .ok (.iload_n 2, 1) := dk_28 (dk_at dksJ2_grow_2_0 22 rfl rfl)
theorem dJ2_grow_2_23 : decode cJ2_grow_2 23 = .ok (.isub, 1) := dk_100 (dk_at dksJ2_grow_2_0 23 rfl rfl)
theorem dJ2_grow_2_24 : decode cJ2_grow_2 24 = .ok (.iload_n 2, 1) := dk_28 (dk_at dksJ2_grow_2_1 0 rfl rfl)
theorem dJ2_grow_2_25 : decode cJ2_grow_2 25 = .ok (.iconst 1, 1) := dk_4 (dk_at dksJ2_grow_2_1 1 rfl rfl)
theorem dJ2_grow_2_26 : decode cJ2_grow_2 26 = .ok (.ishr, 1) := dk_122 (dk_at dksJ2_grow_2_1 2 rfl rfl)
theorem dJ2_grow_2_27 : decode cJ2_grow_2 27 = .ok (.invokestatic 73, 3) := dk_184 0 73 (dk_at dksJ2_grow_2_1 3 rfl rfl)
theorem dJ2_grow_2_30 : decode cJ2_grow_2 30 = .ok (.istore_n 3, 1) := dk_62 (dk_at dksJ2_grow_2_1 6 rfl rfl)
theorem dJ2_grow_2_31 : decode cJ2_grow_2 31 = .ok (.aload_n 0, 1) := dk_42 (dk_at dksJ2_grow_2_1 7 rfl rfl)
theorem dJ2_grow_2_32 : decode cJ2_grow_2 32 = .ok (.aload_n 0, 1) := dk_42 (dk_at dksJ2_grow_2_1 8 rfl rfl)
theorem dJ2_grow_2_33 : decode cJ2_grow_2 33 = .ok (.getfield 9, 3) := dk_180 0 9 (dk_at dksJ2_grow_2_1 9 rfl rfl)
theorem dJ2_grow_2_36 : decode cJ2_grow_2 36 = .ok (.iload_n 3, 1) := dk_29 (dk_at dksJ2_grow_2_1 12 rfl rfl)
theorem dJ2_grow_2_37 : decode cJ2_grow_2 37 = .ok (.invokestatic 66, 3) := dk_184 0 66 (dk_at dksJ2_grow_2_1 13 rfl rfl)
theorem dJ2_grow_2_40 : decode cJ2_grow_2 40 = .ok (.dup_x1, 1) := dk_90 (dk_at dksJ2_grow_2_1 16 rfl rfl)
theorem dJ2_grow_2_41 : decode cJ2_grow_2 41 = .ok (.putfield 9, 3) := dk_181 0 9 (dk_at dksJ2_grow_2_1 17 rfl rfl)
theorem dJ2_grow_2_44 : decode cJ2_grow_2 44 = .ok (.areturn, 1) := dk_176 (dk_at dksJ2_grow_2_1 20 rfl rfl)
theorem dJ2_grow_2_45 : decode cJ2_grow_2 45 = .ok (.aload_n 0, 1) := dk_42 (dk_at dksJ2_grow_2_1 21 rfl rfl)
theorem dJ2_grow_2_46 : decode cJ2_grow_2 46 = .ok (.bipush 10, 2) := dk_16 10 (dk_at dksJ2_grow_2_1 22 rfl rfl)
theorem dJ2_grow_2_48 : decode cJ2_grow_2 48 = .ok (.iload_n 1, 1) := dk_27 (dk_at dksJ2_grow_2_2 0 rfl rfl)
theorem dJ2_grow_2_49 : decode cJ2_grow_2 49 = .ok (.invokestatic 79, 3) := dk_184 0 79 (dk_at dksJ2_grow_2_2 1 rfl rfl)
theorem dJ2_grow_2_52 : decode cJ2_grow_2 52 = .ok (.anewarray 7, 3) := dk_189 0 7 (dk_at dksJ2_grow_2_2 4 rfl rfl)
theorem dJ2_grow_2_55 : decode cJ2_grow_2 55 = .ok (.dup_x1, 1) := dk_90 (dk_at dksJ2_grow_2_2 7 rfl rfl)
theorem dJ2_grow_2_56 : decode cJ2_grow_2 56 = .ok (.putfield 9, 3) := dk_181 0 9 (dk_at dksJ2_grow_2_2 8 rfl rfl)
theorem dJ2_grow_2_59 : decode cJ2_grow_2 59 = .ok (.areturn, 1) := dk_176 (dk_at dksJ2_grow_2_2 11 rfl rfl)
abbrev cJ2_clear : ByteArray := prog_57_method_40_code
def yJ2_clear : MethodName := ⟨RJ2, "clear", "()V"⟩
def dkwJ2_clear_1 : List UInt8 := [181, 0, 48, 62, 29, 28, 162, 0, 13, 43, 29, 1, 83, 132, 3, 1, 167, 255, 244, 177]
abbrev dktJ2_clear_1 : List UInt8 := dkwJ2_clear_1 ++ []
def dkwJ2_clear_0 : List UInt8 := [42, 89, 180, 0, 63, 4, 96, 181, 0, 63, 42, 180, 0, 9, 76, 42, 180, 0, 48, 61, 42, 3, 90]
abbrev dktJ2_clear_0 : List UInt8 := dkwJ2_clear_0 ++ dktJ2_clear_1
theorem dksJ2_clear_0 : cJ2_clear.data.toList.drop 0 = dktJ2_clear_0 := by decide +kernel
theorem dksJ2_clear_1 : cJ2_clear.data.toList.drop 23 = dktJ2_clear_1 := dk_seg dksJ2_clear_0 23 rfl rfl
theorem dJ2_clear_0 : decode cJ2_clear 0 = .ok (.aload_n 0, 1) := dk_42 (dk_at dksJ2_clear_0 0 rfl rfl)
theorem dJ2_clear_1 : decode cJ2_clear 1 = .ok (.dup, 1) := dk_89 (dk_at dksJ2_clear_0 1 rfl rfl)
theorem dJ2_clear_2 : decode cJ2_clear 2 = .ok (.getfield 63, 3) := dk_180 0 63 (dk_at dksJ2_clear_0 2 rfl rfl)
theorem dJ2_clear_5 : decode cJ2_clear 5 = .ok (.iconst 1, 1) := dk_4 (dk_at dksJ2_clear_0 5 rfl rfl)
theorem dJ2_clear_6 : decode cJ2_clear 6 = .ok (.iadd, 1) := dk_96 (dk_at dksJ2_clear_0 6 rfl rfl)
theorem dJ2_clear_7 : decode cJ2_clear 7 = .ok (.putfield 63, 3) := dk_181 0 63 (dk_at dksJ2_clear_0 7 rfl rfl)
theorem dJ2_clear_10 : decode cJ2_clear 10 = .ok (.aload_n 0, 1) := dk_42 (dk_at dksJ2_clear_0 10 rfl rfl)
theorem dJ2_clear_11 : decode cJ2_clear 11 = .ok (.getfield 9, 3) := dk_180 0 9 (dk_at dksJ2_clear_0 11 rfl rfl)
theorem dJ2_clear_14 : decode cJ2_clear 14 = .ok (.astore_n 1, 1) := dk_76 (dk_at dksJ2_clear_0 14 rfl rfl)
theorem dJ2_clear_15 : decode cJ2_clear 15 = .ok (.aload_n 0, 1) := dk_42 (dk_at dksJ2_clear_0 15 rfl rfl)
theorem dJ2_clear_16 : decode cJ2_clear 16 = .ok (.getfield 48, 3) := dk_180 0 48 (dk_at dksJ2_clear_0 16 rfl rfl)
theorem dJ2_clear_19 : decode cJ2_clear 19 = .ok (.istore_n 2, 1) := dk_61 (dk_at dksJ2_clear_0 19 rfl rfl)
theorem dJ2_clear_20 : decode cJ2_clear 20 = .ok (.aload_n 0, 1) := dk_42 (dk_at dksJ2_clear_0 20 rfl rfl)
theorem dJ2_clear_21 : decode cJ2_clear 21 = .ok (.iconst 0, 1) := dk_3 (dk_at dksJ2_clear_0 21 rfl rfl)
theorem dJ2_clear_22 : decode cJ2_clear 22 = .ok (.dup_x1, 1) := dk_90 (dk_at dksJ2_clear_0 22 rfl rfl)
theorem dJ2_clear_23 : decode cJ2_clear 23 = .ok (.putfield 48, 3) := dk_181 0 48 (dk_at dksJ2_clear_1 0 rfl rfl)
theorem dJ2_clear_26 : decode cJ2_clear 26 = .ok (.istore_n 3, 1) := dk_62 (dk_at dksJ2_clear_1 3 rfl rfl)
theorem dJ2_clear_27 : decode cJ2_clear 27 = .ok (.iload_n 3, 1) := dk_29 (dk_at dksJ2_clear_1 4 rfl rfl)
theorem dJ2_clear_28 : decode cJ2_clear 28 = .ok (.iload_n 2, 1) := dk_28 (dk_at dksJ2_clear_1 5 rfl rfl)
theorem dJ2_clear_29 : decode cJ2_clear 29 = .ok (.if_icmp .ge 13, 3) := dk_162 0 13 (dk_at dksJ2_clear_1 6 rfl rfl)
theorem dJ2_clear_32 : decode cJ2_clear 32 = .ok (.aload_n 1, 1) := dk_43 (dk_at dksJ2_clear_1 9 rfl rfl)
theorem dJ2_clear_33 : decode cJ2_clear 33 = .ok (.iload_n 3, 1) := dk_29 (dk_at dksJ2_clear_1 10 rfl rfl)
theorem dJ2_clear_34 : decode cJ2_clear 34 = .ok (.aconst_null, 1) := dk_1 (dk_at dksJ2_clear_1 11 rfl rfl)
theorem dJ2_clear_35 : decode cJ2_clear 35 = .ok (.aastore, 1) := dk_83 (dk_at dksJ2_clear_1 12 rfl rfl)
theorem dJ2_clear_36 : decode cJ2_clear 36 = .ok (.iinc 3 1, 3) := dk_132 3 1 (dk_at dksJ2_clear_1 13 rfl rfl)
theorem dJ2_clear_39 : decode cJ2_clear 39 = .ok (.goto (-12), 3) := dk_167 255 244 (dk_at dksJ2_clear_1 16 rfl rfl)
theorem dJ2_clear_42 : decode cJ2_clear 42 = .ok (.return_, 1) := dk_177 (dk_at dksJ2_clear_1 19 rfl rfl)
abbrev cJ2_remove : ByteArray := prog_57_method_29_code
def yJ2_remove : MethodName := ⟨RJ2, "remove", "(I)Ljava/lang/Object;"⟩
def dkwJ2_remove_1 : List UInt8 := [45, 176]
abbrev dktJ2_remove_1 : List UInt8 := dkwJ2_remove_1 ++ []
def dkwJ2_remove_0 : List UInt8 := [27, 42, 180, 0, 48, 184, 0, 118, 87, 42, 180, 0, 9, 77, 44, 27, 50, 78, 42, 44, 27, 182, 0, 144]
abbrev dktJ2_remove_0 : List UInt8 := dkwJ2_remove_0 ++ dktJ2_remove_1
theorem dksJ2_remove_0 : cJ2_remove.data.toList.drop 0 = dktJ2_remove_0 := by decide +kernel
theorem dksJ2_remove_1 : cJ2_remove.data.toList.drop 24 = dktJ2_remove_1 := dk_seg dksJ2_remove_0 24 rfl rfl
theorem dJ2_remove_0 : decode cJ2_remove 0 = .ok (.iload_n 1, 1) := dk_27 (dk_at dksJ2_remove_0 0 rfl rfl)
theorem dJ2_remove_1 : decode cJ2_remove 1 = .ok (.aload_n 0, 1) := dk_42 (dk_at dksJ2_remove_0 1 rfl rfl)
theorem dJ2_remove_2 : decode cJ2_remove 2 = .ok (.getfield 48, 3) := dk_180 0 48 (dk_at dksJ2_remove_0 2 rfl rfl)
theorem dJ2_remove_5 : decode cJ2_remove 5 = .ok (.invokestatic 118, 3) := dk_184 0 118 (dk_at dksJ2_remove_0 5 rfl rfl)
theorem dJ2_remove_8 : decode cJ2_remove 8 = .ok (.pop, 1) := dk_87 (dk_at dksJ2_remove_0 8 rfl rfl)
theorem dJ2_remove_9 : decode cJ2_remove 9 = .ok (.aload_n 0, 1) := dk_42 (dk_at dksJ2_remove_0 9 rfl rfl)
theorem dJ2_remove_10 : decode cJ2_remove 10 = .ok (.getfield 9, 3) := dk_180 0 9 (dk_at dksJ2_remove_0 10 rfl rfl)
theorem dJ2_remove_13 : decode cJ2_remove 13 = .ok (.astore_n 2, 1) := dk_77 (dk_at dksJ2_remove_0 13 rfl rfl)
theorem dJ2_remove_14 : decode cJ2_remove 14 = .ok (.aload_n 2, 1) := dk_44 (dk_at dksJ2_remove_0 14 rfl rfl)
theorem dJ2_remove_15 : decode cJ2_remove 15 = .ok (.iload_n 1, 1) := dk_27 (dk_at dksJ2_remove_0 15 rfl rfl)
theorem dJ2_remove_16 : decode cJ2_remove 16 = .ok (.aaload, 1) := dk_50 (dk_at dksJ2_remove_0 16 rfl rfl)
theorem dJ2_remove_17 : decode cJ2_remove 17 = .ok (.astore_n 3, 1) := dk_78 (dk_at dksJ2_remove_0 17 rfl rfl)
theorem dJ2_remove_18 : decode cJ2_remove 18 = .ok (.aload_n 0, 1) := dk_42 (dk_at dksJ2_remove_0 18 rfl rfl)
theorem dJ2_remove_19 : decode cJ2_remove 19 = .ok (.aload_n 2, 1) := dk_44 (dk_at dksJ2_remove_0 19 rfl rfl)
theorem dJ2_remove_20 : decode cJ2_remove 20 = .ok (.iload_n 1, 1) := dk_27 (dk_at dksJ2_remove_0 20 rfl rfl)
theorem dJ2_remove_21 : decode cJ2_remove 21 = .ok (.invokevirtual 144, 3) := dk_182 0 144 (dk_at dksJ2_remove_0 21 rfl rfl)
theorem dJ2_remove_24 : decode cJ2_remove 24 = .ok (.aload_n 3, 1) := dk_45 (dk_at dksJ2_remove_1 0 rfl rfl)
theorem dJ2_remove_25 : decode cJ2_remove 25 = .ok (.areturn, 1) := dk_176 (dk_at dksJ2_remove_1 1 rfl rfl)
abbrev cJ2_fastRemove : ByteArray := prog_57_method_39_code
def yJ2_fastRemove : MethodName := ⟨RJ2, "fastRemove", "([Ljava/lang/Object;I)V"⟩
def dkwJ2_fastRemove_1 : List UInt8 := [4, 96, 43, 28, 29, 28, 100, 184, 0, 112, 43, 42, 29, 90, 181, 0, 48, 1, 83, 177]
abbrev dktJ2_fastRemove_1 : List UInt8 := dkwJ2_fastRemove_1 ++ []
def dkwJ2_fastRemove_0 : List UInt8 := [42, 89, 180, 0, 63, 4, 96, 181, 0, 63, 42, 180, 0, 48, 4, 100, 89, 62, 28, 164, 0, 15, 43, 28]
abbrev dktJ2_fastRemove_0 : List UInt8 := dkwJ2_fastRemove_0 ++ dktJ2_fastRemove_1
theorem dksJ2_fastRemove_0 : cJ2_fastRemove.data.toList.drop 0 = dktJ2_fastRemove_0 := by decide +kernel
theorem dksJ2_fastRemove_1 : cJ2_fastRemove.data.toList.drop 24 = dktJ2_fastRemove_1 := dk_seg dksJ2_fastRemove_0 24 rfl rfl
theorem dJ2_fastRemove_0 : decode cJ2_fastRemove 0 = .ok (.aload_n 0, 1) := dk_42 (dk_at dksJ2_fastRemove_0 0 rfl rfl)
theorem dJ2_fastRemove_1 : decode cJ2_fastRemove 1 = .ok (.dup, 1) := dk_89 (dk_at dksJ2_fastRemove_0 1 rfl rfl)
theorem dJ2_fastRemove_2 : decode cJ2_fastRemove 2 = .ok (.getfield 63, 3) := dk_180 0 63 (dk_at dksJ2_fastRemove_0 2 rfl rfl)
theorem dJ2_fastRemove_5 : decode cJ2_fastRemove 5 = .ok (.iconst 1, 1) := dk_4 (dk_at dksJ2_fastRemove_0 5 rfl rfl)
theorem dJ2_fastRemove_6 : decode cJ2_fastRemove 6 = .ok (.iadd, 1) := dk_96 (dk_at dksJ2_fastRemove_0 6 rfl rfl)
theorem dJ2_fastRemove_7 : decode cJ2_fastRemove 7 = .ok (.putfield 63, 3) := dk_181 0 63 (dk_at dksJ2_fastRemove_0 7 rfl rfl)
theorem dJ2_fastRemove_10 : decode cJ2_fastRemove 10 = .ok (.aload_n 0, 1) := dk_42 (dk_at dksJ2_fastRemove_0 10 rfl rfl)
theorem dJ2_fastRemove_11 : decode cJ2_fastRemove 11 = .ok (.getfield 48, 3) := dk_180 0 48 (dk_at dksJ2_fastRemove_0 11 rfl rfl)
theorem dJ2_fastRemove_14 : decode cJ2_fastRemove 14 = .ok (.iconst 1, 1) := dk_4 (dk_at dksJ2_fastRemove_0 14 rfl rfl)
theorem dJ2_fastRemove_15 : decode cJ2_fastRemove 15 = .ok (.isub, 1) := dk_100 (dk_at dksJ2_fastRemove_0 15 rfl rfl)
theorem dJ2_fastRemove_16 : decode cJ2_fastRemove 16 = .ok (.dup, 1) := dk_89 (dk_at dksJ2_fastRemove_0 16 rfl rfl)
theorem dJ2_fastRemove_17 : decode cJ2_fastRemove 17 = .ok (.istore_n 3, 1) := dk_62 (dk_at dksJ2_fastRemove_0 17 rfl rfl)
theorem dJ2_fastRemove_18 : decode cJ2_fastRemove 18 = .ok (.iload_n 2, 1) := dk_28 (dk_at dksJ2_fastRemove_0 18 rfl rfl)
theorem dJ2_fastRemove_19 : decode cJ2_fastRemove 19 = .ok (.if_icmp .le 15, 3) := dk_164 0 15 (dk_at dksJ2_fastRemove_0 19 rfl rfl)
theorem dJ2_fastRemove_22 : decode cJ2_fastRemove 22 = .ok (.aload_n 1, 1) := dk_43 (dk_at dksJ2_fastRemove_0 22 rfl rfl)
theorem dJ2_fastRemove_23 : decode cJ2_fastRemove 23 = .ok (.iload_n 2, 1) := dk_28 (dk_at dksJ2_fastRemove_0 23 rfl rfl)
theorem dJ2_fastRemove_24 : decode cJ2_fastRemove 24 = .ok (.iconst 1, 1) := dk_4 (dk_at dksJ2_fastRemove_1 0 rfl rfl)
theorem dJ2_fastRemove_25 : decode cJ2_fastRemove 25 = .ok (.iadd, 1) := dk_96 (dk_at dksJ2_fastRemove_1 1 rfl rfl)
theorem dJ2_fastRemove_26 : decode cJ2_fastRemove 26 = .ok (.aload_n 1, 1) := dk_43 (dk_at dksJ2_fastRemove_1 2 rfl rfl)
theorem dJ2_fastRemove_27 : decode cJ2_fastRemove 27 = .ok (.iload_n 2, 1) := dk_28 (dk_at dksJ2_fastRemove_1 3 rfl rfl)
theorem dJ2_fastRemove_28 : decode cJ2_fastRemove 28 = .ok (.iload_n 3, 1) := dk_29 (dk_at dksJ2_fastRemove_1 4 rfl rfl)
theorem dJ2_fastRemove_29 : decode cJ2_fastRemove 29 = .ok (.iload_n 2, 1) := dk_28 (dk_at dksJ2_fastRemove_1 5 rfl rfl)
theorem dJ2_fastRemove_30 : decode cJ2_fastRemove 30 = .ok (.isub, 1) := dk_100 (dk_at dksJ2_fastRemove_1 6 rfl rfl)
theorem dJ2_fastRemove_31 : decode cJ2_fastRemove 31 = .ok (.invokestatic 112, 3) := dk_184 0 112 (dk_at dksJ2_fastRemove_1 7 rfl rfl)
theorem dJ2_fastRemove_34 : decode cJ2_fastRemove 34 = .ok (.aload_n 1, 1) := dk_43 (dk_at dksJ2_fastRemove_1 10 rfl rfl)
theorem dJ2_fastRemove_35 : decode cJ2_fastRemove 35 = .ok (.aload_n 0, 1) := dk_42 (dk_at dksJ2_fastRemove_1 11 rfl rfl)
theorem dJ2_fastRemove_36 : decode cJ2_fastRemove 36 = .ok (.iload_n 3, 1) := dk_29 (dk_at dksJ2_fastRemove_1 12 rfl rfl)
theorem dJ2_fastRemove_37 : decode cJ2_fastRemove 37 = .ok (.dup_x1, 1) := dk_90 (dk_at dksJ2_fastRemove_1 13 rfl rfl)
theorem dJ2_fastRemove_38 : decode cJ2_fastRemove 38 = .ok (.putfield 48, 3) := dk_181 0 48 (dk_at dksJ2_fastRemove_1 14 rfl rfl)
theorem dJ2_fastRemove_41 : decode cJ2_fastRemove 41 = .ok (.aconst_null, 1) := dk_1 (dk_at dksJ2_fastRemove_1 17 rfl rfl)
theorem dJ2_fastRemove_42 : decode cJ2_fastRemove 42 = .ok (.aastore, 1) := dk_83 (dk_at dksJ2_fastRemove_1 18 rfl rfl)
theorem dJ2_fastRemove_43 : decode cJ2_fastRemove 43 = .ok (.return_, 1) := dk_177 (dk_at dksJ2_fastRemove_1 19 rfl rfl)
abbrev cJ2_isEmpty : ByteArray := prog_57_method_9_code
def yJ2_isEmpty : MethodName := ⟨RJ2, "isEmpty", "()Z"⟩
def dkwJ2_isEmpty_0 : List UInt8 := [42, 180, 0, 48, 154, 0, 7, 4, 167, 0, 4, 3, 172]
abbrev dktJ2_isEmpty_0 : List UInt8 := dkwJ2_isEmpty_0 ++ []
theorem dksJ2_isEmpty_0 : cJ2_isEmpty.data.toList.drop 0 = dktJ2_isEmpty_0 := by decide +kernel
theorem dJ2_isEmpty_0 : decode cJ2_isEmpty 0 = .ok (.aload_n 0, 1) := dk_42 (dk_at dksJ2_isEmpty_0 0 rfl rfl)
theorem dJ2_isEmpty_1 : decode cJ2_isEmpty 1 = .ok (.getfield 48, 3) := dk_180 0 48 (dk_at dksJ2_isEmpty_0 1 rfl rfl)
theorem dJ2_isEmpty_4 : decode cJ2_isEmpty 4 = .ok (.ifCond .ne 7, 3) := dk_154 0 7 (dk_at dksJ2_isEmpty_0 4 rfl rfl)
theorem dJ2_isEmpty_7 : decode cJ2_isEmpty 7 = .ok (.iconst 1, 1) := dk_4 (dk_at dksJ2_isEmpty_0 7 rfl rfl)
theorem dJ2_isEmpty_8 : decode cJ2_isEmpty 8 = .ok (.goto 4, 3) := dk_167 0 4 (dk_at dksJ2_isEmpty_0 8 rfl rfl)
theorem dJ2_isEmpty_11 : decode cJ2_isEmpty 11 = .ok (.iconst 0, 1) := dk_3 (dk_at dksJ2_isEmpty_0 11 rfl rfl)
theorem dJ2_isEmpty_12 : decode cJ2_isEmpty 12 = .ok (.ireturn, 1) := dk_172 (dk_at dksJ2_isEmpty_0 12 rfl rfl)
theorem q130 : (Jvm.Cond.initialized "java/util/ArrayList") ∈ lw_all := lw_g (lw_at lw_m1 7 rfl) rfl
theorem q315 : (Jvm.Cond.instantiable "java/util/ArrayList" (3 : Nat)) ∈ lw_all := lw_g (lw_at lw_m1 192 rfl) rfl
theorem q317 : (Jvm.Cond.instanceMethod ({ cls := "java/util/ArrayList", name := "<init>", desc := "(I)V" } : Jvm.MethodName)) ∈ lw_all := lw_g (lw_at lw_m1 194 rfl) rfl
theorem q318 : (Jvm.Cond.code ({ cls := "java/util/ArrayList", name := "<init>", desc := "(I)V" } : Jvm.MethodName) prog_57_method_1_code (2 : Nat) (Option.none : Option Jvm.ClassFile.FieldType)) ∈ lw_all := lw_g (lw_at lw_m1 195 rfl) rfl
theorem q319 : (Jvm.Cond.methodLink "java/util/ArrayList" (1 : Nat) ({ cls := "java/util/AbstractList", name := "<init>", desc := "()V" } : Jvm.MethodName)) ∈ lw_all := lw_g (lw_at lw_m1 196 rfl) rfl
theorem q326 : (Jvm.Cond.classLink "java/util/ArrayList" (7 : Nat) "java/lang/Object") ∈ lw_all := lw_g (lw_at lw_m1 203 rfl) rfl
theorem q328 : (Jvm.Cond.fieldLink "java/util/ArrayList" (15 : Nat) "java/util/ArrayList" "EMPTY_ELEMENTDATA" "[Ljava/lang/Object;") ∈ lw_all := lw_g (lw_at lw_m1 205 rfl) rfl
theorem q329 : (Jvm.Cond.laysStatic "java/util/ArrayList" "EMPTY_ELEMENTDATA" "[Ljava/lang/Object;") ∈ lw_tbl := lw_at lw_m1 206 rfl
theorem q330 : (Jvm.Cond.fieldLink "java/util/ArrayList" (9 : Nat) "java/util/ArrayList" "elementData" "[Ljava/lang/Object;") ∈ lw_all := lw_g (lw_at lw_m1 207 rfl) rfl
theorem q331 : (Jvm.Cond.fieldLink "java/util/ArrayList" (48 : Nat) "java/util/ArrayList" "size" "I") ∈ lw_all := lw_g (lw_at lw_m1 208 rfl) rfl
theorem q333 : (Jvm.Cond.fieldLink "java/util/ArrayList" (63 : Nat) "java/util/ArrayList" "modCount" "I") ∈ lw_all := lw_g (lw_at lw_m1 210 rfl) rfl
theorem q334 : (Jvm.Cond.sameField "java/util/ArrayList" "java/util/AbstractList" "modCount" "I") ∈ lw_all := lw_g (lw_at lw_m1 211 rfl) rfl
theorem q335 : (Jvm.Cond.lays "java/util/ArrayList" "java/util/ArrayList" "elementData" "[Ljava/lang/Object;") ∈ lw_all := lw_g (lw_at lw_m1 212 rfl) rfl
theorem q336 : (Jvm.Cond.soleField "java/util/ArrayList" "elementData") ∈ lw_all := lw_g (lw_at lw_m1 213 rfl) rfl
theorem q337 : (Jvm.Cond.lays "java/util/ArrayList" "java/util/ArrayList" "size" "I") ∈ lw_all := lw_g (lw_at lw_m1 214 rfl) rfl
theorem q338 : (Jvm.Cond.soleField "java/util/ArrayList" "size") ∈ lw_all := lw_g (lw_at lw_m1 215 rfl) rfl
theorem q339 : (Jvm.Cond.lays "java/util/ArrayList" "java/util/AbstractList" "modCount" "I") ∈ lw_all := lw_g (lw_at lw_m1 216 rfl) rfl
theorem q341 : (Jvm.Cond.superclass "java/util/ArrayList" "java/util/AbstractList") ∈ lw_all := lw_g (lw_at lw_m1 218 rfl) rfl
theorem q416 : (Jvm.Cond.instanceMethod ({ cls := "java/util/ArrayList", name := "size", desc := "()I" } : Jvm.MethodName)) ∈ lw_all := lw_g (lw_at lw_m2 53 rfl) rfl
theorem q417 : (Jvm.Cond.selects "java/util/ArrayList" ({ cls := "java/util/ArrayList", name := "size", desc := "()I" } : Jvm.MethodName) ({ cls := "java/util/ArrayList", name := "size", desc := "()I" } : Jvm.MethodName)) ∈ lw_all := lw_g (lw_at lw_m2 54 rfl) rfl
theorem q418 : (Jvm.Cond.code ({ cls := "java/util/ArrayList", name := "size", desc := "()I" } : Jvm.MethodName) prog_57_method_8_code (1 : Nat) (Option.some Jvm.ClassFile.FieldType.int)) ∈ lw_all := lw_g (lw_at lw_m2 55 rfl) rfl
theorem q420 : (Jvm.Cond.instanceMethod ({ cls := "java/util/ArrayList", name := "get", desc := "(I)Ljava/lang/Object;" } : Jvm.MethodName)) ∈ lw_all := lw_g (lw_at lw_m2 57 rfl) rfl
theorem q421 : (Jvm.Cond.selects "java/util/ArrayList" ({ cls := "java/util/ArrayList", name := "get", desc := "(I)Ljava/lang/Object;" } : Jvm.MethodName) ({ cls := "java/util/ArrayList", name := "get", desc := "(I)Ljava/lang/Object;" } : Jvm.MethodName)) ∈ lw_all := lw_g (lw_at lw_m2 58 rfl) rfl
theorem q422 : (Jvm.Cond.code ({ cls := "java/util/ArrayList", name := "get", desc := "(I)Ljava/lang/Object;" } : Jvm.MethodName) prog_57_method_20_code (2 : Nat) (Option.some (Jvm.ClassFile.FieldType.object "java/lang/Object"))) ∈ lw_all := lw_g (lw_at lw_m2 59 rfl) rfl
theorem q423 : (Jvm.Cond.methodLink "java/util/ArrayList" (118 : Nat) ({ cls := "java/util/Objects", name := "checkIndex", desc := "(II)I" } : Jvm.MethodName)) ∈ lw_all := lw_g (lw_at lw_m2 60 rfl) rfl
theorem q429 : (Jvm.Cond.methodLink "java/util/ArrayList" (123 : Nat) ({ cls := "java/util/ArrayList", name := "elementData", desc := "(I)Ljava/lang/Object;" } : Jvm.MethodName)) ∈ lw_all := lw_g (lw_at lw_m2 66 rfl) rfl
theorem q430 : (Jvm.Cond.instanceMethod ({ cls := "java/util/ArrayList", name := "elementData", desc := "(I)Ljava/lang/Object;" } : Jvm.MethodName)) ∈ lw_all := lw_g (lw_at lw_m2 67 rfl) rfl
theorem q431 : (Jvm.Cond.selects "java/util/ArrayList" ({ cls := "java/util/ArrayList", name := "elementData", desc := "(I)Ljava/lang/Object;" } : Jvm.MethodName) ({ cls := "java/util/ArrayList", name := "elementData", desc := "(I)Ljava/lang/Object;" } : Jvm.MethodName)) ∈ lw_all := lw_g (lw_at lw_m2 68 rfl) rfl
theorem q432 : (Jvm.Cond.code ({ cls := "java/util/ArrayList", name := "elementData", desc := "(I)Ljava/lang/Object;" } : Jvm.MethodName) prog_57_method_18_code (2 : Nat) (Option.some (Jvm.ClassFile.FieldType.object "java/lang/Object"))) ∈ lw_all := lw_g (lw_at lw_m2 69 rfl) rfl
theorem q437 : (Jvm.Cond.instanceMethod ({ cls := "java/util/ArrayList", name := "<init>", desc := "()V" } : Jvm.MethodName)) ∈ lw_all := lw_g (lw_at lw_m2 74 rfl) rfl
theorem q438 : (Jvm.Cond.code ({ cls := "java/util/ArrayList", name := "<init>", desc := "()V" } : Jvm.MethodName) prog_57_method_2_code (1 : Nat) (Option.none : Option Jvm.ClassFile.FieldType)) ∈ lw_all := lw_g (lw_at lw_m2 75 rfl) rfl
theorem q439 : (Jvm.Cond.fieldLink "java/util/ArrayList" (39 : Nat) "java/util/ArrayList" "DEFAULTCAPACITY_EMPTY_ELEMENTDATA" "[Ljava/lang/Object;") ∈ lw_all := lw_g (lw_at lw_m2 76 rfl) rfl
theorem q440 : (Jvm.Cond.laysStatic "java/util/ArrayList" "DEFAULTCAPACITY_EMPTY_ELEMENTDATA" "[Ljava/lang/Object;") ∈ lw_tbl := lw_at lw_m2 77 rfl
theorem q905 : (Jvm.Cond.instanceMethod ({ cls := "java/util/ArrayList", name := "add", desc := "(Ljava/lang/Object;)Z" } : Jvm.MethodName)) ∈ lw_all := lw_g (lw_at lw_m4 62 rfl) rfl
theorem q906 : (Jvm.Cond.selects "java/util/ArrayList" ({ cls := "java/util/ArrayList", name := "add", desc := "(Ljava/lang/Object;)Z" } : Jvm.MethodName) ({ cls := "java/util/ArrayList", name := "add", desc := "(Ljava/lang/Object;)Z" } : Jvm.MethodName)) ∈ lw_all := lw_g (lw_at lw_m4 63 rfl) rfl
theorem q907 : (Jvm.Cond.code ({ cls := "java/util/ArrayList", name := "add", desc := "(Ljava/lang/Object;)Z" } : Jvm.MethodName) prog_57_method_25_code (2 : Nat) (Option.some Jvm.ClassFile.FieldType.boolean)) ∈ lw_all := lw_g (lw_at lw_m4 64 rfl) rfl
theorem q908 : (Jvm.Cond.methodLink "java/util/ArrayList" (131 : Nat) ({ cls := "java/util/ArrayList", name := "add", desc := "(Ljava/lang/Object;[Ljava/lang/Object;I)V" } : Jvm.MethodName)) ∈ lw_all := lw_g (lw_at lw_m4 65 rfl) rfl
theorem q909 : (Jvm.Cond.privateMethod ({ cls := "java/util/ArrayList", name := "add", desc := "(Ljava/lang/Object;[Ljava/lang/Object;I)V" } : Jvm.MethodName)) ∈ lw_tbl := lw_at lw_m4 66 rfl
theorem q910 : (Jvm.Cond.instanceMethod ({ cls := "java/util/ArrayList", name := "add", desc := "(Ljava/lang/Object;[Ljava/lang/Object;I)V" } : Jvm.MethodName)) ∈ lw_all := lw_g (lw_at lw_m4 67 rfl) rfl
theorem q911 : (Jvm.Cond.code ({ cls := "java/util/ArrayList", name := "add", desc := "(Ljava/lang/Object;[Ljava/lang/Object;I)V" } : Jvm.MethodName) prog_57_method_24_code (4 : Nat) (Option.none : Option Jvm.ClassFile.FieldType)) ∈ lw_all := lw_g (lw_at lw_m4 68 rfl) rfl
theorem q912 : (Jvm.Cond.methodLink "java/util/ArrayList" (129 : Nat) ({ cls := "java/util/ArrayList", name := "grow", desc := "()[Ljava/lang/Object;" } : Jvm.MethodName)) ∈ lw_all := lw_g (lw_at lw_m4 69 rfl) rfl
theorem q913 : (Jvm.Cond.privateMethod ({ cls := "java/util/ArrayList", name := "grow", desc := "()[Ljava/lang/Object;" } : Jvm.MethodName)) ∈ lw_tbl := lw_at lw_m4 70 rfl
theorem q914 : (Jvm.Cond.instanceMethod ({ cls := "java/util/ArrayList", name := "grow", desc := "()[Ljava/lang/Object;" } : Jvm.MethodName)) ∈ lw_all := lw_g (lw_at lw_m4 71 rfl) rfl
theorem q915 : (Jvm.Cond.code ({ cls := "java/util/ArrayList", name := "grow", desc := "()[Ljava/lang/Object;" } : Jvm.MethodName) prog_57_method_7_code (1 : Nat) (Option.some (Jvm.ClassFile.FieldType.array (Jvm.ClassFile.FieldType.object "java/lang/Object")))) ∈ lw_all := lw_g (lw_at lw_m4 72 rfl) rfl
theorem q916 : (Jvm.Cond.methodLink "java/util/ArrayList" (69 : Nat) ({ cls := "java/util/ArrayList", name := "grow", desc := "(I)[Ljava/lang/Object;" } : Jvm.MethodName)) ∈ lw_all := lw_g (lw_at lw_m4 73 rfl) rfl
theorem q917 : (Jvm.Cond.privateMethod ({ cls := "java/util/ArrayList", name := "grow", desc := "(I)[Ljava/lang/Object;" } : Jvm.MethodName)) ∈ lw_tbl := lw_at lw_m4 74 rfl
theorem q918 : (Jvm.Cond.instanceMethod ({ cls := "java/util/ArrayList", name := "grow", desc := "(I)[Ljava/lang/Object;" } : Jvm.MethodName)) ∈ lw_all := lw_g (lw_at lw_m4 75 rfl) rfl
theorem q919 : (Jvm.Cond.code ({ cls := "java/util/ArrayList", name := "grow", desc := "(I)[Ljava/lang/Object;" } : Jvm.MethodName) prog_57_method_6_code (4 : Nat) (Option.some (Jvm.ClassFile.FieldType.array (Jvm.ClassFile.FieldType.object "java/lang/Object")))) ∈ lw_all := lw_g (lw_at lw_m4 76 rfl) rfl
theorem q920 : (Jvm.Cond.methodLink "java/util/ArrayList" (73 : Nat) ({ cls := "jdk/internal/util/ArraysSupport", name := "newLength", desc := "(III)I" } : Jvm.MethodName)) ∈ lw_all := lw_g (lw_at lw_m4 77 rfl) rfl
theorem q928 : (Jvm.Cond.methodLink "java/util/ArrayList" (66 : Nat) ({ cls := "java/util/Arrays", name := "copyOf", desc := "([Ljava/lang/Object;I)[Ljava/lang/Object;" } : Jvm.MethodName)) ∈ lw_all := lw_g (lw_at lw_m4 85 rfl) rfl
theorem q966 : (Jvm.Cond.selects "java/util/ArrayList" ({ cls := "java/lang/Object", name := "getClass", desc := "()Ljava/lang/Class;" } : Jvm.MethodName) ({ cls := "java/lang/Object", name := "getClass", desc := "()Ljava/lang/Class;" } : Jvm.MethodName)) ∈ lw_all := lw_g (lw_at lw_m4 123 rfl) rfl
theorem q978 : (Jvm.Cond.methodLink "java/util/ArrayList" (79 : Nat) ({ cls := "java/lang/Math", name := "max", desc := "(II)I" } : Jvm.MethodName)) ∈ lw_all := lw_g (lw_at lw_m4 135 rfl) rfl
theorem q1248 : (Jvm.Cond.instanceMethod ({ cls := "java/util/ArrayList", name := "clear", desc := "()V" } : Jvm.MethodName)) ∈ lw_all := lw_g (lw_at lw_m5 165 rfl) rfl
theorem q1249 : (Jvm.Cond.selects "java/util/ArrayList" ({ cls := "java/util/ArrayList", name := "clear", desc := "()V" } : Jvm.MethodName) ({ cls := "java/util/ArrayList", name := "clear", desc := "()V" } : Jvm.MethodName)) ∈ lw_all := lw_g (lw_at lw_m5 166 rfl) rfl
theorem q1250 : (Jvm.Cond.code ({ cls := "java/util/ArrayList", name := "clear", desc := "()V" } : Jvm.MethodName) prog_57_method_40_code (4 : Nat) (Option.none : Option Jvm.ClassFile.FieldType)) ∈ lw_all := lw_g (lw_at lw_m5 167 rfl) rfl
theorem q1540 : (Jvm.Cond.instanceMethod ({ cls := "java/util/ArrayList", name := "remove", desc := "(I)Ljava/lang/Object;" } : Jvm.MethodName)) ∈ lw_all := lw_g (lw_at lw_m6 217 rfl) rfl
theorem q1541 : (Jvm.Cond.selects "java/util/ArrayList" ({ cls := "java/util/ArrayList", name := "remove", desc := "(I)Ljava/lang/Object;" } : Jvm.MethodName) ({ cls := "java/util/ArrayList", name := "remove", desc := "(I)Ljava/lang/Object;" } : Jvm.MethodName)) ∈ lw_all := lw_g (lw_at lw_m6 218 rfl) rfl
theorem q1542 : (Jvm.Cond.code ({ cls := "java/util/ArrayList", name := "remove", desc := "(I)Ljava/lang/Object;" } : Jvm.MethodName) prog_57_method_29_code (4 : Nat) (Option.some (Jvm.ClassFile.FieldType.object "java/lang/Object"))) ∈ lw_all := lw_g (lw_at lw_m6 219 rfl) rfl
theorem q1543 : (Jvm.Cond.methodLink "java/util/ArrayList" (144 : Nat) ({ cls := "java/util/ArrayList", name := "fastRemove", desc := "([Ljava/lang/Object;I)V" } : Jvm.MethodName)) ∈ lw_all := lw_g (lw_at lw_m6 220 rfl) rfl
theorem q1544 : (Jvm.Cond.privateMethod ({ cls := "java/util/ArrayList", name := "fastRemove", desc := "([Ljava/lang/Object;I)V" } : Jvm.MethodName)) ∈ lw_tbl := lw_at lw_m6 221 rfl
theorem q1545 : (Jvm.Cond.instanceMethod ({ cls := "java/util/ArrayList", name := "fastRemove", desc := "([Ljava/lang/Object;I)V" } : Jvm.MethodName)) ∈ lw_all := lw_g (lw_at lw_m6 222 rfl) rfl
theorem q1546 : (Jvm.Cond.code ({ cls := "java/util/ArrayList", name := "fastRemove", desc := "([Ljava/lang/Object;I)V" } : Jvm.MethodName) prog_57_method_39_code (4 : Nat) (Option.none : Option Jvm.ClassFile.FieldType)) ∈ lw_all := lw_g (lw_at lw_m6 223 rfl) rfl
theorem q1547 : (Jvm.Cond.methodLink "java/util/ArrayList" (112 : Nat) ({ cls := "java/lang/System", name := "arraycopy", desc := "(Ljava/lang/Object;ILjava/lang/Object;II)V" } : Jvm.MethodName)) ∈ lw_all := lw_g (lw_at lw_m6 224 rfl) rfl
theorem q1593 : (Jvm.Cond.instanceMethod ({ cls := "java/util/ArrayList", name := "isEmpty", desc := "()Z" } : Jvm.MethodName)) ∈ lw_all := lw_g (lw_at lw_m7 30 rfl) rfl
theorem q1594 : (Jvm.Cond.selects "java/util/ArrayList" ({ cls := "java/util/ArrayList", name := "isEmpty", desc := "()Z" } : Jvm.MethodName) ({ cls := "java/util/ArrayList", name := "isEmpty", desc := "()Z" } : Jvm.MethodName)) ∈ lw_all := lw_g (lw_at lw_m7 31 rfl) rfl
theorem q1595 : (Jvm.Cond.code ({ cls := "java/util/ArrayList", name := "isEmpty", desc := "()Z" } : Jvm.MethodName) prog_57_method_9_code (1 : Nat) (Option.some Jvm.ClassFile.FieldType.boolean)) ∈ lw_all := lw_g (lw_at lw_m7 32 rfl) rfl
theorem q2607 : (Jvm.Cond.castable "java/util/ArrayList" "java/lang/Object") ∈ lw_tbl := lw_at lw_m11 84 rfl
theorem in_J2 : ∀ w ∈ wsJ20, w ∈ lw_all := lw_in wsJ20 [339, 335, 337] (by decide +kernel) (by decide +kernel)
/-! java/util/Objects -/
set_option maxRecDepth 100000
def RJ3 : String := "java/util/Objects"
abbrev cJ3_checkIndex : ByteArray := prog_62_method_17_code
def yJ3_checkIndex : MethodName := ⟨RJ3, "checkIndex", "(II)I"⟩
def dkwJ3_checkIndex_0 : List UInt8 := [26, 27, 1, 184, 0, 105, 172]
abbrev dktJ3_checkIndex_0 : List UInt8 := dkwJ3_checkIndex_0 ++ []
theorem dksJ3_checkIndex_0 : cJ3_checkIndex.data.toList.drop 0 = dktJ3_checkIndex_0 := by decide +kernel
theorem dJ3_checkIndex_0 : decode cJ3_checkIndex 0 = .ok (.iload_n 0, 1) := dk_26 (dk_at dksJ3_checkIndex_0 0 rfl rfl)
theorem dJ3_checkIndex_1 : decode cJ3_checkIndex 1 = .ok (.iload_n 1, 1) := dk_27 (dk_at dksJ3_checkIndex_0 1 rfl rfl)
theorem dJ3_checkIndex_2 : decode cJ3_checkIndex 2 = .ok (.aconst_null, 1) := dk_1 (dk_at dksJ3_checkIndex_0 2 rfl rfl)
theorem dJ3_checkIndex_3 : decode cJ3_checkIndex 3 = .ok (.invokestatic 105, 3) := dk_184 0 105 (dk_at dksJ3_checkIndex_0 3 rfl rfl)
theorem dJ3_checkIndex_6 : decode cJ3_checkIndex 6 = .ok (.ireturn, 1) := dk_172 (dk_at dksJ3_checkIndex_0 6 rfl rfl)
theorem q132 : (Jvm.Cond.initialized "java/util/Objects") ∈ lw_all := lw_g (lw_at lw_m1 9 rfl) rfl
theorem q424 : (Jvm.Cond.static ({ cls := "java/util/Objects", name := "checkIndex", desc := "(II)I" } : Jvm.MethodName)) ∈ lw_all := lw_g (lw_at lw_m2 61 rfl) rfl
theorem q425 : (Jvm.Cond.code ({ cls := "java/util/Objects", name := "checkIndex", desc := "(II)I" } : Jvm.MethodName) prog_62_method_17_code (2 : Nat) (Option.some Jvm.ClassFile.FieldType.int)) ∈ lw_all := lw_g (lw_at lw_m2 62 rfl) rfl
theorem q426 : (Jvm.Cond.methodLink "java/util/Objects" (105 : Nat) ({ cls := "jdk/internal/util/Preconditions", name := "checkIndex", desc := "(IILjava/util/function/BiFunction;)I" } : Jvm.MethodName)) ∈ lw_all := lw_g (lw_at lw_m2 63 rfl) rfl
/-! jdk/internal/util/Preconditions -/
set_option maxRecDepth 100000
def RJ4 : String := "jdk/internal/util/Preconditions"
abbrev cJ4_checkIndex : ByteArray := prog_66_method_11_code
def yJ4_checkIndex : MethodName := ⟨RJ4, "checkIndex", "(IILjava/util/function/BiFunction;)I"⟩
def dkwJ4_checkIndex_0 : List UInt8 := [26, 155, 0, 8, 26, 27, 161, 0, 10, 44, 26, 27, 184, 0, 95, 191, 26, 172]
abbrev dktJ4_checkIndex_0 : List UInt8 := dkwJ4_checkIndex_0 ++ []
theorem dksJ4_checkIndex_0 : cJ4_checkIndex.data.toList.drop 0 = dktJ4_checkIndex_0 := by decide +kernel
theorem dJ4_checkIndex_0 : decode cJ4_checkIndex 0 = .ok (.iload_n 0, 1) := dk_26 (dk_at dksJ4_checkIndex_0 0 rfl rfl)
theorem dJ4_checkIndex_1 : decode cJ4_checkIndex 1 = .ok (.ifCond .lt 8, 3) := dk_155 0 8 (dk_at dksJ4_checkIndex_0 1 rfl rfl)
theorem dJ4_checkIndex_4 : decode cJ4_checkIndex 4 = .ok (.iload_n 0, 1) := dk_26 (dk_at dksJ4_checkIndex_0 4 rfl rfl)
theorem dJ4_checkIndex_5 : decode cJ4_checkIndex 5 = .ok (.iload_n 1, 1) := dk_27 (dk_at dksJ4_checkIndex_0 5 rfl rfl)
theorem dJ4_checkIndex_6 : decode cJ4_checkIndex 6 = .ok (.if_icmp .lt 10, 3) := dk_161 0 10 (dk_at dksJ4_checkIndex_0 6 rfl rfl)
theorem dJ4_checkIndex_9 : decode cJ4_checkIndex 9 = .ok (.aload_n 2, 1) := dk_44 (dk_at dksJ4_checkIndex_0 9 rfl rfl)
theorem dJ4_checkIndex_10 : decode cJ4_checkIndex 10 = .ok (.iload_n 0, 1) := dk_26 (dk_at dksJ4_checkIndex_0 10 rfl rfl)
theorem dJ4_checkIndex_11 : decode cJ4_checkIndex 11 = .ok (.iload_n 1, 1) := dk_27 (dk_at dksJ4_checkIndex_0 11 rfl rfl)
theorem dJ4_checkIndex_12 : decode cJ4_checkIndex 12 = .ok (.invokestatic 95, 3) := dk_184 0 95 (dk_at dksJ4_checkIndex_0 12 rfl rfl)
theorem dJ4_checkIndex_15 : decode cJ4_checkIndex 15 = .ok (.athrow, 1) := dk_191 (dk_at dksJ4_checkIndex_0 15 rfl rfl)
theorem dJ4_checkIndex_16 : decode cJ4_checkIndex 16 = .ok (.iload_n 0, 1) := dk_26 (dk_at dksJ4_checkIndex_0 16 rfl rfl)
theorem dJ4_checkIndex_17 : decode cJ4_checkIndex 17 = .ok (.ireturn, 1) := dk_172 (dk_at dksJ4_checkIndex_0 17 rfl rfl)
abbrev cJ4_checkFromToIndex : ByteArray := prog_66_method_12_code
def yJ4_checkFromToIndex : MethodName := ⟨RJ4, "checkFromToIndex", "(IIILjava/util/function/BiFunction;)I"⟩
def dkwJ4_checkFromToIndex_0 : List UInt8 := [26, 155, 0, 13, 26, 27, 163, 0, 8, 27, 28, 164, 0, 11, 45, 26, 27, 28, 184, 0, 99, 191, 26, 172]
abbrev dktJ4_checkFromToIndex_0 : List UInt8 := dkwJ4_checkFromToIndex_0 ++ []
theorem dksJ4_checkFromToIndex_0 : cJ4_checkFromToIndex.data.toList.drop 0 = dktJ4_checkFromToIndex_0 := by decide +kernel
theorem dJ4_checkFromToIndex_0 : decode cJ4_checkFromToIndex 0 = .ok (.iload_n 0, 1) := dk_26 (dk_at dksJ4_checkFromToIndex_0 0 rfl rfl)
theorem dJ4_checkFromToIndex_1 : decode cJ4_checkFromToIndex 1 = .ok (.ifCond .lt 13, 3) := dk_155 0 13 (dk_at dksJ4_checkFromToIndex_0 1 rfl rfl)
theorem dJ4_checkFromToIndex_4 : decode cJ4_checkFromToIndex 4 = .ok (.iload_n 0, 1) := dk_26 (dk_at dksJ4_checkFromToIndex_0 4 rfl rfl)
theorem dJ4_checkFromToIndex_5 : decode cJ4_checkFromToIndex 5 = .ok (.iload_n 1, 1) := dk_27 (dk_at dksJ4_checkFromToIndex_0 5 rfl rfl)
theorem dJ4_checkFromToIndex_6 : decode cJ4_checkFromToIndex 6 = .ok (.if_icmp .gt 8, 3) := dk_163 0 8 (dk_at dksJ4_checkFromToIndex_0 6 rfl rfl)
theorem dJ4_checkFromToIndex_9 : decode cJ4_checkFromToIndex 9 = .ok (.iload_n 1, 1) := dk_27 (dk_at dksJ4_checkFromToIndex_0 9 rfl rfl)
theorem dJ4_checkFromToIndex_10 : decode cJ4_checkFromToIndex 10 = .ok (.iload_n 2, 1) := dk_28 (dk_at dksJ4_checkFromToIndex_0 10 rfl rfl)
theorem dJ4_checkFromToIndex_11 : decode cJ4_checkFromToIndex 11 = .ok (.if_icmp .le 11, 3) := dk_164 0 11 (dk_at dksJ4_checkFromToIndex_0 11 rfl rfl)
theorem dJ4_checkFromToIndex_14 : decode cJ4_checkFromToIndex 14 = .ok (.aload_n 3, 1) := dk_45 (dk_at dksJ4_checkFromToIndex_0 14 rfl rfl)
theorem dJ4_checkFromToIndex_15 : decode cJ4_checkFromToIndex 15 = .ok (.iload_n 0, 1) := dk_26 (dk_at dksJ4_checkFromToIndex_0 15 rfl rfl)
theorem dJ4_checkFromToIndex_16 : decode cJ4_checkFromToIndex 16 = .ok (.iload_n 1, 1) := dk_27 (dk_at dksJ4_checkFromToIndex_0 16 rfl rfl)
theorem dJ4_checkFromToIndex_17 : decode cJ4_checkFromToIndex 17 = .ok (.iload_n 2, 1) := dk_28 (dk_at dksJ4_checkFromToIndex_0 17 rfl rfl)
theorem dJ4_checkFromToIndex_18 : decode cJ4_checkFromToIndex 18 = .ok (.invokestatic 99, 3) := dk_184 0 99 (dk_at dksJ4_checkFromToIndex_0 18 rfl rfl)
theorem dJ4_checkFromToIndex_21 : decode cJ4_checkFromToIndex 21 = .ok (.athrow, 1) := dk_191 (dk_at dksJ4_checkFromToIndex_0 21 rfl rfl)
theorem dJ4_checkFromToIndex_22 : decode cJ4_checkFromToIndex 22 = .ok (.iload_n 0, 1) := dk_26 (dk_at dksJ4_checkFromToIndex_0 22 rfl rfl)
theorem dJ4_checkFromToIndex_23 : decode cJ4_checkFromToIndex 23 = .ok (.ireturn, 1) := dk_172 (dk_at dksJ4_checkFromToIndex_0 23 rfl rfl)
theorem q133 : (Jvm.Cond.initialized "jdk/internal/util/Preconditions") ∈ lw_all := lw_g (lw_at lw_m1 10 rfl) rfl
theorem q427 : (Jvm.Cond.static ({ cls := "jdk/internal/util/Preconditions", name := "checkIndex", desc := "(IILjava/util/function/BiFunction;)I" } : Jvm.MethodName)) ∈ lw_all := lw_g (lw_at lw_m2 64 rfl) rfl
theorem q428 : (Jvm.Cond.code ({ cls := "jdk/internal/util/Preconditions", name := "checkIndex", desc := "(IILjava/util/function/BiFunction;)I" } : Jvm.MethodName) prog_66_method_11_code (3 : Nat) (Option.some Jvm.ClassFile.FieldType.int)) ∈ lw_all := lw_g (lw_at lw_m2 65 rfl) rfl
theorem q650 : (Jvm.Cond.laysStatic "jdk/internal/util/Preconditions" "SIOOBE_FORMATTER" "Ljava/util/function/BiFunction;") ∈ lw_tbl := lw_at lw_m3 47 rfl
theorem q652 : (Jvm.Cond.static ({ cls := "jdk/internal/util/Preconditions", name := "checkFromToIndex", desc := "(IIILjava/util/function/BiFunction;)I" } : Jvm.MethodName)) ∈ lw_all := lw_g (lw_at lw_m3 49 rfl) rfl
theorem q653 : (Jvm.Cond.code ({ cls := "jdk/internal/util/Preconditions", name := "checkFromToIndex", desc := "(IIILjava/util/function/BiFunction;)I" } : Jvm.MethodName) prog_66_method_12_code (4 : Nat) (Option.some Jvm.ClassFile.FieldType.int)) ∈ lw_all := lw_g (lw_at lw_m3 50 rfl) rfl
/-! java/lang/String -/
set_option maxRecDepth 100000
def RJ5 : String := "java/lang/String"
abbrev cJ5_indexOf : ByteArray := prog_48_method_79_code
def yJ5_indexOf : MethodName := ⟨RJ5, "indexOf", "(I)I"⟩
def dkwJ5_indexOf_0 : List UInt8 := [42, 27, 3, 182, 2, 121, 172]
abbrev dktJ5_indexOf_0 : List UInt8 := dkwJ5_indexOf_0 ++ []
theorem dksJ5_indexOf_0 : cJ5_indexOf.data.toList.drop 0 = dktJ5_indexOf_0 := by decide +kernel
theorem dJ5_indexOf_0 : decode cJ5_indexOf 0 = .ok (.aload_n 0, 1) := dk_42 (dk_at dksJ5_indexOf_0 0 rfl rfl)
theorem dJ5_indexOf_1 : decode cJ5_indexOf 1 = .ok (.iload_n 1, 1) := dk_27 (dk_at dksJ5_indexOf_0 1 rfl rfl)
theorem dJ5_indexOf_2 : decode cJ5_indexOf 2 = .ok (.iconst 0, 1) := dk_3 (dk_at dksJ5_indexOf_0 2 rfl rfl)
theorem dJ5_indexOf_3 : decode cJ5_indexOf 3 = .ok (.invokevirtual 633, 3) := dk_182 2 121 (dk_at dksJ5_indexOf_0 3 rfl rfl)
theorem dJ5_indexOf_6 : decode cJ5_indexOf 6 = .ok (.ireturn, 1) := dk_172 (dk_at dksJ5_indexOf_0 6 rfl rfl)
abbrev cJ5_indexOf_2 : ByteArray := prog_48_method_80_code
def yJ5_indexOf_2 : MethodName := ⟨RJ5, "indexOf", "(II)I"⟩
def dkwJ5_indexOf_2_1 : List UInt8 := [180, 0, 9, 27, 28, 42, 182, 1, 249, 184, 2, 128, 172]
abbrev dktJ5_indexOf_2_1 : List UInt8 := dkwJ5_indexOf_2_1 ++ []
def dkwJ5_indexOf_2_0 : List UInt8 := [42, 182, 1, 236, 153, 0, 19, 42, 180, 0, 9, 27, 28, 42, 182, 1, 249, 184, 2, 125, 167, 0, 16, 42]
abbrev dktJ5_indexOf_2_0 : List UInt8 := dkwJ5_indexOf_2_0 ++ dktJ5_indexOf_2_1
theorem dksJ5_indexOf_2_0 : cJ5_indexOf_2.data.toList.drop 0 = dktJ5_indexOf_2_0 := by decide +kernel
theorem dksJ5_indexOf_2_1 : cJ5_indexOf_2.data.toList.drop 24 = dktJ5_indexOf_2_1 := dk_seg dksJ5_indexOf_2_0 24 rfl rfl
theorem dJ5_indexOf_2_0 : decode cJ5_indexOf_2 0 = .ok (.aload_n 0, 1) := dk_42 (dk_at dksJ5_indexOf_2_0 0 rfl rfl)
theorem dJ5_indexOf_2_1 : decode cJ5_indexOf_2 1 = .ok (.invokevirtual 492, 3) := dk_182 1 236 (dk_at dksJ5_indexOf_2_0 1 rfl rfl)
theorem dJ5_indexOf_2_4 : decode cJ5_indexOf_2 4 = .ok (.ifCond .eq 19, 3) := dk_153 0 19 (dk_at dksJ5_indexOf_2_0 4 rfl rfl)
theorem dJ5_indexOf_2_7 : decode cJ5_indexOf_2 7 = .ok (.aload_n 0, 1) := dk_42 (dk_at dksJ5_indexOf_2_0 7 rfl rfl)
theorem dJ5_indexOf_2_8 : decode cJ5_indexOf_2 8 = .ok (.getfield 9, 3) := dk_180 0 9 (dk_at dksJ5_indexOf_2_0 8 rfl rfl)
theorem dJ5_indexOf_2_11 : decode cJ5_indexOf_2 11 = .ok (.iload_n 1, 1) := dk_27 (dk_at dksJ5_indexOf_2_0 11 rfl rfl)
theorem dJ5_indexOf_2_12 : decode cJ5_indexOf_2 12 = .ok (.iload_n 2, 1) := dk_28 (dk_at dksJ5_indexOf_2_0 12 rfl rfl)
theorem dJ5_indexOf_2_13 : decode cJ5_indexOf_2 13 = .ok (.aload_n 0, 1) := dk_42 (dk_at dksJ5_indexOf_2_0 13 rfl rfl)
theorem dJ5_indexOf_2_14 : decode cJ5_indexOf_2 14 = .ok (.invokevirtual 505, 3) := dk_182 1 249 (dk_at dksJ5_indexOf_2_0 14 rfl rfl)
theorem dJ5_indexOf_2_17 : decode cJ5_indexOf_2 17 = .ok (.invokestatic 637, 3) := dk_184 2 125 (dk_at dksJ5_indexOf_2_0 17 rfl rfl)
theorem dJ5_indexOf_2_20 : decode cJ5_indexOf_2 20 = .ok (.goto 16, 3) := dk_167 0 16 (dk_at dksJ5_indexOf_2_0 20 rfl rfl)
theorem dJ5_indexOf_2_23 : decode cJ5_indexOf_2 23 = .ok (.aload_n 0, 1) := dk_42 (dk_at dksJ5_indexOf_2_0 23 rfl rfl)
theorem dJ5_indexOf_2_24 : decode cJ5_indexOf_2 24 = .ok (.getfield 9, 3) := dk_180 0 9 (dk_at dksJ5_indexOf_2_1 0 rfl rfl)
theorem dJ5_indexOf_2_27 : decode cJ5_indexOf_2 27 = .ok (.iload_n 1, 1) := dk_27 (dk_at dksJ5_indexOf_2_1 3 rfl rfl)
theorem dJ5_indexOf_2_28 : decode cJ5_indexOf_2 28 = .ok (.iload_n 2, 1) := dk_28 (dk_at dksJ5_indexOf_2_1 4 rfl rfl)
theorem dJ5_indexOf_2_29 : decode cJ5_indexOf_2 29 = .ok (.aload_n 0, 1) := dk_42 (dk_at dksJ5_indexOf_2_1 5 rfl rfl)
theorem dJ5_indexOf_2_30 : decode cJ5_indexOf_2 30 = .ok (.invokevirtual 505, 3) := dk_182 1 249 (dk_at dksJ5_indexOf_2_1 6 rfl rfl)
theorem dJ5_indexOf_2_33 : decode cJ5_indexOf_2 33 = .ok (.invokestatic 640, 3) := dk_184 2 128 (dk_at dksJ5_indexOf_2_1 9 rfl rfl)
theorem dJ5_indexOf_2_36 : decode cJ5_indexOf_2 36 = .ok (.ireturn, 1) := dk_172 (dk_at dksJ5_indexOf_2_1 12 rfl rfl)
abbrev cJ5_isLatin1 : ByteArray := prog_48_method_154_code
def yJ5_isLatin1 : MethodName := ⟨RJ5, "isLatin1", "()Z"⟩
def dkwJ5_isLatin1_0 : List UInt8 := [178, 0, 38, 153, 0, 14, 42, 180, 0, 15, 154, 0, 7, 4, 167, 0, 4, 3, 172]
abbrev dktJ5_isLatin1_0 : List UInt8 := dkwJ5_isLatin1_0 ++ []
theorem dksJ5_isLatin1_0 : cJ5_isLatin1.data.toList.drop 0 = dktJ5_isLatin1_0 := by decide +kernel
theorem dJ5_isLatin1_0 : decode cJ5_isLatin1 0 = .ok (.getstatic 38, 3) := dk_178 0 38 (dk_at dksJ5_isLatin1_0 0 rfl rfl)
theorem dJ5_isLatin1_3 : decode cJ5_isLatin1 3 = .ok (.ifCond .eq 14, 3) := dk_153 0 14 (dk_at dksJ5_isLatin1_0 3 rfl rfl)
theorem dJ5_isLatin1_6 : decode cJ5_isLatin1 6 = .ok (.aload_n 0, 1) := dk_42 (dk_at dksJ5_isLatin1_0 6 rfl rfl)
theorem dJ5_isLatin1_7 : decode cJ5_isLatin1 7 = .ok (.getfield 15, 3) := dk_180 0 15 (dk_at dksJ5_isLatin1_0 7 rfl rfl)
theorem dJ5_isLatin1_10 : decode cJ5_isLatin1 10 = .ok (.ifCond .ne 7, 3) := dk_154 0 7 (dk_at dksJ5_isLatin1_0 10 rfl rfl)
theorem dJ5_isLatin1_13 : decode cJ5_isLatin1 13 = .ok (.iconst 1, 1) := dk_4 (dk_at dksJ5_isLatin1_0 13 rfl rfl)
theorem dJ5_isLatin1_14 : decode cJ5_isLatin1 14 = .ok (.goto 4, 3) := dk_167 0 4 (dk_at dksJ5_isLatin1_0 14 rfl rfl)
theorem dJ5_isLatin1_17 : decode cJ5_isLatin1 17 = .ok (.iconst 0, 1) := dk_3 (dk_at dksJ5_isLatin1_0 17 rfl rfl)
theorem dJ5_isLatin1_18 : decode cJ5_isLatin1 18 = .ok (.ireturn, 1) := dk_172 (dk_at dksJ5_isLatin1_0 18 rfl rfl)
abbrev cJ5_length : ByteArray := prog_48_method_54_code
def yJ5_length : MethodName := ⟨RJ5, "length", "()I"⟩
def dkwJ5_length_0 : List UInt8 := [42, 180, 0, 9, 190, 42, 182, 1, 79, 122, 172]
abbrev dktJ5_length_0 : List UInt8 := dkwJ5_length_0 ++ []
theorem dksJ5_length_0 : cJ5_length.data.toList.drop 0 = dktJ5_length_0 := by decide +kernel
theorem dJ5_length_0 : decode cJ5_length 0 = .ok (.aload_n 0, 1) := dk_42 (dk_at dksJ5_length_0 0 rfl rfl)
theorem dJ5_length_1 : decode cJ5_length 1 = .ok (.getfield 9, 3) := dk_180 0 9 (dk_at dksJ5_length_0 1 rfl rfl)
theorem dJ5_length_4 : decode cJ5_length 4 = .ok (.arraylength, 1) := dk_190 (dk_at dksJ5_length_0 4 rfl rfl)
theorem dJ5_length_5 : decode cJ5_length 5 = .ok (.aload_n 0, 1) := dk_42 (dk_at dksJ5_length_0 5 rfl rfl)
theorem dJ5_length_6 : decode cJ5_length 6 = .ok (.invokevirtual 335, 3) := dk_182 1 79 (dk_at dksJ5_length_0 6 rfl rfl)
theorem dJ5_length_9 : decode cJ5_length 9 = .ok (.ishr, 1) := dk_122 (dk_at dksJ5_length_0 9 rfl rfl)
theorem dJ5_length_10 : decode cJ5_length 10 = .ok (.ireturn, 1) := dk_172 (dk_at dksJ5_length_0 10 rfl rfl)
abbrev cJ5_coder : ByteArray := prog_48_method_152_code
def yJ5_coder : MethodName := ⟨RJ5, "coder", "()B"⟩
def dkwJ5_coder_0 : List UInt8 := [178, 0, 38, 153, 0, 10, 42, 180, 0, 15, 167, 0, 4, 4, 172]
abbrev dktJ5_coder_0 : List UInt8 := dkwJ5_coder_0 ++ []
theorem dksJ5_coder_0 : cJ5_coder.data.toList.drop 0 = dktJ5_coder_0 := by decide +kernel
theorem dJ5_coder_0 : decode cJ5_coder 0 = .ok (.getstatic 38, 3) := dk_178 0 38 (dk_at dksJ5_coder_0 0 rfl rfl)
theorem dJ5_coder_3 : decode cJ5_coder 3 = .ok (.ifCond .eq 10, 3) := dk_153 0 10 (dk_at dksJ5_coder_0 3 rfl rfl)
theorem dJ5_coder_6 : decode cJ5_coder 6 = .ok (.aload_n 0, 1) := dk_42 (dk_at dksJ5_coder_0 6 rfl rfl)
theorem dJ5_coder_7 : decode cJ5_coder 7 = .ok (.getfield 15, 3) := dk_180 0 15 (dk_at dksJ5_coder_0 7 rfl rfl)
theorem dJ5_coder_10 : decode cJ5_coder 10 = .ok (.goto 4, 3) := dk_167 0 4 (dk_at dksJ5_coder_0 10 rfl rfl)
theorem dJ5_coder_13 : decode cJ5_coder 13 = .ok (.iconst 1, 1) := dk_4 (dk_at dksJ5_coder_0 13 rfl rfl)
theorem dJ5_coder_14 : decode cJ5_coder 14 = .ok (.ireturn, 1) := dk_172 (dk_at dksJ5_coder_0 14 rfl rfl)
abbrev cJ5_checkBoundsBeginEnd : ByteArray := prog_48_method_158_code
def yJ5_checkBoundsBeginEnd : MethodName := ⟨RJ5, "checkBoundsBeginEnd", "(III)V"⟩
def dkwJ5_checkBoundsBeginEnd_0 : List UInt8 := [26, 27, 28, 178, 4, 29, 184, 4, 38, 87, 177]
abbrev dktJ5_checkBoundsBeginEnd_0 : List UInt8 := dkwJ5_checkBoundsBeginEnd_0 ++ []
theorem dksJ5_checkBoundsBeginEnd_0 : cJ5_checkBoundsBeginEnd.data.toList.drop 0 = dktJ5_checkBoundsBeginEnd_0 := by decide +kernel
theorem dJ5_checkBoundsBeginEnd_0 : decode cJ5_checkBoundsBeginEnd 0 = .ok (.iload_n 0, 1) := dk_26 (dk_at dksJ5_checkBoundsBeginEnd_0 0 rfl rfl)
theorem dJ5_checkBoundsBeginEnd_1 : decode cJ5_checkBoundsBeginEnd 1 = .ok (.iload_n 1, 1) := dk_27 (dk_at dksJ5_checkBoundsBeginEnd_0 1 rfl rfl)
theorem dJ5_checkBoundsBeginEnd_2 : decode cJ5_checkBoundsBeginEnd 2 = .ok (.iload_n 2, 1) := dk_28 (dk_at dksJ5_checkBoundsBeginEnd_0 2 rfl rfl)
theorem dJ5_checkBoundsBeginEnd_3 : decode cJ5_checkBoundsBeginEnd 3 = .ok (.getstatic 1053, 3) := dk_178 4 29 (dk_at dksJ5_checkBoundsBeginEnd_0 3 rfl rfl)
theorem dJ5_checkBoundsBeginEnd_6 : decode cJ5_checkBoundsBeginEnd 6 = .ok (.invokestatic 1062, 3) := dk_184 4 38 (dk_at dksJ5_checkBoundsBeginEnd_0 6 rfl rfl)
theorem dJ5_checkBoundsBeginEnd_9 : decode cJ5_checkBoundsBeginEnd 9 = .ok (.pop, 1) := dk_87 (dk_at dksJ5_checkBoundsBeginEnd_0 9 rfl rfl)
theorem dJ5_checkBoundsBeginEnd_10 : decode cJ5_checkBoundsBeginEnd 10 = .ok (.return_, 1) := dk_177 (dk_at dksJ5_checkBoundsBeginEnd_0 10 rfl rfl)
abbrev cJ5_charAt : ByteArray := prog_48_method_56_code
def yJ5_charAt : MethodName := ⟨RJ5, "charAt", "(I)C"⟩
def dkwJ5_charAt_1 : List UInt8 := [172]
abbrev dktJ5_charAt_1 : List UInt8 := dkwJ5_charAt_1 ++ []
def dkwJ5_charAt_0 : List UInt8 := [42, 182, 1, 236, 153, 0, 12, 42, 180, 0, 9, 27, 184, 1, 239, 172, 42, 180, 0, 9, 27, 184, 1, 242]
abbrev dktJ5_charAt_0 : List UInt8 := dkwJ5_charAt_0 ++ dktJ5_charAt_1
theorem dksJ5_charAt_0 : cJ5_charAt.data.toList.drop 0 = dktJ5_charAt_0 := by decide +kernel
theorem dksJ5_charAt_1 : cJ5_charAt.data.toList.drop 24 = dktJ5_charAt_1 := dk_seg dksJ5_charAt_0 24 rfl rfl
theorem dJ5_charAt_0 : decode cJ5_charAt 0 = .ok (.aload_n 0, 1) := dk_42 (dk_at dksJ5_charAt_0 0 rfl rfl)
theorem dJ5_charAt_1 : decode cJ5_charAt 1 = .ok (.invokevirtual 492, 3) := dk_182 1 236 (dk_at dksJ5_charAt_0 1 rfl rfl)
theorem dJ5_charAt_4 : decode cJ5_charAt 4 = .ok (.ifCond .eq 12, 3) := dk_153 0 12 (dk_at dksJ5_charAt_0 4 rfl rfl)
theorem dJ5_charAt_7 : decode cJ5_charAt 7 = .ok (.aload_n 0, 1) := dk_42 (dk_at dksJ5_charAt_0 7 rfl rfl)
theorem dJ5_charAt_8 : decode cJ5_charAt 8 = .ok (.getfield 9, 3) := dk_180 0 9 (dk_at dksJ5_charAt_0 8 rfl rfl)
theorem dJ5_charAt_11 : decode cJ5_charAt 11 = .ok (.iload_n 1, 1) := dk_27 (dk_at dksJ5_charAt_0 11 rfl rfl)
theorem dJ5_charAt_12 : decode cJ5_charAt 12 = .ok (.invokestatic 495, 3) := dk_184 1 239 (dk_at dksJ5_charAt_0 12 rfl rfl)
theorem dJ5_charAt_15 : decode cJ5_charAt 15 = .ok (.ireturn, 1) := dk_172 (dk_at dksJ5_charAt_0 15 rfl rfl)
theorem dJ5_charAt_16 : decode cJ5_charAt 16 = .ok (.aload_n 0, 1) := dk_42 (dk_at dksJ5_charAt_0 16 rfl rfl)
theorem dJ5_charAt_17 : decode cJ5_charAt 17 = .ok (.getfield 9, 3) := dk_180 0 9 (dk_at dksJ5_charAt_0 17 rfl rfl)
theorem dJ5_charAt_20 : decode cJ5_charAt 20 = .ok (.iload_n 1, 1) := dk_27 (dk_at dksJ5_charAt_0 20 rfl rfl)
theorem dJ5_charAt_21 : decode cJ5_charAt 21 = .ok (.invokestatic 498, 3) := dk_184 1 242 (dk_at dksJ5_charAt_0 21 rfl rfl)
theorem dJ5_charAt_24 : decode cJ5_charAt 24 = .ok (.ireturn, 1) := dk_172 (dk_at dksJ5_charAt_1 0 rfl rfl)
abbrev cJ5_checkIndex : ByteArray := prog_48_method_155_code
def yJ5_checkIndex : MethodName := ⟨RJ5, "checkIndex", "(II)V"⟩
def dkwJ5_checkIndex_0 : List UInt8 := [26, 27, 178, 4, 29, 184, 4, 35, 87, 177]
abbrev dktJ5_checkIndex_0 : List UInt8 := dkwJ5_checkIndex_0 ++ []
theorem dksJ5_checkIndex_0 : cJ5_checkIndex.data.toList.drop 0 = dktJ5_checkIndex_0 := by decide +kernel
theorem dJ5_checkIndex_0 : decode cJ5_checkIndex 0 = .ok (.iload_n 0, 1) := dk_26 (dk_at dksJ5_checkIndex_0 0 rfl rfl)
theorem dJ5_checkIndex_1 : decode cJ5_checkIndex 1 = .ok (.iload_n 1, 1) := dk_27 (dk_at dksJ5_checkIndex_0 1 rfl rfl)
theorem dJ5_checkIndex_2 : decode cJ5_checkIndex 2 = .ok (.getstatic 1053, 3) := dk_178 4 29 (dk_at dksJ5_checkIndex_0 2 rfl rfl)
theorem dJ5_checkIndex_5 : decode cJ5_checkIndex 5 = .ok (.invokestatic 1059, 3) := dk_184 4 35 (dk_at dksJ5_checkIndex_0 5 rfl rfl)
theorem dJ5_checkIndex_8 : decode cJ5_checkIndex 8 = .ok (.pop, 1) := dk_87 (dk_at dksJ5_checkIndex_0 8 rfl rfl)
theorem dJ5_checkIndex_9 : decode cJ5_checkIndex 9 = .ok (.return_, 1) := dk_177 (dk_at dksJ5_checkIndex_0 9 rfl rfl)
theorem q138 : (Jvm.Cond.initialized "java/lang/String") ∈ lw_all := lw_g (lw_at lw_m1 15 rfl) rfl
theorem q595 : (Jvm.Cond.instanceMethod ({ cls := "java/lang/String", name := "indexOf", desc := "(I)I" } : Jvm.MethodName)) ∈ lw_all := lw_g (lw_at lw_m2 232 rfl) rfl
theorem q596 : (Jvm.Cond.selects "java/lang/String" ({ cls := "java/lang/String", name := "indexOf", desc := "(I)I" } : Jvm.MethodName) ({ cls := "java/lang/String", name := "indexOf", desc := "(I)I" } : Jvm.MethodName)) ∈ lw_all := lw_g (lw_at lw_m2 233 rfl) rfl
theorem q597 : (Jvm.Cond.code ({ cls := "java/lang/String", name := "indexOf", desc := "(I)I" } : Jvm.MethodName) prog_48_method_79_code (2 : Nat) (Option.some Jvm.ClassFile.FieldType.int)) ∈ lw_all := lw_g (lw_at lw_m2 234 rfl) rfl
theorem q598 : (Jvm.Cond.methodLink "java/lang/String" (633 : Nat) ({ cls := "java/lang/String", name := "indexOf", desc := "(II)I" } : Jvm.MethodName)) ∈ lw_all := lw_g (lw_at lw_m2 235 rfl) rfl
theorem q599 : (Jvm.Cond.instanceMethod ({ cls := "java/lang/String", name := "indexOf", desc := "(II)I" } : Jvm.MethodName)) ∈ lw_all := lw_g (lw_at lw_m2 236 rfl) rfl
theorem q600 : (Jvm.Cond.selects "java/lang/String" ({ cls := "java/lang/String", name := "indexOf", desc := "(II)I" } : Jvm.MethodName) ({ cls := "java/lang/String", name := "indexOf", desc := "(II)I" } : Jvm.MethodName)) ∈ lw_all := lw_g (lw_at lw_m2 237 rfl) rfl
theorem q601 : (Jvm.Cond.code ({ cls := "java/lang/String", name := "indexOf", desc := "(II)I" } : Jvm.MethodName) prog_48_method_80_code (3 : Nat) (Option.some Jvm.ClassFile.FieldType.int)) ∈ lw_all := lw_g (lw_at lw_m2 238 rfl) rfl
theorem q602 : (Jvm.Cond.methodLink "java/lang/String" (492 : Nat) ({ cls := "java/lang/String", name := "isLatin1", desc := "()Z" } : Jvm.MethodName)) ∈ lw_all := lw_g (lw_at lw_m2 239 rfl) rfl
theorem q603 : (Jvm.Cond.instanceMethod ({ cls := "java/lang/String", name := "isLatin1", desc := "()Z" } : Jvm.MethodName)) ∈ lw_all := lw_g (lw_at lw_m3 0 rfl) rfl
theorem q604 : (Jvm.Cond.selects "java/lang/String" ({ cls := "java/lang/String", name := "isLatin1", desc := "()Z" } : Jvm.MethodName) ({ cls := "java/lang/String", name := "isLatin1", desc := "()Z" } : Jvm.MethodName)) ∈ lw_all := lw_g (lw_at lw_m3 1 rfl) rfl
theorem q605 : (Jvm.Cond.code ({ cls := "java/lang/String", name := "isLatin1", desc := "()Z" } : Jvm.MethodName) prog_48_method_154_code (1 : Nat) (Option.some Jvm.ClassFile.FieldType.boolean)) ∈ lw_all := lw_g (lw_at lw_m3 2 rfl) rfl
theorem q606 : (Jvm.Cond.fieldLink "java/lang/String" (38 : Nat) "java/lang/String" "COMPACT_STRINGS" "Z") ∈ lw_all := lw_g (lw_at lw_m3 3 rfl) rfl
theorem q607 : (Jvm.Cond.laysStatic "java/lang/String" "COMPACT_STRINGS" "Z") ∈ lw_tbl := lw_at lw_m3 4 rfl
theorem q608 : (Jvm.Cond.methodLink "java/lang/String" (505 : Nat) ({ cls := "java/lang/String", name := "length", desc := "()I" } : Jvm.MethodName)) ∈ lw_all := lw_g (lw_at lw_m3 5 rfl) rfl
theorem q609 : (Jvm.Cond.instanceMethod ({ cls := "java/lang/String", name := "length", desc := "()I" } : Jvm.MethodName)) ∈ lw_all := lw_g (lw_at lw_m3 6 rfl) rfl
theorem q610 : (Jvm.Cond.selects "java/lang/String" ({ cls := "java/lang/String", name := "length", desc := "()I" } : Jvm.MethodName) ({ cls := "java/lang/String", name := "length", desc := "()I" } : Jvm.MethodName)) ∈ lw_all := lw_g (lw_at lw_m3 7 rfl) rfl
theorem q611 : (Jvm.Cond.code ({ cls := "java/lang/String", name := "length", desc := "()I" } : Jvm.MethodName) prog_48_method_54_code (1 : Nat) (Option.some Jvm.ClassFile.FieldType.int)) ∈ lw_all := lw_g (lw_at lw_m3 8 rfl) rfl
theorem q612 : (Jvm.Cond.methodLink "java/lang/String" (335 : Nat) ({ cls := "java/lang/String", name := "coder", desc := "()B" } : Jvm.MethodName)) ∈ lw_all := lw_g (lw_at lw_m3 9 rfl) rfl
theorem q613 : (Jvm.Cond.instanceMethod ({ cls := "java/lang/String", name := "coder", desc := "()B" } : Jvm.MethodName)) ∈ lw_all := lw_g (lw_at lw_m3 10 rfl) rfl
theorem q614 : (Jvm.Cond.selects "java/lang/String" ({ cls := "java/lang/String", name := "coder", desc := "()B" } : Jvm.MethodName) ({ cls := "java/lang/String", name := "coder", desc := "()B" } : Jvm.MethodName)) ∈ lw_all := lw_g (lw_at lw_m3 11 rfl) rfl
theorem q615 : (Jvm.Cond.code ({ cls := "java/lang/String", name := "coder", desc := "()B" } : Jvm.MethodName) prog_48_method_152_code (1 : Nat) (Option.some Jvm.ClassFile.FieldType.byte)) ∈ lw_all := lw_g (lw_at lw_m3 12 rfl) rfl
theorem q616 : (Jvm.Cond.methodLink "java/lang/String" (637 : Nat) ({ cls := "java/lang/StringLatin1", name := "indexOf", desc := "([BIII)I" } : Jvm.MethodName)) ∈ lw_all := lw_g (lw_at lw_m3 13 rfl) rfl
theorem q631 : (Jvm.Cond.methodLink "java/lang/String" (640 : Nat) ({ cls := "java/lang/StringUTF16", name := "indexOf", desc := "([BIII)I" } : Jvm.MethodName)) ∈ lw_all := lw_g (lw_at lw_m3 28 rfl) rfl
theorem q647 : (Jvm.Cond.static ({ cls := "java/lang/String", name := "checkBoundsBeginEnd", desc := "(III)V" } : Jvm.MethodName)) ∈ lw_all := lw_g (lw_at lw_m3 44 rfl) rfl
theorem q648 : (Jvm.Cond.code ({ cls := "java/lang/String", name := "checkBoundsBeginEnd", desc := "(III)V" } : Jvm.MethodName) prog_48_method_158_code (3 : Nat) (Option.none : Option Jvm.ClassFile.FieldType)) ∈ lw_all := lw_g (lw_at lw_m3 45 rfl) rfl
theorem q649 : (Jvm.Cond.fieldLink "java/lang/String" (1053 : Nat) "jdk/internal/util/Preconditions" "SIOOBE_FORMATTER" "Ljava/util/function/BiFunction;") ∈ lw_all := lw_g (lw_at lw_m3 46 rfl) rfl
theorem q651 : (Jvm.Cond.methodLink "java/lang/String" (1062 : Nat) ({ cls := "jdk/internal/util/Preconditions", name := "checkFromToIndex", desc := "(IIILjava/util/function/BiFunction;)I" } : Jvm.MethodName)) ∈ lw_all := lw_g (lw_at lw_m3 48 rfl) rfl
theorem q691 : (Jvm.Cond.instanceMethod ({ cls := "java/lang/String", name := "charAt", desc := "(I)C" } : Jvm.MethodName)) ∈ lw_all := lw_g (lw_at lw_m3 88 rfl) rfl
theorem q692 : (Jvm.Cond.selects "java/lang/String" ({ cls := "java/lang/String", name := "charAt", desc := "(I)C" } : Jvm.MethodName) ({ cls := "java/lang/String", name := "charAt", desc := "(I)C" } : Jvm.MethodName)) ∈ lw_all := lw_g (lw_at lw_m3 89 rfl) rfl
theorem q693 : (Jvm.Cond.code ({ cls := "java/lang/String", name := "charAt", desc := "(I)C" } : Jvm.MethodName) prog_48_method_56_code (2 : Nat) (Option.some Jvm.ClassFile.FieldType.char)) ∈ lw_all := lw_g (lw_at lw_m3 90 rfl) rfl
theorem q694 : (Jvm.Cond.methodLink "java/lang/String" (495 : Nat) ({ cls := "java/lang/StringLatin1", name := "charAt", desc := "([BI)C" } : Jvm.MethodName)) ∈ lw_all := lw_g (lw_at lw_m3 91 rfl) rfl
theorem q698 : (Jvm.Cond.static ({ cls := "java/lang/String", name := "checkIndex", desc := "(II)V" } : Jvm.MethodName)) ∈ lw_all := lw_g (lw_at lw_m3 95 rfl) rfl
theorem q699 : (Jvm.Cond.code ({ cls := "java/lang/String", name := "checkIndex", desc := "(II)V" } : Jvm.MethodName) prog_48_method_155_code (2 : Nat) (Option.none : Option Jvm.ClassFile.FieldType)) ∈ lw_all := lw_g (lw_at lw_m3 96 rfl) rfl
theorem q700 : (Jvm.Cond.methodLink "java/lang/String" (1059 : Nat) ({ cls := "jdk/internal/util/Preconditions", name := "checkIndex", desc := "(IILjava/util/function/BiFunction;)I" } : Jvm.MethodName)) ∈ lw_all := lw_g (lw_at lw_m3 97 rfl) rfl
theorem q701 : (Jvm.Cond.methodLink "java/lang/String" (498 : Nat) ({ cls := "java/lang/StringUTF16", name := "charAt", desc := "([BI)C" } : Jvm.MethodName)) ∈ lw_all := lw_g (lw_at lw_m3 98 rfl) rfl
theorem q2601 : (Jvm.Cond.castable "java/lang/String" "java/lang/Object") ∈ lw_tbl := lw_at lw_m11 78 rfl
theorem q2648 : (Jvm.Cond.fieldLink "java/lang/String" (15 : Nat) "java/lang/String" "coder" "B") ∈ lw_all := lw_g (lw_at lw_m11 125 rfl) rfl
theorem q2649 : (Jvm.Cond.fieldLink "java/lang/String" (9 : Nat) "java/lang/String" "value" "[B") ∈ lw_all := lw_g (lw_at lw_m11 126 rfl) rfl
/-! java/lang/StringLatin1 -/
set_option maxRecDepth 100000
def RJ6 : String := "java/lang/StringLatin1"
abbrev cJ6_indexOf : ByteArray := prog_49_method_22_code
def yJ6_indexOf : MethodName := ⟨RJ6, "indexOf", "([BIII)I"⟩
def dkwJ6_indexOf_1 : List UInt8 := [161, 0, 5, 2, 172, 42, 27, 28, 29, 184, 0, 95, 172]
abbrev dktJ6_indexOf_1 : List UInt8 := dkwJ6_indexOf_1 ++ []
def dkwJ6_indexOf_0 : List UInt8 := [27, 184, 0, 88, 154, 0, 5, 2, 172, 28, 3, 184, 0, 92, 61, 29, 42, 190, 184, 0, 38, 62, 28, 29]
abbrev dktJ6_indexOf_0 : List UInt8 := dkwJ6_indexOf_0 ++ dktJ6_indexOf_1
theorem dksJ6_indexOf_0 : cJ6_indexOf.data.toList.drop 0 = dktJ6_indexOf_0 := by decide +kernel
theorem dksJ6_indexOf_1 : cJ6_indexOf.data.toList.drop 24 = dktJ6_indexOf_1 := dk_seg dksJ6_indexOf_0 24 rfl rfl
theorem dJ6_indexOf_0 : decode cJ6_indexOf 0 = .ok (.iload_n 1, 1) := dk_27 (dk_at dksJ6_indexOf_0 0 rfl rfl)
theorem dJ6_indexOf_1 : decode cJ6_indexOf 1 = .ok (.invokestatic 88, 3) := dk_184 0 88 (dk_at dksJ6_indexOf_0 1 rfl rfl)
theorem dJ6_indexOf_4 : decode cJ6_indexOf 4 = .ok (.ifCond .ne 5, 3) := dk_154 0 5 (dk_at dksJ6_indexOf_0 4 rfl rfl)
theorem dJ6_indexOf_7 : decode cJ6_indexOf 7 = .ok (.iconst (-1), 1) := dk_2 (dk_at dksJ6_indexOf_0 7 rfl rfl)
theorem dJ6_indexOf_8 : decode cJ6_indexOf 8 = .ok (.ireturn, 1) := dk_172 (dk_at dksJ6_indexOf_0 8 rfl rfl)
theorem dJ6_indexOf_9 : decode cJ6_indexOf 9 = .ok (.iload_n 2, 1) := dk_28 (dk_at dksJ6_indexOf_0 9 rfl rfl)
theorem dJ6_indexOf_10 : decode cJ6_indexOf 10 = .ok (.iconst 0, 1) := dk_3 (dk_at dksJ6_indexOf_0 10 rfl rfl)
theorem dJ6_indexOf_11 : decode cJ6_indexOf 11 = .ok (.invokestatic 92, 3) := dk_184 0 92 (dk_at dksJ6_indexOf_0 11 rfl rfl)
theorem dJ6_indexOf_14 : decode cJ6_indexOf 14 = .ok (.istore_n 2, 1) := dk_61 (dk_at dksJ6_indexOf_0 14 rfl rfl)
theorem dJ6_indexOf_15 : decode cJ6_indexOf 15 = .ok (.iload_n 3, 1) := dk_29 (dk_at dksJ6_indexOf_0 15 rfl rfl)
theorem dJ6_indexOf_16 : decode cJ6_indexOf 16 = .ok (.aload_n 0, 1) := dk_42 (dk_at dksJ6_indexOf_0 16 rfl rfl)
theorem dJ6_indexOf_17 : decode cJ6_indexOf 17 = .ok (.arraylength, 1) := dk_190 (dk_at dksJ6_indexOf_0 17 rfl rfl)
theorem dJ6_indexOf_18 : decode cJ6_indexOf 18 = .ok (.invokestatic 38, 3) := dk_184 0 38 (dk_at dksJ6_indexOf_0 18 rfl rfl)
theorem dJ6_indexOf_21 : decode cJ6_indexOf 21 = .ok (.istore_n 3, 1) := dk_62 (dk_at dksJ6_indexOf_0 21 rfl rfl)
theorem dJ6_indexOf_22 : decode cJ6_indexOf 22 = .ok (.iload_n 2, 1) := dk_28 (dk_at dksJ6_indexOf_0 22 rfl rfl)
theorem dJ6_indexOf_23 : decode cJ6_indexOf 23 = .ok (.iload_n 3, 1) := dk_29 (dk_at dksJ6_indexOf_0 23 rfl rfl)
theorem dJ6_indexOf_24 : decode cJ6_indexOf 24 = .ok (.if_icmp .lt 5, 3) := dk_161 0 5 (dk_at dksJ6_indexOf_1 0 rfl rfl)
theorem dJ6_indexOf_27 : decode cJ6_indexOf 27 = .ok (.iconst (-1), 1) := dk_2 (dk_at dksJ6_indexOf_1 3 rfl rfl)
theorem dJ6_indexOf_28 : decode cJ6_indexOf 28 = .ok (.ireturn, 1) := dk_172 (dk_at dksJ6_indexOf_1 4 rfl rfl)
theorem dJ6_indexOf_29 : decode cJ6_indexOf 29 = .ok (.aload_n 0, 1) := dk_42 (dk_at dksJ6_indexOf_1 5 rfl rfl)
theorem dJ6_indexOf_30 : decode cJ6_indexOf 30 = .ok (.iload_n 1, 1) := dk_27 (dk_at dksJ6_indexOf_1 6 rfl rfl)
theorem dJ6_indexOf_31 : decode cJ6_indexOf 31 = .ok (.iload_n 2, 1) := dk_28 (dk_at dksJ6_indexOf_1 7 rfl rfl)
theorem dJ6_indexOf_32 : decode cJ6_indexOf 32 = .ok (.iload_n 3, 1) := dk_29 (dk_at dksJ6_indexOf_1 8 rfl rfl)
theorem dJ6_indexOf_33 : decode cJ6_indexOf 33 = .ok (.invokestatic 95, 3) := dk_184 0 95 (dk_at dksJ6_indexOf_1 9 rfl rfl)
theorem dJ6_indexOf_36 : decode cJ6_indexOf 36 = .ok (.ireturn, 1) := dk_172 (dk_at dksJ6_indexOf_1 12 rfl rfl)
abbrev cJ6_canEncode : ByteArray := prog_49_method_4_code
def yJ6_canEncode : MethodName := ⟨RJ6, "canEncode", "(I)Z"⟩
def dkwJ6_canEncode_0 : List UInt8 := [26, 155, 0, 14, 26, 17, 0, 255, 163, 0, 7, 4, 167, 0, 4, 3, 172]
abbrev dktJ6_canEncode_0 : List UInt8 := dkwJ6_canEncode_0 ++ []
theorem dksJ6_canEncode_0 : cJ6_canEncode.data.toList.drop 0 = dktJ6_canEncode_0 := by decide +kernel
theorem dJ6_canEncode_0 : decode cJ6_canEncode 0 = .ok (.iload_n 0, 1) := dk_26 (dk_at dksJ6_canEncode_0 0 rfl rfl)
theorem dJ6_canEncode_1 : decode cJ6_canEncode 1 = .ok (.ifCond .lt 14, 3) := dk_155 0 14 (dk_at dksJ6_canEncode_0 1 rfl rfl)
theorem dJ6_canEncode_4 : decode cJ6_canEncode 4 = .ok (.iload_n 0, 1) := dk_26 (dk_at dksJ6_canEncode_0 4 rfl rfl)
theorem dJ6_canEncode_5 : decode cJ6_canEncode 5 = .ok (.sipush 255, 3) := dk_17 0 255 (dk_at dksJ6_canEncode_0 5 rfl rfl)
theorem dJ6_canEncode_8 : decode cJ6_canEncode 8 = .ok (.if_icmp .gt 7, 3) := dk_163 0 7 (dk_at dksJ6_canEncode_0 8 rfl rfl)
theorem dJ6_canEncode_11 : decode cJ6_canEncode 11 = .ok (.iconst 1, 1) := dk_4 (dk_at dksJ6_canEncode_0 11 rfl rfl)
theorem dJ6_canEncode_12 : decode cJ6_canEncode 12 = .ok (.goto 4, 3) := dk_167 0 4 (dk_at dksJ6_canEncode_0 12 rfl rfl)
theorem dJ6_canEncode_15 : decode cJ6_canEncode 15 = .ok (.iconst 0, 1) := dk_3 (dk_at dksJ6_canEncode_0 15 rfl rfl)
theorem dJ6_canEncode_16 : decode cJ6_canEncode 16 = .ok (.ireturn, 1) := dk_172 (dk_at dksJ6_canEncode_0 16 rfl rfl)
abbrev cJ6_indexOfChar : ByteArray := prog_49_method_23_code
def yJ6_indexOfChar : MethodName := ⟨RJ6, "indexOfChar", "([BIII)I"⟩
def dkwJ6_indexOfChar_1 : List UInt8 := [172, 132, 5, 1, 167, 255, 235, 2, 172]
abbrev dktJ6_indexOfChar_1 : List UInt8 := dkwJ6_indexOfChar_1 ++ []
def dkwJ6_indexOfChar_0 : List UInt8 := [27, 145, 54, 4, 28, 54, 5, 21, 5, 29, 162, 0, 21, 42, 21, 5, 51, 21, 4, 160, 0, 6, 21, 5]
abbrev dktJ6_indexOfChar_0 : List UInt8 := dkwJ6_indexOfChar_0 ++ dktJ6_indexOfChar_1
theorem dksJ6_indexOfChar_0 : cJ6_indexOfChar.data.toList.drop 0 = dktJ6_indexOfChar_0 := by decide +kernel
theorem dksJ6_indexOfChar_1 : cJ6_indexOfChar.data.toList.drop 24 = dktJ6_indexOfChar_1 := dk_seg dksJ6_indexOfChar_0 24 rfl rfl
theorem dJ6_indexOfChar_0 : decode cJ6_indexOfChar 0 = .ok (.iload_n 1, 1) := dk_27 (dk_at dksJ6_indexOfChar_0 0 rfl rfl)
theorem dJ6_indexOfChar_1 : decode cJ6_indexOfChar 1 = .ok (.i2b, 1) := dk_145 (dk_at dksJ6_indexOfChar_0 1 rfl rfl)
theorem dJ6_indexOfChar_2 : decode cJ6_indexOfChar 2 = .ok (.istore 4, 2) := dk_54 4 (dk_at dksJ6_indexOfChar_0 2 rfl rfl)
theorem dJ6_indexOfChar_4 : decode cJ6_indexOfChar 4 = .ok (.iload_n 2, 1) := dk_28 (dk_at dksJ6_indexOfChar_0 4 rfl rfl)
theorem dJ6_indexOfChar_5 : decode cJ6_indexOfChar 5 = .ok (.istore 5, 2) := dk_54 5 (dk_at dksJ6_indexOfChar_0 5 rfl rfl)
theorem dJ6_indexOfChar_7 : decode cJ6_indexOfChar 7 = .ok (.iload 5, 2) := dk_21 5 (dk_at dksJ6_indexOfChar_0 7 rfl rfl)
theorem dJ6_indexOfChar_9 : decode cJ6_indexOfChar 9 = .ok (.iload_n 3, 1) := dk_29 (dk_at dksJ6_indexOfChar_0 9 rfl rfl)
theorem dJ6_indexOfChar_10 : decode cJ6_indexOfChar 10 = .ok (.if_icmp .ge 21, 3) := dk_162 0 21 (dk_at dksJ6_indexOfChar_0 10 rfl rfl)
theorem dJ6_indexOfChar_13 : decode cJ6_indexOfChar 13 = .ok (.aload_n 0, 1) := dk_42 (dk_at dksJ6_indexOfChar_0 13 rfl rfl)
theorem dJ6_indexOfChar_14 : decode cJ6_indexOfChar 14 = .ok (.iload 5, 2) := dk_21 5 (dk_at dksJ6_indexOfChar_0 14 rfl rfl)
theorem dJ6_indexOfChar_16 : decode cJ6_indexOfChar 16 = .ok (.baload, 1) := dk_51 (dk_at dksJ6_indexOfChar_0 16 rfl rfl)
theorem dJ6_indexOfChar_17 : decode cJ6_indexOfChar 17 = .ok (.iload 4, 2) := dk_21 4 (dk_at dksJ6_indexOfChar_0 17 rfl rfl)
theorem dJ6_indexOfChar_19 : decode cJ6_indexOfChar 19 = .ok (.if_icmp .ne 6, 3) := dk_160 0 6 (dk_at dksJ6_indexOfChar_0 19 rfl rfl)
theorem dJ6_indexOfChar_22 : decode cJ6_indexOfChar 22 = .ok (.iload 5, 2) := dk_21 5 (dk_at dksJ6_indexOfChar_0 22 rfl rfl)
theorem dJ6_indexOfChar_24 : decode cJ6_indexOfChar 24 = .ok (.ireturn, 1) := dk_172 (dk_at dksJ6_indexOfChar_1 0 rfl rfl)
theorem dJ6_indexOfChar_25 : decode cJ6_indexOfChar 25 = .ok (.iinc 5 1, 3) := dk_132 5 1 (dk_at dksJ6_indexOfChar_1 1 rfl rfl)
theorem dJ6_indexOfChar_28 : decode cJ6_indexOfChar 28 = .ok (.goto (-21), 3) := dk_167 255 235 (dk_at dksJ6_indexOfChar_1 4 rfl rfl)
theorem dJ6_indexOfChar_31 : decode cJ6_indexOfChar 31 = .ok (.iconst (-1), 1) := dk_2 (dk_at dksJ6_indexOfChar_1 7 rfl rfl)
theorem dJ6_indexOfChar_32 : decode cJ6_indexOfChar 32 = .ok (.ireturn, 1) := dk_172 (dk_at dksJ6_indexOfChar_1 8 rfl rfl)
abbrev cJ6_charAt : ByteArray := prog_49_method_2_code
def yJ6_charAt : MethodName := ⟨RJ6, "charAt", "([BI)C"⟩
def dkwJ6_charAt_0 : List UInt8 := [27, 42, 190, 184, 0, 9, 42, 27, 51, 17, 0, 255, 126, 146, 172]
abbrev dktJ6_charAt_0 : List UInt8 := dkwJ6_charAt_0 ++ []
theorem dksJ6_charAt_0 : cJ6_charAt.data.toList.drop 0 = dktJ6_charAt_0 := by decide +kernel
theorem dJ6_charAt_0 : decode cJ6_charAt 0 = .ok (.iload_n 1, 1) := dk_27 (dk_at dksJ6_charAt_0 0 rfl rfl)
theorem dJ6_charAt_1 : decode cJ6_charAt 1 = .ok (.aload_n 0, 1) := dk_42 (dk_at dksJ6_charAt_0 1 rfl rfl)
theorem dJ6_charAt_2 : decode cJ6_charAt 2 = .ok (.arraylength, 1) := dk_190 (dk_at dksJ6_charAt_0 2 rfl rfl)
theorem dJ6_charAt_3 : decode cJ6_charAt 3 = .ok (.invokestatic 9, 3) := dk_184 0 9 (dk_at dksJ6_charAt_0 3 rfl rfl)
theorem dJ6_charAt_6 : decode cJ6_charAt 6 = .ok (.aload_n 0, 1) := dk_42 (dk_at dksJ6_charAt_0 6 rfl rfl)
theorem dJ6_charAt_7 : decode cJ6_charAt 7 = .ok (.iload_n 1, 1) := dk_27 (dk_at dksJ6_charAt_0 7 rfl rfl)
theorem dJ6_charAt_8 : decode cJ6_charAt 8 = .ok (.baload, 1) := dk_51 (dk_at dksJ6_charAt_0 8 rfl rfl)
theorem dJ6_charAt_9 : decode cJ6_charAt 9 = .ok (.sipush 255, 3) := dk_17 0 255 (dk_at dksJ6_charAt_0 9 rfl rfl)
theorem dJ6_charAt_12 : decode cJ6_charAt 12 = .ok (.iand, 1) := dk_126 (dk_at dksJ6_charAt_0 12 rfl rfl)
theorem dJ6_charAt_13 : decode cJ6_charAt 13 = .ok (.i2c, 1) := dk_146 (dk_at dksJ6_charAt_0 13 rfl rfl)
theorem dJ6_charAt_14 : decode cJ6_charAt 14 = .ok (.ireturn, 1) := dk_172 (dk_at dksJ6_charAt_0 14 rfl rfl)
theorem q139 : (Jvm.Cond.initialized "java/lang/StringLatin1") ∈ lw_all := lw_g (lw_at lw_m1 16 rfl) rfl
theorem q617 : (Jvm.Cond.static ({ cls := "java/lang/StringLatin1", name := "indexOf", desc := "([BIII)I" } : Jvm.MethodName)) ∈ lw_all := lw_g (lw_at lw_m3 14 rfl) rfl
theorem q618 : (Jvm.Cond.code ({ cls := "java/lang/StringLatin1", name := "indexOf", desc := "([BIII)I" } : Jvm.MethodName) prog_49_method_22_code (4 : Nat) (Option.some Jvm.ClassFile.FieldType.int)) ∈ lw_all := lw_g (lw_at lw_m3 15 rfl) rfl
theorem q619 : (Jvm.Cond.methodLink "java/lang/StringLatin1" (88 : Nat) ({ cls := "java/lang/StringLatin1", name := "canEncode", desc := "(I)Z" } : Jvm.MethodName)) ∈ lw_all := lw_g (lw_at lw_m3 16 rfl) rfl
theorem q620 : (Jvm.Cond.static ({ cls := "java/lang/StringLatin1", name := "canEncode", desc := "(I)Z" } : Jvm.MethodName)) ∈ lw_all := lw_g (lw_at lw_m3 17 rfl) rfl
theorem q621 : (Jvm.Cond.code ({ cls := "java/lang/StringLatin1", name := "canEncode", desc := "(I)Z" } : Jvm.MethodName) prog_49_method_4_code (1 : Nat) (Option.some Jvm.ClassFile.FieldType.boolean)) ∈ lw_all := lw_g (lw_at lw_m3 18 rfl) rfl
theorem q622 : (Jvm.Cond.methodLink "java/lang/StringLatin1" (92 : Nat) ({ cls := "java/lang/Math", name := "max", desc := "(II)I" } : Jvm.MethodName)) ∈ lw_all := lw_g (lw_at lw_m3 19 rfl) rfl
theorem q625 : (Jvm.Cond.methodLink "java/lang/StringLatin1" (38 : Nat) ({ cls := "java/lang/Math", name := "min", desc := "(II)I" } : Jvm.MethodName)) ∈ lw_all := lw_g (lw_at lw_m3 22 rfl) rfl
theorem q628 : (Jvm.Cond.methodLink "java/lang/StringLatin1" (95 : Nat) ({ cls := "java/lang/StringLatin1", name := "indexOfChar", desc := "([BIII)I" } : Jvm.MethodName)) ∈ lw_all := lw_g (lw_at lw_m3 25 rfl) rfl
theorem q629 : (Jvm.Cond.static ({ cls := "java/lang/StringLatin1", name := "indexOfChar", desc := "([BIII)I" } : Jvm.MethodName)) ∈ lw_all := lw_g (lw_at lw_m3 26 rfl) rfl
theorem q630 : (Jvm.Cond.code ({ cls := "java/lang/StringLatin1", name := "indexOfChar", desc := "([BIII)I" } : Jvm.MethodName) prog_49_method_23_code (6 : Nat) (Option.some Jvm.ClassFile.FieldType.int)) ∈ lw_all := lw_g (lw_at lw_m3 27 rfl) rfl
theorem q695 : (Jvm.Cond.static ({ cls := "java/lang/StringLatin1", name := "charAt", desc := "([BI)C" } : Jvm.MethodName)) ∈ lw_all := lw_g (lw_at lw_m3 92 rfl) rfl
theorem q696 : (Jvm.Cond.code ({ cls := "java/lang/StringLatin1", name := "charAt", desc := "([BI)C" } : Jvm.MethodName) prog_49_method_2_code (2 : Nat) (Option.some Jvm.ClassFile.FieldType.char)) ∈ lw_all := lw_g (lw_at lw_m3 93 rfl) rfl
theorem q697 : (Jvm.Cond.methodLink "java/lang/StringLatin1" (9 : Nat) ({ cls := "java/lang/String", name := "checkIndex", desc := "(II)V" } : Jvm.MethodName)) ∈ lw_all := lw_g (lw_at lw_m3 94 rfl) rfl
/-! java/lang/Math -/
set_option maxRecDepth 100000
def RJ7 : String := "java/lang/Math"
abbrev cJ7_max : ByteArray := prog_45_method_65_code
def yJ7_max : MethodName := ⟨RJ7, "max", "(II)I"⟩
def dkwJ7_max_0 : List UInt8 := [26, 27, 161, 0, 7, 26, 167, 0, 4, 27, 172]
abbrev dktJ7_max_0 : List UInt8 := dkwJ7_max_0 ++ []
theorem dksJ7_max_0 : cJ7_max.data.toList.drop 0 = dktJ7_max_0 := by decide +kernel
theorem dJ7_max_0 : decode cJ7_max 0 = .ok (.iload_n 0, 1) := dk_26 (dk_at dksJ7_max_0 0 rfl rfl)
theorem dJ7_max_1 : decode cJ7_max 1 = .ok (.iload_n 1, 1) := dk_27 (dk_at dksJ7_max_0 1 rfl rfl)
theorem dJ7_max_2 : decode cJ7_max 2 = .ok (.if_icmp .lt 7, 3) := dk_161 0 7 (dk_at dksJ7_max_0 2 rfl rfl)
theorem dJ7_max_5 : decode cJ7_max 5 = .ok (.iload_n 0, 1) := dk_26 (dk_at dksJ7_max_0 5 rfl rfl)
theorem dJ7_max_6 : decode cJ7_max 6 = .ok (.goto 4, 3) := dk_167 0 4 (dk_at dksJ7_max_0 6 rfl rfl)
theorem dJ7_max_9 : decode cJ7_max 9 = .ok (.iload_n 1, 1) := dk_27 (dk_at dksJ7_max_0 9 rfl rfl)
theorem dJ7_max_10 : decode cJ7_max 10 = .ok (.ireturn, 1) := dk_172 (dk_at dksJ7_max_0 10 rfl rfl)
abbrev cJ7_min : ByteArray := prog_45_method_69_code
def yJ7_min : MethodName := ⟨RJ7, "min", "(II)I"⟩
def dkwJ7_min_0 : List UInt8 := [26, 27, 163, 0, 7, 26, 167, 0, 4, 27, 172]
abbrev dktJ7_min_0 : List UInt8 := dkwJ7_min_0 ++ []
theorem dksJ7_min_0 : cJ7_min.data.toList.drop 0 = dktJ7_min_0 := by decide +kernel
theorem dJ7_min_0 : decode cJ7_min 0 = .ok (.iload_n 0, 1) := dk_26 (dk_at dksJ7_min_0 0 rfl rfl)
theorem dJ7_min_1 : decode cJ7_min 1 = .ok (.iload_n 1, 1) := dk_27 (dk_at dksJ7_min_0 1 rfl rfl)
theorem dJ7_min_2 : decode cJ7_min 2 = .ok (.if_icmp .gt 7, 3) := dk_163 0 7 (dk_at dksJ7_min_0 2 rfl rfl)
theorem dJ7_min_5 : decode cJ7_min 5 = .ok (.iload_n 0, 1) := dk_26 (dk_at dksJ7_min_0 5 rfl rfl)
theorem dJ7_min_6 : decode cJ7_min 6 = .ok (.goto 4, 3) := dk_167 0 4 (dk_at dksJ7_min_0 6 rfl rfl)
theorem dJ7_min_9 : decode cJ7_min 9 = .ok (.iload_n 1, 1) := dk_27 (dk_at dksJ7_min_0 9 rfl rfl)
theorem dJ7_min_10 : decode cJ7_min 10 = .ok (.ireturn, 1) := dk_172 (dk_at dksJ7_min_0 10 rfl rfl)
abbrev cJ7_abs : ByteArray := prog_45_method_59_code
def yJ7_abs : MethodName := ⟨RJ7, "abs", "(I)I"⟩
def dkwJ7_abs_0 : List UInt8 := [26, 156, 0, 8, 26, 116, 167, 0, 4, 26, 172]
abbrev dktJ7_abs_0 : List UInt8 := dkwJ7_abs_0 ++ []
theorem dksJ7_abs_0 : cJ7_abs.data.toList.drop 0 = dktJ7_abs_0 := by decide +kernel
theorem dJ7_abs_0 : decode cJ7_abs 0 = .ok (.iload_n 0, 1) := dk_26 (dk_at dksJ7_abs_0 0 rfl rfl)
theorem dJ7_abs_1 : decode cJ7_abs 1 = .ok (.ifCond .ge 8, 3) := dk_156 0 8 (dk_at dksJ7_abs_0 1 rfl rfl)
theorem dJ7_abs_4 : decode cJ7_abs 4 = .ok (.iload_n 0, 1) := dk_26 (dk_at dksJ7_abs_0 4 rfl rfl)
theorem dJ7_abs_5 : decode cJ7_abs 5 = .ok (.ineg, 1) := dk_116 (dk_at dksJ7_abs_0 5 rfl rfl)
theorem dJ7_abs_6 : decode cJ7_abs 6 = .ok (.goto 4, 3) := dk_167 0 4 (dk_at dksJ7_abs_0 6 rfl rfl)
theorem dJ7_abs_9 : decode cJ7_abs 9 = .ok (.iload_n 0, 1) := dk_26 (dk_at dksJ7_abs_0 9 rfl rfl)
theorem dJ7_abs_10 : decode cJ7_abs 10 = .ok (.ireturn, 1) := dk_172 (dk_at dksJ7_abs_0 10 rfl rfl)
theorem q140 : (Jvm.Cond.initialized "java/lang/Math") ∈ lw_all := lw_g (lw_at lw_m1 17 rfl) rfl
theorem q623 : (Jvm.Cond.static ({ cls := "java/lang/Math", name := "max", desc := "(II)I" } : Jvm.MethodName)) ∈ lw_all := lw_g (lw_at lw_m3 20 rfl) rfl
theorem q624 : (Jvm.Cond.code ({ cls := "java/lang/Math", name := "max", desc := "(II)I" } : Jvm.MethodName) prog_45_method_65_code (2 : Nat) (Option.some Jvm.ClassFile.FieldType.int)) ∈ lw_all := lw_g (lw_at lw_m3 21 rfl) rfl
theorem q626 : (Jvm.Cond.static ({ cls := "java/lang/Math", name := "min", desc := "(II)I" } : Jvm.MethodName)) ∈ lw_all := lw_g (lw_at lw_m3 23 rfl) rfl
theorem q627 : (Jvm.Cond.code ({ cls := "java/lang/Math", name := "min", desc := "(II)I" } : Jvm.MethodName) prog_45_method_69_code (2 : Nat) (Option.some Jvm.ClassFile.FieldType.int)) ∈ lw_all := lw_g (lw_at lw_m3 24 rfl) rfl
theorem q1492 : (Jvm.Cond.static ({ cls := "java/lang/Math", name := "abs", desc := "(I)I" } : Jvm.MethodName)) ∈ lw_all := lw_g (lw_at lw_m6 169 rfl) rfl
theorem q1493 : (Jvm.Cond.code ({ cls := "java/lang/Math", name := "abs", desc := "(I)I" } : Jvm.MethodName) prog_45_method_59_code (1 : Nat) (Option.some Jvm.ClassFile.FieldType.int)) ∈ lw_all := lw_g (lw_at lw_m6 170 rfl) rfl
/-! java/lang/StringUTF16 -/
set_option maxRecDepth 100000
def RJ8 : String := "java/lang/StringUTF16"
abbrev cJ8_indexOf : ByteArray := prog_50_method_40_code
def yJ8_indexOf : MethodName := ⟨RJ8, "indexOf", "([BIII)I"⟩
def dkwJ8_indexOf_1 : List UInt8 := [18, 227, 162, 0, 11, 42, 27, 28, 29, 184, 0, 228, 172, 42, 27, 28, 29, 184, 0, 232, 172]
abbrev dktJ8_indexOf_1 : List UInt8 := dkwJ8_indexOf_1 ++ []
def dkwJ8_indexOf_0 : List UInt8 := [28, 3, 184, 0, 224, 61, 29, 42, 190, 4, 122, 184, 0, 183, 62, 28, 29, 161, 0, 5, 2, 172, 27]
abbrev dktJ8_indexOf_0 : List UInt8 := dkwJ8_indexOf_0 ++ dktJ8_indexOf_1
theorem dksJ8_indexOf_0 : cJ8_indexOf.data.toList.drop 0 = dktJ8_indexOf_0 := by decide +kernel
theorem dksJ8_indexOf_1 : cJ8_indexOf.data.toList.drop 23 = dktJ8_indexOf_1 := dk_seg dksJ8_indexOf_0 23 rfl rfl
theorem dJ8_indexOf_0 : decode cJ8_indexOf 0 = .ok (.iload_n 2, 1) := dk_28 (dk_at dksJ8_indexOf_0 0 rfl rfl)
theorem dJ8_indexOf_1 : decode cJ8_indexOf 1 = .ok (.iconst 0, 1) := dk_3 (dk_at dksJ8_indexOf_0 1 rfl rfl)
theorem dJ8_indexOf_2 : decode cJ8_indexOf 2 = .ok (.invokestatic 224, 3) := dk_184 0 224 (dk_at dksJ8_indexOf_0 2 rfl rfl)
theorem dJ8_indexOf_5 : decode cJ8_indexOf 5 = .ok (.istore_n 2, 1) := dk_61 (dk_at dksJ8_indexOf_0 5 rfl rfl)
theorem dJ8_indexOf_6 : decode cJ8_indexOf 6 = .ok (.iload_n 3, 1) := dk_29 (dk_at dksJ8_indexOf_0 6 rfl rfl)
theorem dJ8_indexOf_7 : decode cJ8_indexOf 7 = .ok (.aload_n 0, 1) := dk_42 (dk_at dksJ8_indexOf_0 7 rfl rfl)
theorem dJ8_indexOf_8 : decode cJ8_indexOf 8 = .ok (.arraylength, 1) := dk_190 (dk_at dksJ8_indexOf_0 8 rfl rfl)
theorem dJ8_indexOf_9 : decode cJ8_indexOf 9 = .ok (.iconst 1, 1) := dk_4 (dk_at dksJ8_indexOf_0 9 rfl rfl)
theorem dJ8_indexOf_10 : decode cJ8_indexOf 10 = .ok (.ishr, 1) := dk_122 (dk_at dksJ8_indexOf_0 10 rfl rfl)
theorem dJ8_indexOf_11 : decode cJ8_indexOf 11 = .ok (.invokestatic 183, 3) := dk_184 0 183 (dk_at dksJ8_indexOf_0 11 rfl rfl)
theorem dJ8_indexOf_14 : decode cJ8_indexOf 14 = .ok (.istore_n 3, 1) := dk_62 (dk_at dksJ8_indexOf_0 14 rfl rfl)
theorem dJ8_indexOf_15 : decode cJ8_indexOf 15 = .ok (.iload_n 2, 1) := dk_28 (dk_at dksJ8_indexOf_0 15 rfl rfl)
theorem dJ8_indexOf_16 : decode cJ8_indexOf 16 = .ok (.iload_n 3, 1) := dk_29 (dk_at dksJ8_indexOf_0 16 rfl rfl)
theorem dJ8_indexOf_17 : decode cJ8_indexOf 17 = .ok (.if_icmp .lt 5, 3) := dk_161 0 5 (dk_at dksJ8_indexOf_0 17 rfl rfl)
theorem dJ8_indexOf_20 : decode cJ8_indexOf 20 = .ok (.iconst (-1), 1) := dk_2 (dk_at dksJ8_indexOf_0 20 rfl rfl)
theorem dJ8_indexOf_21 : decode cJ8_indexOf 21 = .ok (.ireturn, 1) := dk_172 (dk_at dksJ8_indexOf_0 21 rfl rfl)
theorem dJ8_indexOf_22 : decode cJ8_indexOf 22 = .ok (.iload_n 1, 1) := dk_27 (dk_at dksJ8_indexOf_0 22 rfl rfl)
theorem dJ8_indexOf_23 : decode cJ8_indexOf 23 = .ok (.ldc 227, 2) := dk_18 227 (dk_at dksJ8_indexOf_1 0 rfl rfl)
theorem dJ8_indexOf_25 : decode cJ8_indexOf 25 = .ok (.if_icmp .ge 11, 3) := dk_162 0 11 (dk_at dksJ8_indexOf_1 2 rfl rfl)
theorem dJ8_indexOf_28 : decode cJ8_indexOf 28 = .ok (.aload_n 0, 1) := dk_42 (dk_at dksJ8_indexOf_1 5 rfl rfl)
theorem dJ8_indexOf_29 : decode cJ8_indexOf 29 = .ok (.iload_n 1, 1) := dk_27 (dk_at dksJ8_indexOf_1 6 rfl rfl)
theorem dJ8_indexOf_30 : decode cJ8_indexOf 30 = .ok (.iload_n 2, 1) := dk_28 (dk_at dksJ8_indexOf_1 7 rfl rfl)
theorem dJ8_indexOf_31 : decode cJ8_indexOf 31 = .ok (.iload_n 3, 1) := dk_29 (dk_at dksJ8_indexOf_1 8 rfl rfl)
theorem dJ8_indexOf_32 : decode cJ8_indexOf 32 = .ok (.invokestatic 228, 3) := dk_184 0 228 (dk_at dksJ8_indexOf_1 9 rfl rfl)
theorem dJ8_indexOf_35 : decode cJ8_indexOf 35 = .ok (.ireturn, 1) := dk_172 (dk_at dksJ8_indexOf_1 12 rfl rfl)
theorem dJ8_indexOf_36 : decode cJ8_indexOf 36 = .ok (.aload_n 0, 1) := dk_42 (dk_at dksJ8_indexOf_1 13 rfl rfl)
theorem dJ8_indexOf_37 : decode cJ8_indexOf 37 = .ok (.iload_n 1, 1) := dk_27 (dk_at dksJ8_indexOf_1 14 rfl rfl)
theorem dJ8_indexOf_38 : decode cJ8_indexOf 38 = .ok (.iload_n 2, 1) := dk_28 (dk_at dksJ8_indexOf_1 15 rfl rfl)
theorem dJ8_indexOf_39 : decode cJ8_indexOf 39 = .ok (.iload_n 3, 1) := dk_29 (dk_at dksJ8_indexOf_1 16 rfl rfl)
theorem dJ8_indexOf_40 : decode cJ8_indexOf 40 = .ok (.invokestatic 232, 3) := dk_184 0 232 (dk_at dksJ8_indexOf_1 17 rfl rfl)
theorem dJ8_indexOf_43 : decode cJ8_indexOf 43 = .ok (.ireturn, 1) := dk_172 (dk_at dksJ8_indexOf_1 20 rfl rfl)
abbrev cJ8_indexOfChar : ByteArray := prog_50_method_47_code
def yJ8_indexOfChar : MethodName := ⟨RJ8, "indexOfChar", "([BIII)I"⟩
def dkwJ8_indexOfChar_0 : List UInt8 := [28, 29, 42, 184, 0, 96, 42, 27, 28, 29, 184, 0, 244, 172]
abbrev dktJ8_indexOfChar_0 : List UInt8 := dkwJ8_indexOfChar_0 ++ []
theorem dksJ8_indexOfChar_0 : cJ8_indexOfChar.data.toList.drop 0 = dktJ8_indexOfChar_0 := by decide +kernel
theorem dJ8_indexOfChar_0 : decode cJ8_indexOfChar 0 = .ok (.iload_n 2, 1) := dk_28 (dk_at dksJ8_indexOfChar_0 0 rfl rfl)
theorem dJ8_indexOfChar_1 : decode cJ8_indexOfChar 1 = .ok (.iload_n 3, 1) := dk_29 (dk_at dksJ8_indexOfChar_0 1 rfl rfl)
theorem dJ8_indexOfChar_2 : decode cJ8_indexOfChar 2 = .ok (.aload_n 0, 1) := dk_42 (dk_at dksJ8_indexOfChar_0 2 rfl rfl)
theorem dJ8_indexOfChar_3 : decode cJ8_indexOfChar 3 = .ok (.invokestatic 96, 3) := dk_184 0 96 (dk_at dksJ8_indexOfChar_0 3 rfl rfl)
theorem dJ8_indexOfChar_6 : decode cJ8_indexOfChar 6 = .ok (.aload_n 0, 1) := dk_42 (dk_at dksJ8_indexOfChar_0 6 rfl rfl)
theorem dJ8_indexOfChar_7 : decode cJ8_indexOfChar 7 = .ok (.iload_n 1, 1) := dk_27 (dk_at dksJ8_indexOfChar_0 7 rfl rfl)
theorem dJ8_indexOfChar_8 : decode cJ8_indexOfChar 8 = .ok (.iload_n 2, 1) := dk_28 (dk_at dksJ8_indexOfChar_0 8 rfl rfl)
theorem dJ8_indexOfChar_9 : decode cJ8_indexOfChar 9 = .ok (.iload_n 3, 1) := dk_29 (dk_at dksJ8_indexOfChar_0 9 rfl rfl)
theorem dJ8_indexOfChar_10 : decode cJ8_indexOfChar 10 = .ok (.invokestatic 244, 3) := dk_184 0 244 (dk_at dksJ8_indexOfChar_0 10 rfl rfl)
theorem dJ8_indexOfChar_13 : decode cJ8_indexOfChar 13 = .ok (.ireturn, 1) := dk_172 (dk_at dksJ8_indexOfChar_0 13 rfl rfl)
abbrev cJ8_checkBoundsBeginEnd : ByteArray := prog_50_method_93_code
def yJ8_checkBoundsBeginEnd : MethodName := ⟨RJ8, "checkBoundsBeginEnd", "(II[B)V"⟩
def dkwJ8_checkBoundsBeginEnd_0 : List UInt8 := [26, 27, 44, 184, 0, 48, 184, 0, 241, 177]
abbrev dktJ8_checkBoundsBeginEnd_0 : List UInt8 := dkwJ8_checkBoundsBeginEnd_0 ++ []
theorem dksJ8_checkBoundsBeginEnd_0 : cJ8_checkBoundsBeginEnd.data.toList.drop 0 = dktJ8_checkBoundsBeginEnd_0 := by decide +kernel
theorem dJ8_checkBoundsBeginEnd_0 : decode cJ8_checkBoundsBeginEnd 0 = .ok (.iload_n 0, 1) := dk_26 (dk_at dksJ8_checkBoundsBeginEnd_0 0 rfl rfl)
theorem dJ8_checkBoundsBeginEnd_1 : decode cJ8_checkBoundsBeginEnd 1 = .ok (.iload_n 1, 1) := dk_27 (dk_at dksJ8_checkBoundsBeginEnd_0 1 rfl rfl)
theorem dJ8_checkBoundsBeginEnd_2 : decode cJ8_checkBoundsBeginEnd 2 = .ok (.aload_n 2, 1) := dk_44 (dk_at dksJ8_checkBoundsBeginEnd_0 2 rfl rfl)
theorem dJ8_checkBoundsBeginEnd_3 : decode cJ8_checkBoundsBeginEnd 3 = .ok (.invokestatic 48, 3) := dk_184 0 48 (dk_at dksJ8_checkBoundsBeginEnd_0 3 rfl rfl)
theorem dJ8_checkBoundsBeginEnd_6 : decode cJ8_checkBoundsBeginEnd 6 = .ok (.invokestatic 241, 3) := dk_184 0 241 (dk_at dksJ8_checkBoundsBeginEnd_0 6 rfl rfl)
theorem dJ8_checkBoundsBeginEnd_9 : decode cJ8_checkBoundsBeginEnd 9 = .ok (.return_, 1) := dk_177 (dk_at dksJ8_checkBoundsBeginEnd_0 9 rfl rfl)
abbrev cJ8_length : ByteArray := prog_50_method_6_code
def yJ8_length : MethodName := ⟨RJ8, "length", "([B)I"⟩
def dkwJ8_length_0 : List UInt8 := [42, 190, 4, 122, 172]
abbrev dktJ8_length_0 : List UInt8 := dkwJ8_length_0 ++ []
theorem dksJ8_length_0 : cJ8_length.data.toList.drop 0 = dktJ8_length_0 := by decide +kernel
theorem dJ8_length_0 : decode cJ8_length 0 = .ok (.aload_n 0, 1) := dk_42 (dk_at dksJ8_length_0 0 rfl rfl)
theorem dJ8_length_1 : decode cJ8_length 1 = .ok (.arraylength, 1) := dk_190 (dk_at dksJ8_length_0 1 rfl rfl)
theorem dJ8_length_2 : decode cJ8_length 2 = .ok (.iconst 1, 1) := dk_4 (dk_at dksJ8_length_0 2 rfl rfl)
theorem dJ8_length_3 : decode cJ8_length 3 = .ok (.ishr, 1) := dk_122 (dk_at dksJ8_length_0 3 rfl rfl)
theorem dJ8_length_4 : decode cJ8_length 4 = .ok (.ireturn, 1) := dk_172 (dk_at dksJ8_length_0 4 rfl rfl)
abbrev cJ8_indexOfCharUnsafe : ByteArray := prog_50_method_48_code
def yJ8_indexOfCharUnsafe : MethodName := ⟨RJ8, "indexOfCharUnsafe", "([BIII)I"⟩
def dkwJ8_indexOfCharUnsafe_1 : List UInt8 := [132, 4, 1, 167, 255, 234, 2, 172]
abbrev dktJ8_indexOfCharUnsafe_1 : List UInt8 := dkwJ8_indexOfCharUnsafe_1 ++ []
def dkwJ8_indexOfCharUnsafe_0 : List UInt8 := [28, 54, 4, 21, 4, 29, 162, 0, 22, 42, 21, 4, 184, 0, 71, 27, 160, 0, 6, 21, 4, 172]
abbrev dktJ8_indexOfCharUnsafe_0 : List UInt8 := dkwJ8_indexOfCharUnsafe_0 ++ dktJ8_indexOfCharUnsafe_1
theorem dksJ8_indexOfCharUnsafe_0 : cJ8_indexOfCharUnsafe.data.toList.drop 0 = dktJ8_indexOfCharUnsafe_0 := by decide +kernel
theorem dksJ8_indexOfCharUnsafe_1 : cJ8_indexOfCharUnsafe.data.toList.drop 22 = dktJ8_indexOfCharUnsafe_1 := dk_seg dksJ8_indexOfCharUnsafe_0 22 rfl rfl
theorem dJ8_indexOfCharUnsafe_0 : decode cJ8_indexOfCharUnsafe 0 = .ok (.iload_n 2, 1) := dk_28 (dk_at dksJ8_indexOfCharUnsafe_0 0 rfl rfl)
theorem dJ8_indexOfCharUnsafe_1 : decode cJ8_indexOfCharUnsafe 1 = .ok (.istore 4, 2) := dk_54 4 (dk_at dksJ8_indexOfCharUnsafe_0 1 rfl rfl)
theorem dJ8_indexOfCharUnsafe_3 : decode cJ8_indexOfCharUnsafe 3 = .ok (.iload 4, 2) := dk_21 4 (dk_at dksJ8_indexOfCharUnsafe_0 3 rfl rfl)
theorem dJ8_indexOfCharUnsafe_5 : decode cJ8_indexOfCharUnsafe 5 = .ok (.iload_n 3, 1) := dk_29 (dk_at dksJ8_indexOfCharUnsafe_0 5 rfl rfl)
theorem dJ8_indexOfCharUnsafe_6 : decode cJ8_indexOfCharUnsafe 6 = .ok (.if_icmp .ge 22, 3) := dk_162 0 22 (dk_at dksJ8_indexOfCharUnsafe_0 6 rfl rfl)
theorem dJ8_indexOfCharUnsafe_9 : decode cJ8_indexOfCharUnsafe 9 = .ok (.aload_n 0, 1) := dk_42 (dk_at dksJ8_indexOfCharUnsafe_0 9 rfl rfl)
theorem dJ8_indexOfCharUnsafe_10 : decode cJ8_indexOfCharUnsafe 10 = .ok (.iload 4, 2) := dk_21 4 (dk_at dksJ8_indexOfCharUnsafe_0 10 rfl rfl)
theorem dJ8_indexOfCharUnsafe_12 : decode cJ8_indexOfCharUnsafe 12 = .ok (.invokestatic 71, 3) := dk_184 0 71 (dk_at dksJ8_indexOfCharUnsafe_0 12 rfl rfl)
theorem dJ8_indexOfCharUnsafe_15 : decode cJ8_indexOfCharUnsafe 15 = .ok (.iload_n 1, 1) := dk_27 (dk_at dksJ8_indexOfCharUnsafe_0 15 rfl rfl)
theorem dJ8_indexOfCharUnsafe_16 : decode cJ8_indexOfCharUnsafe 16 = .ok (.if_icmp .ne 6, 3) := dk_160 0 6 (dk_at dksJ8_indexOfCharUnsafe_0 16 rfl rfl)
theorem dJ8_indexOfCharUnsafe_19 : decode cJ8_indexOfCharUnsafe 19 = .ok (.iload 4, 2) := dk_21 4 (dk_at dksJ8_indexOfCharUnsafe_0 19 rfl rfl)
theorem dJ8_indexOfCharUnsafe_21 : decode cJ8_indexOfCharUnsafe 21 = .ok (.ireturn, 1) := dk_172 (dk_at dksJ8_indexOfCharUnsafe_0 21 rfl rfl)
theorem dJ8_indexOfCharUnsafe_22 : decode cJ8_indexOfCharUnsafe 22 = .ok (.iinc 4 1, 3) := dk_132 4 1 (dk_at dksJ8_indexOfCharUnsafe_1 0 rfl rfl)
theorem dJ8_indexOfCharUnsafe_25 : decode cJ8_indexOfCharUnsafe 25 = .ok (.goto (-22), 3) := dk_167 255 234 (dk_at dksJ8_indexOfCharUnsafe_1 3 rfl rfl)
theorem dJ8_indexOfCharUnsafe_28 : decode cJ8_indexOfCharUnsafe 28 = .ok (.iconst (-1), 1) := dk_2 (dk_at dksJ8_indexOfCharUnsafe_1 6 rfl rfl)
theorem dJ8_indexOfCharUnsafe_29 : decode cJ8_indexOfCharUnsafe 29 = .ok (.ireturn, 1) := dk_172 (dk_at dksJ8_indexOfCharUnsafe_1 7 rfl rfl)
abbrev cJ8_getChar : ByteArray := prog_50_method_5_code
def yJ8_getChar : MethodName := ⟨RJ8, "getChar", "([BI)C"⟩
def dkwJ8_getChar_2 : List UInt8 := [51, 17, 0, 255, 126, 178, 0, 63, 120, 128, 146, 172]
abbrev dktJ8_getChar_2 : List UInt8 := dkwJ8_getChar_2 ++ []
def dkwJ8_getChar_1 : List UInt8 := [183, 0, 56, 191, 27, 4, 120, 60, 42, 27, 132, 1, 1, 51, 17, 0, 255, 126, 178, 0, 59, 120, 42, 27]
abbrev dktJ8_getChar_1 : List UInt8 := dkwJ8_getChar_1 ++ dktJ8_getChar_2
def dkwJ8_getChar_0 : List UInt8 := [178, 0, 44, 154, 0, 25, 27, 155, 0, 11, 27, 42, 184, 0, 48, 161, 0, 13, 187, 0, 52, 89, 18, 54]
abbrev dktJ8_getChar_0 : List UInt8 := dkwJ8_getChar_0 ++ dktJ8_getChar_1
theorem dksJ8_getChar_0 : cJ8_getChar.data.toList.drop 0 = dktJ8_getChar_0 := by decide +kernel
theorem dksJ8_getChar_1 : cJ8_getChar.data.toList.drop 24 = dktJ8_getChar_1 := dk_seg dksJ8_getChar_0 24 rfl rfl
theorem dksJ8_getChar_2 : cJ8_getChar.data.toList.drop 48 = dktJ8_getChar_2 := dk_seg dksJ8_getChar_1 24 rfl rfl
theorem dJ8_getChar_0 : decode cJ8_getChar 0 = .ok (.getstatic 44, 3) := dk_178 0 44 (dk_at dksJ8_getChar_0 0 rfl rfl)
theorem dJ8_getChar_3 : decode cJ8_getChar 3 = .ok (.ifCond .ne 25, 3) := dk_154 0 25 (dk_at dksJ8_getChar_0 3 rfl rfl)
theorem dJ8_getChar_6 : decode cJ8_getChar 6 = .ok (.iload_n 1, 1) := dk_27 (dk_at dksJ8_getChar_0 6 rfl rfl)
theorem dJ8_getChar_7 : decode cJ8_getChar 7 = .ok (.ifCond .lt 11, 3) := dk_155 0 11 (dk_at dksJ8_getChar_0 7 rfl rfl)
theorem dJ8_getChar_10 : decode cJ8_getChar 10 = .ok (.iload_n 1, 1) := dk_27 (dk_at dksJ8_getChar_0 10 rfl rfl)
theorem dJ8_getChar_11 : decode cJ8_getChar 11 = .ok (.aload_n 0, 1) := dk_42 (dk_at dksJ8_getChar_0 11 rfl rfl)
theorem dJ8_getChar_12 : decode cJ8_getChar 12 = .ok (.invokestatic 48, 3) := dk_184 0 48 (dk_at dksJ8_getChar_0 12 rfl rfl)
theorem dJ8_getChar_15 : decode cJ8_getChar 15 = .ok (.if_icmp .lt 13, 3) := dk_161 0 13 (dk_at dksJ8_getChar_0 15 rfl rfl)
theorem dJ8_getChar_18 : decode cJ8_getChar 18 = .ok (.new 52, 3) := dk_187 0 52 (dk_at dksJ8_getChar_0 18 rfl rfl)
theorem dJ8_getChar_21 : decode cJ8_getChar 21 = .ok (.dup, 1) := dk_89 (dk_at dksJ8_getChar_0 21 rfl rfl)
theorem dJ8_getChar_22 : decode cJ8_getChar 22 = .ok (.ldc 54, 2) := dk_18 54 (dk_at dksJ8_getChar_0 22 rfl rfl)
theorem dJ8_getChar_24 : decode cJ8_getChar 24 = .ok (.invokespecial 56, 3) := dk_183 0 56 (dk_at dksJ8_getChar_1 0 rfl rfl)
theorem dJ8_getChar_27 : decode cJ8_getChar 27 = .ok (.athrow, 1) := dk_191 (dk_at dksJ8_getChar_1 3 rfl rfl)
theorem dJ8_getChar_28 : decode cJ8_getChar 28 = .ok (.iload_n 1, 1) := dk_27 (dk_at dksJ8_getChar_1 4 rfl rfl)
theorem dJ8_getChar_29 : decode cJ8_getChar 29 = .ok (.iconst 1, 1) := dk_4 (dk_at dksJ8_getChar_1 5 rfl rfl)
theorem dJ8_getChar_30 : decode cJ8_getChar 30 = .ok (.ishl, 1) := dk_120 (dk_at dksJ8_getChar_1 6 rfl rfl)
theorem dJ8_getChar_31 : decode cJ8_getChar 31 = .ok (.istore_n 1, 1) := dk_60 (dk_at dksJ8_getChar_1 7 rfl rfl)
theorem dJ8_getChar_32 : decode cJ8_getChar 32 = .ok (.aload_n 0, 1) := dk_42 (dk_at dksJ8_getChar_1 8 rfl rfl)
theorem dJ8_getChar_33 : decode cJ8_getChar 33 = .ok (.iload_n 1, 1) := dk_27 (dk_at dksJ8_getChar_1 9 rfl rfl)
theorem dJ8_getChar_34 : decode cJ8_getChar 34 = .ok (.iinc 1 1, 3) := dk_132 1 1 (dk_at dksJ8_getChar_1 10 rfl rfl)
theorem dJ8_getChar_37 : decode cJ8_getChar 37 = .ok (.baload, 1) := dk_51 (dk_at dksJ8_getChar_1 13 rfl rfl)
theorem dJ8_getChar_38 : decode cJ8_getChar 38 = .ok (.sipush 255, 3) := dk_17 0 255 (dk_at dksJ8_getChar_1 14 rfl rfl)
theorem dJ8_getChar_41 : decode cJ8_getChar 41 = .ok (.iand, 1) := dk_126 (dk_at dksJ8_getChar_1 17 rfl rfl)
theorem dJ8_getChar_42 : decode cJ8_getChar 42 = .ok (.getstatic 59, 3) := dk_178 0 59 (dk_at dksJ8_getChar_1 18 rfl rfl)
theorem dJ8_getChar_45 : decode cJ8_getChar 45 = .ok (.ishl, 1) := dk_120 (dk_at dksJ8_getChar_1 21 rfl rfl)
theorem dJ8_getChar_46 : decode cJ8_getChar 46 = .ok (.aload_n 0, 1) := dk_42 (dk_at dksJ8_getChar_1 22 rfl rfl)
theorem dJ8_getChar_47 : decode cJ8_getChar 47 = .ok (.iload_n 1, 1) := dk_27 (dk_at dksJ8_getChar_1 23 rfl rfl)
theorem dJ8_getChar_48 : decode cJ8_getChar 48 = .ok (.baload, 1) := dk_51 (dk_at dksJ8_getChar_2 0 rfl rfl)
theorem dJ8_getChar_49 : decode cJ8_getChar 49 = .ok (.sipush 255, 3) := dk_17 0 255 (dk_at dksJ8_getChar_2 1 rfl rfl)
theorem dJ8_getChar_52 : decode cJ8_getChar 52 = .ok (.iand, 1) := dk_126 (dk_at dksJ8_getChar_2 4 rfl rfl)
theorem dJ8_getChar_53 : decode cJ8_getChar 53 = .ok (.getstatic 63, 3) := dk_178 0 63 (dk_at dksJ8_getChar_2 5 rfl rfl)
theorem dJ8_getChar_56 : decode cJ8_getChar 56 = .ok (.ishl, 1) := dk_120 (dk_at dksJ8_getChar_2 8 rfl rfl)
theorem dJ8_getChar_57 : decode cJ8_getChar 57 = .ok (.ior, 1) := dk_128 (dk_at dksJ8_getChar_2 9 rfl rfl)
theorem dJ8_getChar_58 : decode cJ8_getChar 58 = .ok (.i2c, 1) := dk_146 (dk_at dksJ8_getChar_2 10 rfl rfl)
theorem dJ8_getChar_59 : decode cJ8_getChar 59 = .ok (.ireturn, 1) := dk_172 (dk_at dksJ8_getChar_2 11 rfl rfl)
abbrev cJ8_indexOfSupplementary : ByteArray := prog_50_method_49_code
def yJ8_indexOfSupplementary : MethodName := ⟨RJ8, "indexOfSupplementary", "([BIII)I"⟩
def dkwJ8_indexOfSupplementary_3 : List UInt8 := [167, 255, 218, 2, 172]
abbrev dktJ8_indexOfSupplementary_3 : List UInt8 := dkwJ8_indexOfSupplementary_3 ++ []
def dkwJ8_indexOfSupplementary_2 : List UInt8 := [160, 0, 19, 42, 21, 6, 4, 96, 184, 0, 71, 21, 5, 160, 0, 6, 21, 6, 172, 132, 6, 1]
abbrev dktJ8_indexOfSupplementary_2 : List UInt8 := dkwJ8_indexOfSupplementary_2 ++ dktJ8_indexOfSupplementary_3
def dkwJ8_indexOfSupplementary_1 : List UInt8 := [184, 0, 96, 28, 54, 6, 21, 6, 29, 4, 100, 162, 0, 36, 42, 21, 6, 184, 0, 71, 21, 4]
abbrev dktJ8_indexOfSupplementary_1 : List UInt8 := dkwJ8_indexOfSupplementary_1 ++ dktJ8_indexOfSupplementary_2
def dkwJ8_indexOfSupplementary_0 : List UInt8 := [27, 184, 0, 164, 153, 0, 65, 27, 184, 0, 157, 54, 4, 27, 184, 0, 161, 54, 5, 28, 29, 42]
abbrev dktJ8_indexOfSupplementary_0 : List UInt8 := dkwJ8_indexOfSupplementary_0 ++ dktJ8_indexOfSupplementary_1
theorem dksJ8_indexOfSupplementary_0 : cJ8_indexOfSupplementary.data.toList.drop 0 = dktJ8_indexOfSupplementary_0 := by decide +kernel
theorem dksJ8_indexOfSupplementary_1 : cJ8_indexOfSupplementary.data.toList.drop 22 = dktJ8_indexOfSupplementary_1 := dk_seg dksJ8_indexOfSupplementary_0 22 rfl rfl
theorem dksJ8_indexOfSupplementary_2 : cJ8_indexOfSupplementary.data.toList.drop 44 = dktJ8_indexOfSupplementary_2 := dk_seg dksJ8_indexOfSupplementary_1 22 rfl rfl
theorem dksJ8_indexOfSupplementary_3 : cJ8_indexOfSupplementary.data.toList.drop 66 = dktJ8_indexOfSupplementary_3 := dk_seg dksJ8_indexOfSupplementary_2 22 rfl rfl
theorem dJ8_indexOfSupplementary_0 : decode cJ8_indexOfSupplementary 0 = .ok (.iload_n 1, 1) := dk_27 (dk_at dksJ8_indexOfSupplementary_0 0 rfl rfl)
theorem dJ8_indexOfSupplementary_1 : decode cJ8_indexOfSupplementary 1 = .ok (.invokestatic 164, 3) := dk_184 0 164 (dk_at dksJ8_indexOfSupplementary_0 1 rfl rfl)
theorem dJ8_indexOfSupplementary_4 : decode cJ8_indexOfSupplementary 4 = .ok (.ifCond .eq 65, 3) := dk_153 0 65 (dk_at dksJ8_indexOfSupplementary_0 4 rfl rfl)
theorem dJ8_indexOfSupplementary_7 : decode cJ8_indexOfSupplementary 7 = .ok (.iload_n 1, 1) := dk_27 (dk_at dksJ8_indexOfSupplementary_0 7 rfl rfl)
theorem dJ8_indexOfSupplementary_8 : decode cJ8_indexOfSupplementary 8 = .ok (.invokestatic 157, 3) := dk_184 0 157 (dk_at dksJ8_indexOfSupplementary_0 8 rfl rfl)
theorem dJ8_indexOfSupplementary_11 : decode cJ8_indexOfSupplementary 11 = .ok (.istore 4, 2) := dk_54 4 (dk_at dksJ8_indexOfSupplementary_0 11 rfl rfl)
theorem dJ8_indexOfSupplementary_13 : decode cJ8_indexOfSupplementary 13 = .ok (.iload_n 1, 1) := dk_27 (dk_at dksJ8_indexOfSupplementary_0 13 rfl rfl)
theorem dJ8_indexOfSupplementary_14 : decode cJ8_indexOfSupplementary 14 = .ok (.invokestatic 161, 3) := dk_184 0 161 (dk_at dksJ8_indexOfSupplementary_0 14 rfl rfl)
theorem dJ8_indexOfSupplementary_17 : decode cJ8_indexOfSupplementary 17 = .ok (.istore 5, 2) := dk_54 5 (dk_at dksJ8_indexOfSupplementary_0 17 rfl rfl)
theorem dJ8_indexOfSupplementary_19 : decode cJ8_indexOfSupplementary 19 = .ok (.iload_n 2, 1) := dk_28 (dk_at dksJ8_indexOfSupplementary_0 19 rfl rfl)
theorem dJ8_indexOfSupplementary_20 : decode cJ8_indexOfSupplementary 20 = .ok (.iload_n 3, 1) := dk_29 (dk_at dksJ8_indexOfSupplementary_0 20 rfl rfl)
theorem dJ8_indexOfSupplementary_21 : decode cJ8_indexOfSupplementary 21 = .ok (.aload_n 0, 1) := dk_42 (dk_at dksJ8_indexOfSupplementary_0 21 rfl rfl)
theorem dJ8_indexOfSupplementary_22 : decode cJ8_indexOfSupplementary 22 = .ok (.invokestatic 96, 3) := dk_184 0 96 (dk_at dksJ8_indexOfSupplementary_1 0 rfl rfl)
theorem dJ8_indexOfSupplementary_25 : decode cJ8_indexOfSupplementary 25 = .ok (.iload_n 2, 1) := dk_28 (dk_at dksJ8_indexOfSupplementary_1 3 rfl rfl)
theorem dJ8_indexOfSupplementary_26 : decode cJ8_indexOfSupplementary 26 = .ok (.istore 6, 2) := dk_54 6 (dk_at dksJ8_indexOfSupplementary_1 4 rfl rfl)
theorem dJ8_indexOfSupplementary_28 : decode cJ8_indexOfSupplementary 28 = .ok (.iload 6, 2) := dk_21 6 (dk_at dksJ8_indexOfSupplementary_1 6 rfl rfl)
theorem dJ8_indexOfSupplementary_30 : decode cJ8_indexOfSupplementary 30 = .ok (.iload_n 3, 1) := dk_29 (dk_at dksJ8_indexOfSupplementary_1 8 rfl rfl)
theorem dJ8_indexOfSupplementary_31 : decode cJ8_indexOfSupplementary 31 = .ok (.iconst 1, 1) := dk_4 (dk_at dksJ8_indexOfSupplementary_1 9 rfl rfl)
theorem dJ8_indexOfSupplementary_32 : decode cJ8_indexOfSupplementary 32 = .ok (.isub, 1) := dk_100 (dk_at dksJ8_indexOfSupplementary_1 10 rfl rfl)
theorem dJ8_indexOfSupplementary_33 : decode cJ8_indexOfSupplementary 33 = .ok (.if_icmp .ge 36, 3) := dk_162 0 36 (dk_at dksJ8_indexOfSupplementary_1 11 rfl rfl)
theorem dJ8_indexOfSupplementary_36 : decode cJ8_indexOfSupplementary 36 = .ok (.aload_n 0, 1) := dk_42 (dk_at dksJ8_indexOfSupplementary_1 14 rfl rfl)
theorem dJ8_indexOfSupplementary_37 : decode cJ8_indexOfSupplementary 37 = .ok (.iload 6, 2) := dk_21 6 (dk_at dksJ8_indexOfSupplementary_1 15 rfl rfl)
theorem dJ8_indexOfSupplementary_39 : decode cJ8_indexOfSupplementary 39 = .ok (.invokestatic 71, 3) := dk_184 0 71 (dk_at dksJ8_indexOfSupplementary_1 17 rfl rfl)
theorem dJ8_indexOfSupplementary_42 : decode cJ8_indexOfSupplementary 42 = .ok (.iload 4, 2) := dk_21 4 (dk_at dksJ8_indexOfSupplementary_1 20 rfl rfl)
theorem dJ8_indexOfSupplementary_44 : decode cJ8_indexOfSupplementary 44 = .ok (.if_icmp .ne 19, 3) := dk_160 0 19 (dk_at dksJ8_indexOfSupplementary_2 0 rfl rfl)
theorem dJ8_indexOfSupplementary_47 : decode cJ8_indexOfSupplementary 47 = .ok (.aload_n 0, 1) := dk_42 (dk_at dksJ8_indexOfSupplementary_2 3 rfl rfl)
theorem dJ8_indexOfSupplementary_48 : decode cJ8_indexOfSupplementary 48 = .ok (.iload 6, 2) := dk_21 6 (dk_at dksJ8_indexOfSupplementary_2 4 rfl rfl)
theorem dJ8_indexOfSupplementary_50 : decode cJ8_indexOfSupplementary 50 = .ok (.iconst 1, 1) := dk_4 (dk_at dksJ8_indexOfSupplementary_2 6 rfl rfl)
theorem dJ8_indexOfSupplementary_51 : decode cJ8_indexOfSupplementary 51 = .ok (.iadd, 1) := dk_96 (dk_at dksJ8_indexOfSupplementary_2 7 rfl rfl)
theorem dJ8_indexOfSupplementary_52 : decode cJ8_indexOfSupplementary 52 = .ok (.invokestatic 71, 3) := dk_184 0 71 (dk_at dksJ8_indexOfSupplementary_2 8 rfl rfl)
theorem dJ8_indexOfSupplementary_55 : decode cJ8_indexOfSupplementary 55 = .ok (.iload 5, 2) := dk_21 5 (dk_at dksJ8_indexOfSupplementary_2 11 rfl rfl)
theorem dJ8_indexOfSupplementary_57 : decode cJ8_indexOfSupplementary 57 = .ok (.if_icmp .ne 6, 3) := dk_160 0 6 (dk_at dksJ8_indexOfSupplementary_2 13 rfl rfl)
theorem dJ8_indexOfSupplementary_60 : decode cJ8_indexOfSupplementary 60 = .ok (.iload 6, 2) := dk_21 6 (dk_at dksJ8_indexOfSupplementary_2 16 rfl rfl)
theorem dJ8_indexOfSupplementary_62 : decode cJ8_indexOfSupplementary 62 = .ok (.ireturn, 1) := dk_172 (dk_at dksJ8_indexOfSupplementary_2 18 rfl rfl)
theorem dJ8_indexOfSupplementary_63 : decode cJ8_indexOfSupplementary 63 = .ok (.iinc 6 1, 3) := dk_132 6 1 (dk_at dksJ8_indexOfSupplementary_2 19 rfl rfl)
theorem dJ8_indexOfSupplementary_66 : decode cJ8_indexOfSupplementary 66 = .ok (.goto (-38), 3) := dk_167 255 218 (dk_at dksJ8_indexOfSupplementary_3 0 rfl rfl)
theorem dJ8_indexOfSupplementary_69 : decode cJ8_indexOfSupplementary 69 = .ok (.iconst (-1), 1) := dk_2 (dk_at dksJ8_indexOfSupplementary_3 3 rfl rfl)
theorem dJ8_indexOfSupplementary_70 : decode cJ8_indexOfSupplementary 70 = .ok (.ireturn, 1) := dk_172 (dk_at dksJ8_indexOfSupplementary_3 4 rfl rfl)
abbrev cJ8_charAt : ByteArray := prog_50_method_83_code
def yJ8_charAt : MethodName := ⟨RJ8, "charAt", "([BI)C"⟩
def dkwJ8_charAt_0 : List UInt8 := [27, 42, 184, 0, 67, 42, 27, 184, 0, 71, 172]
abbrev dktJ8_charAt_0 : List UInt8 := dkwJ8_charAt_0 ++ []
theorem dksJ8_charAt_0 : cJ8_charAt.data.toList.drop 0 = dktJ8_charAt_0 := by decide +kernel
theorem dJ8_charAt_0 : decode cJ8_charAt 0 = .ok (.iload_n 1, 1) := dk_27 (dk_at dksJ8_charAt_0 0 rfl rfl)
theorem dJ8_charAt_1 : decode cJ8_charAt 1 = .ok (.aload_n 0, 1) := dk_42 (dk_at dksJ8_charAt_0 1 rfl rfl)
theorem dJ8_charAt_2 : decode cJ8_charAt 2 = .ok (.invokestatic 67, 3) := dk_184 0 67 (dk_at dksJ8_charAt_0 2 rfl rfl)
theorem dJ8_charAt_5 : decode cJ8_charAt 5 = .ok (.aload_n 0, 1) := dk_42 (dk_at dksJ8_charAt_0 5 rfl rfl)
theorem dJ8_charAt_6 : decode cJ8_charAt 6 = .ok (.iload_n 1, 1) := dk_27 (dk_at dksJ8_charAt_0 6 rfl rfl)
theorem dJ8_charAt_7 : decode cJ8_charAt 7 = .ok (.invokestatic 71, 3) := dk_184 0 71 (dk_at dksJ8_charAt_0 7 rfl rfl)
theorem dJ8_charAt_10 : decode cJ8_charAt 10 = .ok (.ireturn, 1) := dk_172 (dk_at dksJ8_charAt_0 10 rfl rfl)
abbrev cJ8_checkIndex : ByteArray := prog_50_method_91_code
def yJ8_checkIndex : MethodName := ⟨RJ8, "checkIndex", "(I[B)V"⟩
def dkwJ8_checkIndex_0 : List UInt8 := [26, 43, 184, 0, 48, 184, 1, 158, 177]
abbrev dktJ8_checkIndex_0 : List UInt8 := dkwJ8_checkIndex_0 ++ []
theorem dksJ8_checkIndex_0 : cJ8_checkIndex.data.toList.drop 0 = dktJ8_checkIndex_0 := by decide +kernel
theorem dJ8_checkIndex_0 : decode cJ8_checkIndex 0 = .ok (.iload_n 0, 1) := dk_26 (dk_at dksJ8_checkIndex_0 0 rfl rfl)
theorem dJ8_checkIndex_1 : decode cJ8_checkIndex 1 = .ok (.aload_n 1, 1) := dk_43 (dk_at dksJ8_checkIndex_0 1 rfl rfl)
theorem dJ8_checkIndex_2 : decode cJ8_checkIndex 2 = .ok (.invokestatic 48, 3) := dk_184 0 48 (dk_at dksJ8_checkIndex_0 2 rfl rfl)
theorem dJ8_checkIndex_5 : decode cJ8_checkIndex 5 = .ok (.invokestatic 414, 3) := dk_184 1 158 (dk_at dksJ8_checkIndex_0 5 rfl rfl)
theorem dJ8_checkIndex_8 : decode cJ8_checkIndex 8 = .ok (.return_, 1) := dk_177 (dk_at dksJ8_checkIndex_0 8 rfl rfl)
theorem q141 : (Jvm.Cond.initialized "java/lang/StringUTF16") ∈ lw_all := lw_g (lw_at lw_m1 18 rfl) rfl
theorem q632 : (Jvm.Cond.static ({ cls := "java/lang/StringUTF16", name := "indexOf", desc := "([BIII)I" } : Jvm.MethodName)) ∈ lw_all := lw_g (lw_at lw_m3 29 rfl) rfl
theorem q633 : (Jvm.Cond.code ({ cls := "java/lang/StringUTF16", name := "indexOf", desc := "([BIII)I" } : Jvm.MethodName) prog_50_method_40_code (4 : Nat) (Option.some Jvm.ClassFile.FieldType.int)) ∈ lw_all := lw_g (lw_at lw_m3 30 rfl) rfl
theorem q634 : (Jvm.Cond.methodLink "java/lang/StringUTF16" (224 : Nat) ({ cls := "java/lang/Math", name := "max", desc := "(II)I" } : Jvm.MethodName)) ∈ lw_all := lw_g (lw_at lw_m3 31 rfl) rfl
theorem q635 : (Jvm.Cond.methodLink "java/lang/StringUTF16" (183 : Nat) ({ cls := "java/lang/Math", name := "min", desc := "(II)I" } : Jvm.MethodName)) ∈ lw_all := lw_g (lw_at lw_m3 32 rfl) rfl
theorem q636 : (Jvm.Cond.constant "java/lang/StringUTF16" (227 : Nat) (65536 : Int32)) ∈ lw_all := lw_g (lw_at lw_m3 33 rfl) rfl
theorem q637 : (Jvm.Cond.methodLink "java/lang/StringUTF16" (228 : Nat) ({ cls := "java/lang/StringUTF16", name := "indexOfChar", desc := "([BIII)I" } : Jvm.MethodName)) ∈ lw_all := lw_g (lw_at lw_m3 34 rfl) rfl
theorem q638 : (Jvm.Cond.static ({ cls := "java/lang/StringUTF16", name := "indexOfChar", desc := "([BIII)I" } : Jvm.MethodName)) ∈ lw_all := lw_g (lw_at lw_m3 35 rfl) rfl
theorem q639 : (Jvm.Cond.code ({ cls := "java/lang/StringUTF16", name := "indexOfChar", desc := "([BIII)I" } : Jvm.MethodName) prog_50_method_47_code (4 : Nat) (Option.some Jvm.ClassFile.FieldType.int)) ∈ lw_all := lw_g (lw_at lw_m3 36 rfl) rfl
theorem q640 : (Jvm.Cond.methodLink "java/lang/StringUTF16" (96 : Nat) ({ cls := "java/lang/StringUTF16", name := "checkBoundsBeginEnd", desc := "(II[B)V" } : Jvm.MethodName)) ∈ lw_all := lw_g (lw_at lw_m3 37 rfl) rfl
theorem q641 : (Jvm.Cond.static ({ cls := "java/lang/StringUTF16", name := "checkBoundsBeginEnd", desc := "(II[B)V" } : Jvm.MethodName)) ∈ lw_all := lw_g (lw_at lw_m3 38 rfl) rfl
theorem q642 : (Jvm.Cond.code ({ cls := "java/lang/StringUTF16", name := "checkBoundsBeginEnd", desc := "(II[B)V" } : Jvm.MethodName) prog_50_method_93_code (3 : Nat) (Option.none : Option Jvm.ClassFile.FieldType)) ∈ lw_all := lw_g (lw_at lw_m3 39 rfl) rfl
theorem q643 : (Jvm.Cond.methodLink "java/lang/StringUTF16" (48 : Nat) ({ cls := "java/lang/StringUTF16", name := "length", desc := "([B)I" } : Jvm.MethodName)) ∈ lw_all := lw_g (lw_at lw_m3 40 rfl) rfl
theorem q644 : (Jvm.Cond.static ({ cls := "java/lang/StringUTF16", name := "length", desc := "([B)I" } : Jvm.MethodName)) ∈ lw_all := lw_g (lw_at lw_m3 41 rfl) rfl
theorem q645 : (Jvm.Cond.code ({ cls := "java/lang/StringUTF16", name := "length", desc := "([B)I" } : Jvm.MethodName) prog_50_method_6_code (1 : Nat) (Option.some Jvm.ClassFile.FieldType.int)) ∈ lw_all := lw_g (lw_at lw_m3 42 rfl) rfl
theorem q646 : (Jvm.Cond.methodLink "java/lang/StringUTF16" (241 : Nat) ({ cls := "java/lang/String", name := "checkBoundsBeginEnd", desc := "(III)V" } : Jvm.MethodName)) ∈ lw_all := lw_g (lw_at lw_m3 43 rfl) rfl
theorem q654 : (Jvm.Cond.methodLink "java/lang/StringUTF16" (244 : Nat) ({ cls := "java/lang/StringUTF16", name := "indexOfCharUnsafe", desc := "([BIII)I" } : Jvm.MethodName)) ∈ lw_all := lw_g (lw_at lw_m3 51 rfl) rfl
theorem q655 : (Jvm.Cond.static ({ cls := "java/lang/StringUTF16", name := "indexOfCharUnsafe", desc := "([BIII)I" } : Jvm.MethodName)) ∈ lw_all := lw_g (lw_at lw_m3 52 rfl) rfl
theorem q656 : (Jvm.Cond.code ({ cls := "java/lang/StringUTF16", name := "indexOfCharUnsafe", desc := "([BIII)I" } : Jvm.MethodName) prog_50_method_48_code (5 : Nat) (Option.some Jvm.ClassFile.FieldType.int)) ∈ lw_all := lw_g (lw_at lw_m3 53 rfl) rfl
theorem q657 : (Jvm.Cond.methodLink "java/lang/StringUTF16" (71 : Nat) ({ cls := "java/lang/StringUTF16", name := "getChar", desc := "([BI)C" } : Jvm.MethodName)) ∈ lw_all := lw_g (lw_at lw_m3 54 rfl) rfl
theorem q658 : (Jvm.Cond.static ({ cls := "java/lang/StringUTF16", name := "getChar", desc := "([BI)C" } : Jvm.MethodName)) ∈ lw_all := lw_g (lw_at lw_m3 55 rfl) rfl
theorem q659 : (Jvm.Cond.code ({ cls := "java/lang/StringUTF16", name := "getChar", desc := "([BI)C" } : Jvm.MethodName) prog_50_method_5_code (2 : Nat) (Option.some Jvm.ClassFile.FieldType.char)) ∈ lw_all := lw_g (lw_at lw_m3 56 rfl) rfl
theorem q660 : (Jvm.Cond.fieldLink "java/lang/StringUTF16" (44 : Nat) "java/lang/StringUTF16" "$assertionsDisabled" "Z") ∈ lw_all := lw_g (lw_at lw_m3 57 rfl) rfl
theorem q661 : (Jvm.Cond.laysStatic "java/lang/StringUTF16" "$assertionsDisabled" "Z") ∈ lw_tbl := lw_at lw_m3 58 rfl
theorem q662 : (Jvm.Cond.fieldLink "java/lang/StringUTF16" (59 : Nat) "java/lang/StringUTF16" "HI_BYTE_SHIFT" "I") ∈ lw_all := lw_g (lw_at lw_m3 59 rfl) rfl
theorem q663 : (Jvm.Cond.laysStatic "java/lang/StringUTF16" "HI_BYTE_SHIFT" "I") ∈ lw_tbl := lw_at lw_m3 60 rfl
theorem q664 : (Jvm.Cond.fieldLink "java/lang/StringUTF16" (63 : Nat) "java/lang/StringUTF16" "LO_BYTE_SHIFT" "I") ∈ lw_all := lw_g (lw_at lw_m3 61 rfl) rfl
theorem q665 : (Jvm.Cond.laysStatic "java/lang/StringUTF16" "LO_BYTE_SHIFT" "I") ∈ lw_tbl := lw_at lw_m3 62 rfl
theorem q666 : (Jvm.Cond.methodLink "java/lang/StringUTF16" (232 : Nat) ({ cls := "java/lang/StringUTF16", name := "indexOfSupplementary", desc := "([BIII)I" } : Jvm.MethodName)) ∈ lw_all := lw_g (lw_at lw_m3 63 rfl) rfl
theorem q667 : (Jvm.Cond.static ({ cls := "java/lang/StringUTF16", name := "indexOfSupplementary", desc := "([BIII)I" } : Jvm.MethodName)) ∈ lw_all := lw_g (lw_at lw_m3 64 rfl) rfl
theorem q668 : (Jvm.Cond.code ({ cls := "java/lang/StringUTF16", name := "indexOfSupplementary", desc := "([BIII)I" } : Jvm.MethodName) prog_50_method_49_code (7 : Nat) (Option.some Jvm.ClassFile.FieldType.int)) ∈ lw_all := lw_g (lw_at lw_m3 65 rfl) rfl
theorem q669 : (Jvm.Cond.methodLink "java/lang/StringUTF16" (164 : Nat) ({ cls := "java/lang/Character", name := "isValidCodePoint", desc := "(I)Z" } : Jvm.MethodName)) ∈ lw_all := lw_g (lw_at lw_m3 66 rfl) rfl
theorem q672 : (Jvm.Cond.methodLink "java/lang/StringUTF16" (157 : Nat) ({ cls := "java/lang/Character", name := "highSurrogate", desc := "(I)C" } : Jvm.MethodName)) ∈ lw_all := lw_g (lw_at lw_m3 69 rfl) rfl
theorem q676 : (Jvm.Cond.methodLink "java/lang/StringUTF16" (161 : Nat) ({ cls := "java/lang/Character", name := "lowSurrogate", desc := "(I)C" } : Jvm.MethodName)) ∈ lw_all := lw_g (lw_at lw_m3 73 rfl) rfl
theorem q702 : (Jvm.Cond.static ({ cls := "java/lang/StringUTF16", name := "charAt", desc := "([BI)C" } : Jvm.MethodName)) ∈ lw_all := lw_g (lw_at lw_m3 99 rfl) rfl
theorem q703 : (Jvm.Cond.code ({ cls := "java/lang/StringUTF16", name := "charAt", desc := "([BI)C" } : Jvm.MethodName) prog_50_method_83_code (2 : Nat) (Option.some Jvm.ClassFile.FieldType.char)) ∈ lw_all := lw_g (lw_at lw_m3 100 rfl) rfl
theorem q704 : (Jvm.Cond.methodLink "java/lang/StringUTF16" (67 : Nat) ({ cls := "java/lang/StringUTF16", name := "checkIndex", desc := "(I[B)V" } : Jvm.MethodName)) ∈ lw_all := lw_g (lw_at lw_m3 101 rfl) rfl
theorem q705 : (Jvm.Cond.static ({ cls := "java/lang/StringUTF16", name := "checkIndex", desc := "(I[B)V" } : Jvm.MethodName)) ∈ lw_all := lw_g (lw_at lw_m3 102 rfl) rfl
theorem q706 : (Jvm.Cond.code ({ cls := "java/lang/StringUTF16", name := "checkIndex", desc := "(I[B)V" } : Jvm.MethodName) prog_50_method_91_code (2 : Nat) (Option.none : Option Jvm.ClassFile.FieldType)) ∈ lw_all := lw_g (lw_at lw_m3 103 rfl) rfl
theorem q707 : (Jvm.Cond.methodLink "java/lang/StringUTF16" (414 : Nat) ({ cls := "java/lang/String", name := "checkIndex", desc := "(II)V" } : Jvm.MethodName)) ∈ lw_all := lw_g (lw_at lw_m3 104 rfl) rfl
/-! java/lang/Character -/
set_option maxRecDepth 100000
def RJ9 : String := "java/lang/Character"
abbrev cJ9_isValidCodePoint : ByteArray := prog_38_method_11_code
def yJ9_isValidCodePoint : MethodName := ⟨RJ9, "isValidCodePoint", "(I)Z"⟩
def dkwJ9_isValidCodePoint_0 : List UInt8 := [26, 16, 16, 124, 60, 27, 16, 17, 162, 0, 7, 4, 167, 0, 4, 3, 172]
abbrev dktJ9_isValidCodePoint_0 : List UInt8 := dkwJ9_isValidCodePoint_0 ++ []
theorem dksJ9_isValidCodePoint_0 : cJ9_isValidCodePoint.data.toList.drop 0 = dktJ9_isValidCodePoint_0 := by decide +kernel
theorem dJ9_isValidCodePoint_0 : decode cJ9_isValidCodePoint 0 = .ok (.iload_n 0, 1) := dk_26 (dk_at dksJ9_isValidCodePoint_0 0 rfl rfl)
theorem dJ9_isValidCodePoint_1 : decode cJ9_isValidCodePoint 1 = .ok (.bipush 16, 2) := dk_16 16 (dk_at dksJ9_isValidCodePoint_0 1 rfl rfl)
theorem dJ9_isValidCodePoint_3 : decode cJ9_isValidCodePoint 3 = .ok (.iushr, 1) := dk_124 (dk_at dksJ9_isValidCodePoint_0 3 rfl rfl)
theorem dJ9_isValidCodePoint_4 : decode cJ9_isValidCodePoint 4 = .ok (.istore_n 1, 1) := dk_60 (dk_at dksJ9_isValidCodePoint_0 4 rfl rfl)
theorem dJ9_isValidCodePoint_5 : decode cJ9_isValidCodePoint 5 = .ok (.iload_n 1, 1) := dk_27 (dk_at dksJ9_isValidCodePoint_0 5 rfl rfl)
theorem dJ9_isValidCodePoint_6 : decode cJ9_isValidCodePoint 6 = .ok (.bipush 17, 2) := dk_16 17 (dk_at dksJ9_isValidCodePoint_0 6 rfl rfl)
theorem dJ9_isValidCodePoint_8 : decode cJ9_isValidCodePoint 8 = .ok (.if_icmp .ge 7, 3) := dk_162 0 7 (dk_at dksJ9_isValidCodePoint_0 8 rfl rfl)
theorem dJ9_isValidCodePoint_11 : decode cJ9_isValidCodePoint 11 = .ok (.iconst 1, 1) := dk_4 (dk_at dksJ9_isValidCodePoint_0 11 rfl rfl)
theorem dJ9_isValidCodePoint_12 : decode cJ9_isValidCodePoint 12 = .ok (.goto 4, 3) := dk_167 0 4 (dk_at dksJ9_isValidCodePoint_0 12 rfl rfl)
theorem dJ9_isValidCodePoint_15 : decode cJ9_isValidCodePoint 15 = .ok (.iconst 0, 1) := dk_3 (dk_at dksJ9_isValidCodePoint_0 15 rfl rfl)
theorem dJ9_isValidCodePoint_16 : decode cJ9_isValidCodePoint 16 = .ok (.ireturn, 1) := dk_172 (dk_at dksJ9_isValidCodePoint_0 16 rfl rfl)
abbrev cJ9_highSurrogate : ByteArray := prog_38_method_28_code
def yJ9_highSurrogate : MethodName := ⟨RJ9, "highSurrogate", "(I)C"⟩
def dkwJ9_highSurrogate_0 : List UInt8 := [26, 16, 10, 124, 18, 110, 96, 146, 172]
abbrev dktJ9_highSurrogate_0 : List UInt8 := dkwJ9_highSurrogate_0 ++ []
theorem dksJ9_highSurrogate_0 : cJ9_highSurrogate.data.toList.drop 0 = dktJ9_highSurrogate_0 := by decide +kernel
theorem dJ9_highSurrogate_0 : decode cJ9_highSurrogate 0 = .ok (.iload_n 0, 1) := dk_26 (dk_at dksJ9_highSurrogate_0 0 rfl rfl)
theorem dJ9_highSurrogate_1 : decode cJ9_highSurrogate 1 = .ok (.bipush 10, 2) := dk_16 10 (dk_at dksJ9_highSurrogate_0 1 rfl rfl)
theorem dJ9_highSurrogate_3 : decode cJ9_highSurrogate 3 = .ok (.iushr, 1) := dk_124 (dk_at dksJ9_highSurrogate_0 3 rfl rfl)
theorem dJ9_highSurrogate_4 : decode cJ9_highSurrogate 4 = .ok (.ldc 110, 2) := dk_18 110 (dk_at dksJ9_highSurrogate_0 4 rfl rfl)
theorem dJ9_highSurrogate_6 : decode cJ9_highSurrogate 6 = .ok (.iadd, 1) := dk_96 (dk_at dksJ9_highSurrogate_0 6 rfl rfl)
theorem dJ9_highSurrogate_7 : decode cJ9_highSurrogate 7 = .ok (.i2c, 1) := dk_146 (dk_at dksJ9_highSurrogate_0 7 rfl rfl)
theorem dJ9_highSurrogate_8 : decode cJ9_highSurrogate 8 = .ok (.ireturn, 1) := dk_172 (dk_at dksJ9_highSurrogate_0 8 rfl rfl)
abbrev cJ9_lowSurrogate : ByteArray := prog_38_method_29_code
def yJ9_lowSurrogate : MethodName := ⟨RJ9, "lowSurrogate", "(I)C"⟩
def dkwJ9_lowSurrogate_0 : List UInt8 := [26, 17, 3, 255, 126, 18, 76, 96, 146, 172]
abbrev dktJ9_lowSurrogate_0 : List UInt8 := dkwJ9_lowSurrogate_0 ++ []
theorem dksJ9_lowSurrogate_0 : cJ9_lowSurrogate.data.toList.drop 0 = dktJ9_lowSurrogate_0 := by decide +kernel
theorem dJ9_lowSurrogate_0 : decode cJ9_lowSurrogate 0 = .ok (.iload_n 0, 1) := dk_26 (dk_at dksJ9_lowSurrogate_0 0 rfl rfl)
theorem dJ9_lowSurrogate_1 : decode cJ9_lowSurrogate 1 = .ok (.sipush 1023, 3) := dk_17 3 255 (dk_at dksJ9_lowSurrogate_0 1 rfl rfl)
theorem dJ9_lowSurrogate_4 : decode cJ9_lowSurrogate 4 = .ok (.iand, 1) := dk_126 (dk_at dksJ9_lowSurrogate_0 4 rfl rfl)
theorem dJ9_lowSurrogate_5 : decode cJ9_lowSurrogate 5 = .ok (.ldc 76, 2) := dk_18 76 (dk_at dksJ9_lowSurrogate_0 5 rfl rfl)
theorem dJ9_lowSurrogate_7 : decode cJ9_lowSurrogate 7 = .ok (.iadd, 1) := dk_96 (dk_at dksJ9_lowSurrogate_0 7 rfl rfl)
theorem dJ9_lowSurrogate_8 : decode cJ9_lowSurrogate 8 = .ok (.i2c, 1) := dk_146 (dk_at dksJ9_lowSurrogate_0 8 rfl rfl)
theorem dJ9_lowSurrogate_9 : decode cJ9_lowSurrogate 9 = .ok (.ireturn, 1) := dk_172 (dk_at dksJ9_lowSurrogate_0 9 rfl rfl)
theorem q142 : (Jvm.Cond.initialized "java/lang/Character") ∈ lw_all := lw_g (lw_at lw_m1 19 rfl) rfl
theorem q670 : (Jvm.Cond.static ({ cls := "java/lang/Character", name := "isValidCodePoint", desc := "(I)Z" } : Jvm.MethodName)) ∈ lw_all := lw_g (lw_at lw_m3 67 rfl) rfl
theorem q671 : (Jvm.Cond.code ({ cls := "java/lang/Character", name := "isValidCodePoint", desc := "(I)Z" } : Jvm.MethodName) prog_38_method_11_code (2 : Nat) (Option.some Jvm.ClassFile.FieldType.boolean)) ∈ lw_all := lw_g (lw_at lw_m3 68 rfl) rfl
theorem q673 : (Jvm.Cond.static ({ cls := "java/lang/Character", name := "highSurrogate", desc := "(I)C" } : Jvm.MethodName)) ∈ lw_all := lw_g (lw_at lw_m3 70 rfl) rfl
theorem q674 : (Jvm.Cond.code ({ cls := "java/lang/Character", name := "highSurrogate", desc := "(I)C" } : Jvm.MethodName) prog_38_method_28_code (1 : Nat) (Option.some Jvm.ClassFile.FieldType.char)) ∈ lw_all := lw_g (lw_at lw_m3 71 rfl) rfl
theorem q675 : (Jvm.Cond.constant "java/lang/Character" (110 : Nat) (55232 : Int32)) ∈ lw_all := lw_g (lw_at lw_m3 72 rfl) rfl
theorem q677 : (Jvm.Cond.static ({ cls := "java/lang/Character", name := "lowSurrogate", desc := "(I)C" } : Jvm.MethodName)) ∈ lw_all := lw_g (lw_at lw_m3 74 rfl) rfl
theorem q678 : (Jvm.Cond.code ({ cls := "java/lang/Character", name := "lowSurrogate", desc := "(I)C" } : Jvm.MethodName) prog_38_method_29_code (1 : Nat) (Option.some Jvm.ClassFile.FieldType.char)) ∈ lw_all := lw_g (lw_at lw_m3 75 rfl) rfl
theorem q679 : (Jvm.Cond.constant "java/lang/Character" (76 : Nat) (56320 : Int32)) ∈ lw_all := lw_g (lw_at lw_m3 76 rfl) rfl
/-! java/lang/Throwable -/
set_option maxRecDepth 100000
def RJ10 : String := "java/lang/Throwable"
def TJ10 : u_T := fun k => match k with
  | 0 => ("java/lang/Throwable", "cause", "Ljava/lang/Throwable;", false)
  | 1 => ("java/lang/Throwable", "stackTrace", "[Ljava/lang/StackTraceElement;", false)
  | 2 => ("java/lang/Throwable", "suppressedExceptions", "Ljava/util/List;", false)
  | 3 => ("java/lang/Throwable", "detailMessage", "Ljava/lang/String;", false)
  | _ => ("java/lang/Throwable", "backtrace", "Ljava/lang/Object;", false)
def tyJ10 : Nat → FieldType := fun k => match k with
  | 0 => .object "java/lang/Throwable"
  | 1 => .array (.object "java/lang/StackTraceElement")
  | 2 => .object "java/util/List"
  | 3 => .object "java/lang/String"
  | _ => .object "java/lang/Object"
abbrev wsJ100 : List Cond := u_ws RJ10 TJ10 5
theorem nmJ10 : ∀ a, a < 5 → ∀ b, b < 5 → a ≠ b → (TJ10 a).2.1 ≠ (TJ10 b).2.1 := by decide +kernel
theorem tyJ10_ok : ∀ k, k < 5 → parseFieldDescriptor (TJ10 k).2.2.1 = some (tyJ10 k) := by decide +kernel
abbrev cJ10_init : ByteArray := prog_52_method_1_code
def yJ10_init : MethodName := ⟨RJ10, "<init>", "()V"⟩
def dkwJ10_init_1 : List UInt8 := [182, 0, 27, 87, 177]
abbrev dktJ10_init_1 : List UInt8 := dkwJ10_init_1 ++ []
def dkwJ10_init_0 : List UInt8 := [42, 183, 0, 1, 42, 42, 181, 0, 7, 42, 178, 0, 13, 181, 0, 17, 42, 178, 0, 20, 181, 0, 24, 42]
abbrev dktJ10_init_0 : List UInt8 := dkwJ10_init_0 ++ dktJ10_init_1
theorem dksJ10_init_0 : cJ10_init.data.toList.drop 0 = dktJ10_init_0 := by decide +kernel
theorem dksJ10_init_1 : cJ10_init.data.toList.drop 24 = dktJ10_init_1 := dk_seg dksJ10_init_0 24 rfl rfl
theorem dJ10_init_0 : decode cJ10_init 0 = .ok (.aload_n 0, 1) := dk_42 (dk_at dksJ10_init_0 0 rfl rfl)
theorem dJ10_init_1 : decode cJ10_init 1 = .ok (.invokespecial 1, 3) := dk_183 0 1 (dk_at dksJ10_init_0 1 rfl rfl)
theorem dJ10_init_4 : decode cJ10_init 4 = .ok (.aload_n 0, 1) := dk_42 (dk_at dksJ10_init_0 4 rfl rfl)
theorem dJ10_init_5 : decode cJ10_init 5 = .ok (.aload_n 0, 1) := dk_42 (dk_at dksJ10_init_0 5 rfl rfl)
theorem dJ10_init_6 : decode cJ10_init 6 = .ok (.putfield 7, 3) := dk_181 0 7 (dk_at dksJ10_init_0 6 rfl rfl)
theorem dJ10_init_9 : decode cJ10_init 9 = .ok (.aload_n 0, 1) := dk_42 (dk_at dksJ10_init_0 9 rfl rfl)
theorem dJ10_init_10 : decode cJ10_init 10 = .ok (.getstatic 13, 3) := dk_178 0 13 (dk_at dksJ10_init_0 10 rfl rfl)
theorem dJ10_init_13 : decode cJ10_init 13 = .ok (.putfield 17, 3) := dk_181 0 17 (dk_at dksJ10_init_0 13 rfl rfl)
theorem dJ10_init_16 : decode cJ10_init 16 = .ok (.aload_n 0, 1) := dk_42 (dk_at dksJ10_init_0 16 rfl rfl)
theorem dJ10_init_17 : decode cJ10_init 17 = .ok (.getstatic 20, 3) := dk_178 0 20 (dk_at dksJ10_init_0 17 rfl rfl)
theorem dJ10_init_20 : decode cJ10_init 20 = .ok (.putfield 24, 3) := dk_181 0 24 (dk_at dksJ10_init_0 20 rfl rfl)
theorem dJ10_init_23 : decode cJ10_init 23 = .ok (.aload_n 0, 1) := dk_42 (dk_at dksJ10_init_0 23 rfl rfl)
theorem dJ10_init_24 : decode cJ10_init 24 = .ok (.invokevirtual 27, 3) := dk_182 0 27 (dk_at dksJ10_init_1 0 rfl rfl)
theorem dJ10_init_27 : decode cJ10_init 27 = .ok (.pop, 1) := dk_87 (dk_at dksJ10_init_1 3 rfl rfl)
theorem dJ10_init_28 : decode cJ10_init 28 = .ok (.return_, 1) := dk_177 (dk_at dksJ10_init_1 4 rfl rfl)
theorem q143 : (Jvm.Cond.initialized "java/lang/Throwable") ∈ lw_all := lw_g (lw_at lw_m1 20 rfl) rfl
theorem q726 : (Jvm.Cond.declares ({ cls := "java/lang/Throwable", name := "<init>", desc := "()V" } : Jvm.MethodName)) ∈ lw_tbl := lw_at lw_m3 123 rfl
theorem q727 : (Jvm.Cond.declares ({ cls := "java/lang/Throwable", name := "<init>", desc := "(Ljava/lang/String;)V" } : Jvm.MethodName)) ∈ lw_tbl := lw_at lw_m3 124 rfl
theorem q731 : (Jvm.Cond.lays "java/lang/Throwable" "java/lang/Throwable" "cause" "Ljava/lang/Throwable;") ∈ lw_all := lw_g (lw_at lw_m3 128 rfl) rfl
theorem q733 : (Jvm.Cond.lays "java/lang/Throwable" "java/lang/Throwable" "stackTrace" "[Ljava/lang/StackTraceElement;") ∈ lw_all := lw_g (lw_at lw_m3 130 rfl) rfl
theorem q735 : (Jvm.Cond.lays "java/lang/Throwable" "java/lang/Throwable" "suppressedExceptions" "Ljava/util/List;") ∈ lw_all := lw_g (lw_at lw_m3 132 rfl) rfl
theorem q737 : (Jvm.Cond.lays "java/lang/Throwable" "java/lang/Throwable" "detailMessage" "Ljava/lang/String;") ∈ lw_all := lw_g (lw_at lw_m3 134 rfl) rfl
theorem q739 : (Jvm.Cond.lays "java/lang/Throwable" "java/lang/Throwable" "backtrace" "Ljava/lang/Object;") ∈ lw_all := lw_g (lw_at lw_m3 136 rfl) rfl
theorem q740 : (Jvm.Cond.fieldLink "java/lang/Throwable" (198 : Nat) "java/lang/Throwable" "backtrace" "Ljava/lang/Object;") ∈ lw_all := lw_g (lw_at lw_m3 137 rfl) rfl
theorem q741 : (Jvm.Cond.superclass "java/lang/Throwable" "java/lang/Object") ∈ lw_all := lw_g (lw_at lw_m3 138 rfl) rfl
theorem q742 : (Jvm.Cond.instanceMethod ({ cls := "java/lang/Throwable", name := "<init>", desc := "()V" } : Jvm.MethodName)) ∈ lw_all := lw_g (lw_at lw_m3 139 rfl) rfl
theorem q743 : (Jvm.Cond.code ({ cls := "java/lang/Throwable", name := "<init>", desc := "()V" } : Jvm.MethodName) prog_52_method_1_code (1 : Nat) (Option.none : Option Jvm.ClassFile.FieldType)) ∈ lw_all := lw_g (lw_at lw_m3 140 rfl) rfl
theorem q744 : (Jvm.Cond.methodLink "java/lang/Throwable" (1 : Nat) ({ cls := "java/lang/Object", name := "<init>", desc := "()V" } : Jvm.MethodName)) ∈ lw_all := lw_g (lw_at lw_m3 141 rfl) rfl
theorem q745 : (Jvm.Cond.fieldLink "java/lang/Throwable" (13 : Nat) "java/lang/Throwable" "UNASSIGNED_STACK" "[Ljava/lang/StackTraceElement;") ∈ lw_all := lw_g (lw_at lw_m3 142 rfl) rfl
theorem q746 : (Jvm.Cond.laysStatic "java/lang/Throwable" "UNASSIGNED_STACK" "[Ljava/lang/StackTraceElement;") ∈ lw_tbl := lw_at lw_m3 143 rfl
theorem q747 : (Jvm.Cond.fieldLink "java/lang/Throwable" (20 : Nat) "java/lang/Throwable" "SUPPRESSED_SENTINEL" "Ljava/util/List;") ∈ lw_all := lw_g (lw_at lw_m3 144 rfl) rfl
theorem q748 : (Jvm.Cond.laysStatic "java/lang/Throwable" "SUPPRESSED_SENTINEL" "Ljava/util/List;") ∈ lw_tbl := lw_at lw_m3 145 rfl
theorem q749 : (Jvm.Cond.methodLink "java/lang/Throwable" (27 : Nat) ({ cls := "java/lang/Throwable", name := "fillInStackTrace", desc := "()Ljava/lang/Throwable;" } : Jvm.MethodName)) ∈ lw_all := lw_g (lw_at lw_m3 146 rfl) rfl
theorem q750 : (Jvm.Cond.instanceMethod ({ cls := "java/lang/Throwable", name := "fillInStackTrace", desc := "()Ljava/lang/Throwable;" } : Jvm.MethodName)) ∈ lw_all := lw_g (lw_at lw_m3 147 rfl) rfl
theorem q751 : (Jvm.Cond.sameMethod "java/lang/Throwable" "java/lang/Throwable" "fillInStackTrace" "()Ljava/lang/Throwable;") ∈ lw_all := lw_g (lw_at lw_m3 148 rfl) rfl
theorem q753 : (Jvm.Cond.codeSync ({ cls := "java/lang/Throwable", name := "fillInStackTrace", desc := "()Ljava/lang/Throwable;" } : Jvm.MethodName) prog_52_method_18_code (1 : Nat) (Option.some (Jvm.ClassFile.FieldType.object "java/lang/Throwable"))) ∈ lw_all := lw_g (lw_at lw_m3 150 rfl) rfl
theorem q754 : (Jvm.Cond.methodLink "java/lang/Throwable" (202 : Nat) ({ cls := "java/lang/Throwable", name := "fillInStackTrace", desc := "(I)Ljava/lang/Throwable;" } : Jvm.MethodName)) ∈ lw_all := lw_g (lw_at lw_m3 151 rfl) rfl
theorem q755 : (Jvm.Cond.privateMethod ({ cls := "java/lang/Throwable", name := "fillInStackTrace", desc := "(I)Ljava/lang/Throwable;" } : Jvm.MethodName)) ∈ lw_tbl := lw_at lw_m3 152 rfl
theorem q756 : (Jvm.Cond.instanceMethod ({ cls := "java/lang/Throwable", name := "fillInStackTrace", desc := "(I)Ljava/lang/Throwable;" } : Jvm.MethodName)) ∈ lw_all := lw_g (lw_at lw_m3 153 rfl) rfl
theorem q757 : (Jvm.Cond.instantiable "java/lang/Throwable" (6 : Nat)) ∈ lw_all := lw_g (lw_at lw_m3 154 rfl) rfl
theorem q758 : (Jvm.Cond.native ({ cls := "java/lang/Throwable", name := "fillInStackTrace", desc := "(I)Ljava/lang/Throwable;" } : Jvm.MethodName)) ∈ lw_all := lw_g (lw_at lw_m3 155 rfl) rfl
theorem q768 : (Jvm.Cond.fieldLink "java/lang/Throwable" (198 : Nat) "java/lang/Throwable" "backtrace" "Ljava/lang/Object;") ∈ lw_all := lw_g (lw_at lw_m3 165 rfl) rfl
theorem q769 : (Jvm.Cond.fieldLink "java/lang/Throwable" (7 : Nat) "java/lang/Throwable" "cause" "Ljava/lang/Throwable;") ∈ lw_all := lw_g (lw_at lw_m3 166 rfl) rfl
theorem q770 : (Jvm.Cond.fieldLink "java/lang/Throwable" (17 : Nat) "java/lang/Throwable" "stackTrace" "[Ljava/lang/StackTraceElement;") ∈ lw_all := lw_g (lw_at lw_m3 167 rfl) rfl
theorem q771 : (Jvm.Cond.fieldLink "java/lang/Throwable" (24 : Nat) "java/lang/Throwable" "suppressedExceptions" "Ljava/util/List;") ∈ lw_all := lw_g (lw_at lw_m3 168 rfl) rfl
theorem q774 : (Jvm.Cond.soleField "java/lang/Throwable" "backtrace") ∈ lw_all := lw_g (lw_at lw_m3 171 rfl) rfl
theorem q775 : (Jvm.Cond.soleField "java/lang/Throwable" "detailMessage") ∈ lw_all := lw_g (lw_at lw_m3 172 rfl) rfl
theorem q776 : (Jvm.Cond.soleField "java/lang/Throwable" "cause") ∈ lw_all := lw_g (lw_at lw_m3 173 rfl) rfl
theorem q777 : (Jvm.Cond.soleField "java/lang/Throwable" "stackTrace") ∈ lw_all := lw_g (lw_at lw_m3 174 rfl) rfl
theorem q779 : (Jvm.Cond.soleField "java/lang/Throwable" "depth") ∈ lw_all := lw_g (lw_at lw_m3 176 rfl) rfl
theorem q780 : (Jvm.Cond.soleField "java/lang/Throwable" "suppressedExceptions") ∈ lw_all := lw_g (lw_at lw_m3 177 rfl) rfl
theorem q2587 : (Jvm.Cond.sameMethod "java/lang/Throwable" "java/lang/Throwable" "fillInStackTrace" "(I)Ljava/lang/Throwable;") ∈ lw_all := lw_g (lw_at lw_m11 64 rfl) rfl
theorem q2636 : (Jvm.Cond.castable "java/lang/Throwable" "java/lang/Object") ∈ lw_tbl := lw_at lw_m11 113 rfl
theorem in_J10 : ∀ w ∈ wsJ100, w ∈ lw_all := lw_in wsJ100 [731, 733, 735, 737, 739] (by decide +kernel) (by decide +kernel)
/-! java/lang/Exception -/
set_option maxRecDepth 100000
def RJ11 : String := "java/lang/Exception"
abbrev cJ11_init : ByteArray := prog_41_method_1_code
def yJ11_init : MethodName := ⟨RJ11, "<init>", "()V"⟩
theorem dJ11_init_0 : decode cJ11_init 0 = .ok (.aload_n 0, 1) := by decide +kernel
theorem dJ11_init_1 : decode cJ11_init 1 = .ok (.invokespecial 1, 3) := by decide +kernel
theorem dJ11_init_4 : decode cJ11_init 4 = .ok (.return_, 1) := by decide +kernel
theorem q144 : (Jvm.Cond.initialized "java/lang/Exception") ∈ lw_all := lw_g (lw_at lw_m1 21 rfl) rfl
theorem q724 : (Jvm.Cond.declares ({ cls := "java/lang/Exception", name := "<init>", desc := "()V" } : Jvm.MethodName)) ∈ lw_tbl := lw_at lw_m3 121 rfl
theorem q725 : (Jvm.Cond.declares ({ cls := "java/lang/Exception", name := "<init>", desc := "(Ljava/lang/String;)V" } : Jvm.MethodName)) ∈ lw_tbl := lw_at lw_m3 122 rfl
theorem q763 : (Jvm.Cond.instanceMethod ({ cls := "java/lang/Exception", name := "<init>", desc := "()V" } : Jvm.MethodName)) ∈ lw_all := lw_g (lw_at lw_m3 160 rfl) rfl
theorem q764 : (Jvm.Cond.code ({ cls := "java/lang/Exception", name := "<init>", desc := "()V" } : Jvm.MethodName) prog_41_method_1_code (1 : Nat) (Option.none : Option Jvm.ClassFile.FieldType)) ∈ lw_all := lw_g (lw_at lw_m3 161 rfl) rfl
theorem q765 : (Jvm.Cond.methodLink "java/lang/Exception" (1 : Nat) ({ cls := "java/lang/Throwable", name := "<init>", desc := "()V" } : Jvm.MethodName)) ∈ lw_all := lw_g (lw_at lw_m3 162 rfl) rfl
/-! jdk/internal/util/ArraysSupport -/
set_option maxRecDepth 100000
def RJ12 : String := "jdk/internal/util/ArraysSupport"
abbrev cJ12_newLength : ByteArray := prog_65_method_27_code
def yJ12_newLength : MethodName := ⟨RJ12, "newLength", "(III)I"⟩
def dkwJ12_newLength_1 : List UInt8 := [184, 0, 201, 172]
abbrev dktJ12_newLength_1 : List UInt8 := dkwJ12_newLength_1 ++ []
def dkwJ12_newLength_0 : List UInt8 := [26, 27, 28, 184, 0, 194, 96, 62, 3, 29, 162, 0, 11, 29, 18, 200, 163, 0, 5, 29, 172, 26, 27]
abbrev dktJ12_newLength_0 : List UInt8 := dkwJ12_newLength_0 ++ dktJ12_newLength_1
theorem dksJ12_newLength_0 : cJ12_newLength.data.toList.drop 0 = dktJ12_newLength_0 := by decide +kernel
theorem dksJ12_newLength_1 : cJ12_newLength.data.toList.drop 23 = dktJ12_newLength_1 := dk_seg dksJ12_newLength_0 23 rfl rfl
theorem dJ12_newLength_0 : decode cJ12_newLength 0 = .ok (.iload_n 0, 1) := dk_26 (dk_at dksJ12_newLength_0 0 rfl rfl)
theorem dJ12_newLength_1 : decode cJ12_newLength 1 = .ok (.iload_n 1, 1) := dk_27 (dk_at dksJ12_newLength_0 1 rfl rfl)
theorem dJ12_newLength_2 : decode cJ12_newLength 2 = .ok (.iload_n 2, 1) := dk_28 (dk_at dksJ12_newLength_0 2 rfl rfl)
theorem dJ12_newLength_3 : decode cJ12_newLength 3 = .ok (.invokestatic 194, 3) := dk_184 0 194 (dk_at dksJ12_newLength_0 3 rfl rfl)
theorem dJ12_newLength_6 : decode cJ12_newLength 6 = .ok (.iadd, 1) := dk_96 (dk_at dksJ12_newLength_0 6 rfl rfl)
theorem dJ12_newLength_7 : decode cJ12_newLength 7 = .ok (.istore_n 3, 1) := dk_62 (dk_at dksJ12_newLength_0 7 rfl rfl)
theorem dJ12_newLength_8 : decode cJ12_newLength 8 = .ok (.iconst 0, 1) := dk_3 (dk_at dksJ12_newLength_0 8 rfl rfl)
theorem dJ12_newLength_9 : decode cJ12_newLength 9 = .ok (.iload_n 3, 1) := dk_29 (dk_at dksJ12_newLength_0 9 rfl rfl)
theorem dJ12_newLength_10 : decode cJ12_newLength 10 = .ok (.if_icmp .ge 11, 3) := dk_162 0 11 (dk_at dksJ12_newLength_0 10 rfl rfl)
theorem dJ12_newLength_13 : decode cJ12_newLength 13 = .ok (.iload_n 3, 1) := dk_29 (dk_at dksJ12_newLength_0 13 rfl rfl)
theorem dJ12_newLength_14 : decode cJ12_newLength 14 = .ok (.ldc 200, 2) := dk_18 200 (dk_at dksJ12_newLength_0 14 rfl rfl)
theorem dJ12_newLength_16 : decode cJ12_newLength 16 = .ok (.if_icmp .gt 5, 3) := dk_163 0 5 (dk_at dksJ12_newLength_0 16 rfl rfl)
theorem dJ12_newLength_19 : decode cJ12_newLength 19 = .ok (.iload_n 3, 1) := dk_29 (dk_at dksJ12_newLength_0 19 rfl rfl)
theorem dJ12_newLength_20 : decode cJ12_newLength 20 = .ok (.ireturn, 1) := dk_172 (dk_at dksJ12_newLength_0 20 rfl rfl)
theorem dJ12_newLength_21 : decode cJ12_newLength 21 = .ok (.iload_n 0, 1) := dk_26 (dk_at dksJ12_newLength_0 21 rfl rfl)
theorem dJ12_newLength_22 : decode cJ12_newLength 22 = .ok (.iload_n 1, 1) := dk_27 (dk_at dksJ12_newLength_0 22 rfl rfl)
theorem dJ12_newLength_23 : decode cJ12_newLength 23 = .ok (.invokestatic 201, 3) := dk_184 0 201 (dk_at dksJ12_newLength_1 0 rfl rfl)
theorem dJ12_newLength_26 : decode cJ12_newLength 26 = .ok (.ireturn, 1) := dk_172 (dk_at dksJ12_newLength_1 3 rfl rfl)
abbrev cJ12_hugeLength : ByteArray := prog_65_method_28_code
def yJ12_hugeLength : MethodName := ⟨RJ12, "hugeLength", "(II)I"⟩
def dkwJ12_hugeLength_2 : List UInt8 := [191, 28, 18, 200, 163, 0, 6, 18, 200, 172, 28, 172]
abbrev dktJ12_hugeLength_2 : List UInt8 := dkwJ12_hugeLength_2 ++ []
def dkwJ12_hugeLength_1 : List UInt8 := [26, 182, 0, 98, 18, 208, 182, 0, 94, 27, 182, 0, 98, 18, 210, 182, 0, 94, 182, 0, 101, 183, 0, 212]
abbrev dktJ12_hugeLength_1 : List UInt8 := dkwJ12_hugeLength_1 ++ dktJ12_hugeLength_2
def dkwJ12_hugeLength_0 : List UInt8 := [26, 27, 96, 61, 28, 156, 0, 44, 187, 0, 204, 89, 187, 0, 89, 89, 183, 0, 91, 18, 206, 182, 0, 94]
abbrev dktJ12_hugeLength_0 : List UInt8 := dkwJ12_hugeLength_0 ++ dktJ12_hugeLength_1
theorem dksJ12_hugeLength_0 : cJ12_hugeLength.data.toList.drop 0 = dktJ12_hugeLength_0 := by decide +kernel
theorem dksJ12_hugeLength_1 : cJ12_hugeLength.data.toList.drop 24 = dktJ12_hugeLength_1 := dk_seg dksJ12_hugeLength_0 24 rfl rfl
theorem dksJ12_hugeLength_2 : cJ12_hugeLength.data.toList.drop 48 = dktJ12_hugeLength_2 := dk_seg dksJ12_hugeLength_1 24 rfl rfl
theorem dJ12_hugeLength_0 : decode cJ12_hugeLength 0 = .ok (.iload_n 0, 1) := dk_26 (dk_at dksJ12_hugeLength_0 0 rfl rfl)
theorem dJ12_hugeLength_1 : decode cJ12_hugeLength 1 = .ok (.iload_n 1, 1) := dk_27 (dk_at dksJ12_hugeLength_0 1 rfl rfl)
theorem dJ12_hugeLength_2 : decode cJ12_hugeLength 2 = .ok (.iadd, 1) := dk_96 (dk_at dksJ12_hugeLength_0 2 rfl rfl)
theorem dJ12_hugeLength_3 : decode cJ12_hugeLength 3 = .ok (.istore_n 2, 1) := dk_61 (dk_at dksJ12_hugeLength_0 3 rfl rfl)
theorem dJ12_hugeLength_4 : decode cJ12_hugeLength 4 = .ok (.iload_n 2, 1) := dk_28 (dk_at dksJ12_hugeLength_0 4 rfl rfl)
theorem dJ12_hugeLength_5 : decode cJ12_hugeLength 5 = .ok (.ifCond .ge 44, 3) := dk_156 0 44 (dk_at dksJ12_hugeLength_0 5 rfl rfl)
theorem dJ12_hugeLength_8 : decode cJ12_hugeLength 8 = .ok (.new 204, 3) := dk_187 0 204 (dk_at dksJ12_hugeLength_0 8 rfl rfl)
theorem dJ12_hugeLength_11 : decode cJ12_hugeLength 11 = .ok (.dup, 1) := dk_89 (dk_at dksJ12_hugeLength_0 11 rfl rfl)
theorem dJ12_hugeLength_12 : decode cJ12_hugeLength 12 = .ok (.new 89, 3) := dk_187 0 89 (dk_at dksJ12_hugeLength_0 12 rfl rfl)
theorem dJ12_hugeLength_15 : decode cJ12_hugeLength 15 = .ok (.dup, 1) := dk_89 (dk_at dksJ12_hugeLength_0 15 rfl rfl)
theorem dJ12_hugeLength_16 : decode cJ12_hugeLength 16 = .ok (.invokespecial 91, 3) := dk_183 0 91 (dk_at dksJ12_hugeLength_0 16 rfl rfl)
theorem dJ12_hugeLength_19 : decode cJ12_hugeLength 19 = .ok (.ldc 206, 2) := dk_18 206 (dk_at dksJ12_hugeLength_0 19 rfl rfl)
theorem dJ12_hugeLength_21 : decode cJ12_hugeLength 21 = .ok (.invokevirtual 94, 3) := dk_182 0 94 (dk_at dksJ12_hugeLength_0 21 rfl rfl)
theorem dJ12_hugeLength_24 : decode cJ12_hugeLength 24 = .ok (.iload_n 0, 1) := dk_26 (dk_at dksJ12_hugeLength_1 0 rfl rfl)
theorem dJ12_hugeLength_25 : decode cJ12_hugeLength 25 = .ok (.invokevirtual 98, 3) := dk_182 0 98 (dk_at dksJ12_hugeLength_1 1 rfl rfl)
theorem dJ12_hugeLength_28 : decode cJ12_hugeLength 28 = .ok (.ldc 208, 2) := dk_18 208 (dk_at dksJ12_hugeLength_1 4 rfl rfl)
theorem dJ12_hugeLength_30 : decode cJ12_hugeLength 30 = .ok (.invokevirtual 94, 3) := dk_182 0 94 (dk_at dksJ12_hugeLength_1 6 rfl rfl)
theorem dJ12_hugeLength_33 : decode cJ12_hugeLength 33 = .ok (.iload_n 1, 1) := dk_27 (dk_at dksJ12_hugeLength_1 9 rfl rfl)
theorem dJ12_hugeLength_34 : decode cJ12_hugeLength 34 = .ok (.invokevirtual 98, 3) := dk_182 0 98 (dk_at dksJ12_hugeLength_1 10 rfl rfl)
theorem dJ12_hugeLength_37 : decode cJ12_hugeLength 37 = .ok (.ldc 210, 2) := dk_18 210 (dk_at dksJ12_hugeLength_1 13 rfl rfl)
theorem dJ12_hugeLength_39 : decode cJ12_hugeLength 39 = .ok (.invokevirtual 94, 3) := dk_182 0 94 (dk_at dksJ12_hugeLength_1 15 rfl rfl)
theorem dJ12_hugeLength_42 : decode cJ12_hugeLength 42 = .ok (.invokevirtual 101, 3) := dk_182 0 101 (dk_at dksJ12_hugeLength_1 18 rfl rfl)
theorem dJ12_hugeLength_45 : decode cJ12_hugeLength 45 = .ok (.invokespecial 212, 3) := dk_183 0 212 (dk_at dksJ12_hugeLength_1 21 rfl rfl)
theorem dJ12_hugeLength_48 : decode cJ12_hugeLength 48 = .ok (.athrow, 1) := dk_191 (dk_at dksJ12_hugeLength_2 0 rfl rfl)
theorem dJ12_hugeLength_49 : decode cJ12_hugeLength 49 = .ok (.iload_n 2, 1) := dk_28 (dk_at dksJ12_hugeLength_2 1 rfl rfl)
theorem dJ12_hugeLength_50 : decode cJ12_hugeLength 50 = .ok (.ldc 200, 2) := dk_18 200 (dk_at dksJ12_hugeLength_2 2 rfl rfl)
theorem dJ12_hugeLength_52 : decode cJ12_hugeLength 52 = .ok (.if_icmp .gt 6, 3) := dk_163 0 6 (dk_at dksJ12_hugeLength_2 4 rfl rfl)
theorem dJ12_hugeLength_55 : decode cJ12_hugeLength 55 = .ok (.ldc 200, 2) := dk_18 200 (dk_at dksJ12_hugeLength_2 7 rfl rfl)
theorem dJ12_hugeLength_57 : decode cJ12_hugeLength 57 = .ok (.ireturn, 1) := dk_172 (dk_at dksJ12_hugeLength_2 9 rfl rfl)
theorem dJ12_hugeLength_58 : decode cJ12_hugeLength 58 = .ok (.iload_n 2, 1) := dk_28 (dk_at dksJ12_hugeLength_2 10 rfl rfl)
theorem dJ12_hugeLength_59 : decode cJ12_hugeLength 59 = .ok (.ireturn, 1) := dk_172 (dk_at dksJ12_hugeLength_2 11 rfl rfl)
theorem q150 : (Jvm.Cond.initialized "jdk/internal/util/ArraysSupport") ∈ lw_all := lw_g (lw_at lw_m1 27 rfl) rfl
theorem q921 : (Jvm.Cond.static ({ cls := "jdk/internal/util/ArraysSupport", name := "newLength", desc := "(III)I" } : Jvm.MethodName)) ∈ lw_all := lw_g (lw_at lw_m4 78 rfl) rfl
theorem q922 : (Jvm.Cond.code ({ cls := "jdk/internal/util/ArraysSupport", name := "newLength", desc := "(III)I" } : Jvm.MethodName) prog_65_method_27_code (4 : Nat) (Option.some Jvm.ClassFile.FieldType.int)) ∈ lw_all := lw_g (lw_at lw_m4 79 rfl) rfl
theorem q923 : (Jvm.Cond.methodLink "jdk/internal/util/ArraysSupport" (194 : Nat) ({ cls := "java/lang/Math", name := "max", desc := "(II)I" } : Jvm.MethodName)) ∈ lw_all := lw_g (lw_at lw_m4 80 rfl) rfl
theorem q924 : (Jvm.Cond.constant "jdk/internal/util/ArraysSupport" (200 : Nat) (2147483639 : Int32)) ∈ lw_all := lw_g (lw_at lw_m4 81 rfl) rfl
theorem q925 : (Jvm.Cond.methodLink "jdk/internal/util/ArraysSupport" (201 : Nat) ({ cls := "jdk/internal/util/ArraysSupport", name := "hugeLength", desc := "(II)I" } : Jvm.MethodName)) ∈ lw_all := lw_g (lw_at lw_m4 82 rfl) rfl
theorem q926 : (Jvm.Cond.static ({ cls := "jdk/internal/util/ArraysSupport", name := "hugeLength", desc := "(II)I" } : Jvm.MethodName)) ∈ lw_all := lw_g (lw_at lw_m4 83 rfl) rfl
theorem q927 : (Jvm.Cond.code ({ cls := "jdk/internal/util/ArraysSupport", name := "hugeLength", desc := "(II)I" } : Jvm.MethodName) prog_65_method_28_code (3 : Nat) (Option.some Jvm.ClassFile.FieldType.int)) ∈ lw_all := lw_g (lw_at lw_m4 84 rfl) rfl
/-! java/util/Arrays -/
set_option maxRecDepth 100000
def RJ13 : String := "java/util/Arrays"
abbrev cJ13_copyOf : ByteArray := prog_58_method_119_code
def yJ13_copyOf : MethodName := ⟨RJ13, "copyOf", "([Ljava/lang/Object;I)[Ljava/lang/Object;"⟩
def dkwJ13_copyOf_0 : List UInt8 := [42, 27, 42, 182, 0, 86, 184, 1, 44, 176]
abbrev dktJ13_copyOf_0 : List UInt8 := dkwJ13_copyOf_0 ++ []
theorem dksJ13_copyOf_0 : cJ13_copyOf.data.toList.drop 0 = dktJ13_copyOf_0 := by decide +kernel
theorem dJ13_copyOf_0 : decode cJ13_copyOf 0 = .ok (.aload_n 0, 1) := dk_42 (dk_at dksJ13_copyOf_0 0 rfl rfl)
theorem dJ13_copyOf_1 : decode cJ13_copyOf 1 = .ok (.iload_n 1, 1) := dk_27 (dk_at dksJ13_copyOf_0 1 rfl rfl)
theorem dJ13_copyOf_2 : decode cJ13_copyOf 2 = .ok (.aload_n 0, 1) := dk_42 (dk_at dksJ13_copyOf_0 2 rfl rfl)
theorem dJ13_copyOf_3 : decode cJ13_copyOf 3 = .ok (.invokevirtual 86, 3) := dk_182 0 86 (dk_at dksJ13_copyOf_0 3 rfl rfl)
theorem dJ13_copyOf_6 : decode cJ13_copyOf 6 = .ok (.invokestatic 300, 3) := dk_184 1 44 (dk_at dksJ13_copyOf_0 6 rfl rfl)
theorem dJ13_copyOf_9 : decode cJ13_copyOf 9 = .ok (.areturn, 1) := dk_176 (dk_at dksJ13_copyOf_0 9 rfl rfl)
abbrev cJ13_copyOf_2 : ByteArray := prog_58_method_120_code
def yJ13_copyOf_2 : MethodName := ⟨RJ13, "copyOf", "([Ljava/lang/Object;ILjava/lang/Class;)[Ljava/lang/Object;"⟩
def dkwJ13_copyOf_2_1 : List UInt8 := [78, 42, 3, 45, 3, 42, 190, 27, 184, 1, 48, 184, 0, 150, 45, 176]
abbrev dktJ13_copyOf_2_1 : List UInt8 := dkwJ13_copyOf_2_1 ++ []
def dkwJ13_copyOf_2_0 : List UInt8 := [44, 18, 110, 166, 0, 10, 27, 189, 0, 2, 167, 0, 14, 44, 182, 0, 90, 27, 184, 0, 95, 192, 0, 110]
abbrev dktJ13_copyOf_2_0 : List UInt8 := dkwJ13_copyOf_2_0 ++ dktJ13_copyOf_2_1
theorem dksJ13_copyOf_2_0 : cJ13_copyOf_2.data.toList.drop 0 = dktJ13_copyOf_2_0 := by decide +kernel
theorem dksJ13_copyOf_2_1 : cJ13_copyOf_2.data.toList.drop 24 = dktJ13_copyOf_2_1 := dk_seg dksJ13_copyOf_2_0 24 rfl rfl
theorem dJ13_copyOf_2_0 : decode cJ13_copyOf_2 0 = .ok (.aload_n 2, 1) := dk_44 (dk_at dksJ13_copyOf_2_0 0 rfl rfl)
theorem dJ13_copyOf_2_1 : decode cJ13_copyOf_2 1 = .ok (.ldc 110, 2) := dk_18 110 (dk_at dksJ13_copyOf_2_0 1 rfl rfl)
theorem dJ13_copyOf_2_3 : decode cJ13_copyOf_2 3 = .ok (.if_acmp .ne 10, 3) := dk_166 0 10 (dk_at dksJ13_copyOf_2_0 3 rfl rfl)
theorem dJ13_copyOf_2_6 : decode cJ13_copyOf_2 6 = .ok (.iload_n 1, 1) := dk_27 (dk_at dksJ13_copyOf_2_0 6 rfl rfl)
theorem dJ13_copyOf_2_7 : decode cJ13_copyOf_2 7 = .ok (.anewarray 2, 3) := dk_189 0 2 (dk_at dksJ13_copyOf_2_0 7 rfl rfl)
theorem dJ13_copyOf_2_10 : decode cJ13_copyOf_2 10 = .ok (.goto 14, 3) := dk_167 0 14 (dk_at dksJ13_copyOf_2_0 10 rfl rfl)
theorem dJ13_copyOf_2_13 : decode cJ13_copyOf_2 13 = .ok (.aload_n 2, 1) := dk_44 (dk_at dksJ13_copyOf_2_0 13 rfl rfl)
theorem dJ13_copyOf_2_14 : decode cJ13_copyOf_2 14 = .ok (.invokevirtual 90, 3) := dk_182 0 90 (dk_at dksJ13_copyOf_2_0 14 rfl rfl)
theorem dJ13_copyOf_2_17 : decode cJ13_copyOf_2 17 = .ok (.iload_n 1, 1) := dk_27 (dk_at dksJ13_copyOf_2_0 17 rfl rfl)
theorem dJ13_copyOf_2_18 : decode cJ13_copyOf_2 18 = .ok (.invokestatic 95, 3) := dk_184 0 95 (dk_at dksJ13_copyOf_2_0 18 rfl rfl)
theorem dJ13_copyOf_2_21 : decode cJ13_copyOf_2 21 = .ok (.checkcast 110, 3) := dk_192 0 110 (dk_at dksJ13_copyOf_2_0 21 rfl rfl)
theorem dJ13_copyOf_2_24 : decode cJ13_copyOf_2 24 = .ok (.astore_n 3, 1) := dk_78 (dk_at dksJ13_copyOf_2_1 0 rfl rfl)
theorem dJ13_copyOf_2_25 : decode cJ13_copyOf_2 25 = .ok (.aload_n 0, 1) := dk_42 (dk_at dksJ13_copyOf_2_1 1 rfl rfl)
theorem dJ13_copyOf_2_26 : decode cJ13_copyOf_2 26 = .ok (.iconst 0, 1) := dk_3 (dk_at dksJ13_copyOf_2_1 2 rfl rfl)
theorem dJ13_copyOf_2_27 : decode cJ13_copyOf_2 27 = .ok (.aload_n 3, 1) := dk_45 (dk_at dksJ13_copyOf_2_1 3 rfl rfl)
theorem dJ13_copyOf_2_28 : decode cJ13_copyOf_2 28 = .ok (.iconst 0, 1) := dk_3 (dk_at dksJ13_copyOf_2_1 4 rfl rfl)
theorem dJ13_copyOf_2_29 : decode cJ13_copyOf_2 29 = .ok (.aload_n 0, 1) := dk_42 (dk_at dksJ13_copyOf_2_1 5 rfl rfl)
theorem dJ13_copyOf_2_30 : decode cJ13_copyOf_2 30 = .ok (.arraylength, 1) := dk_190 (dk_at dksJ13_copyOf_2_1 6 rfl rfl)
theorem dJ13_copyOf_2_31 : decode cJ13_copyOf_2 31 = .ok (.iload_n 1, 1) := dk_27 (dk_at dksJ13_copyOf_2_1 7 rfl rfl)
theorem dJ13_copyOf_2_32 : decode cJ13_copyOf_2 32 = .ok (.invokestatic 304, 3) := dk_184 1 48 (dk_at dksJ13_copyOf_2_1 8 rfl rfl)
theorem dJ13_copyOf_2_35 : decode cJ13_copyOf_2 35 = .ok (.invokestatic 150, 3) := dk_184 0 150 (dk_at dksJ13_copyOf_2_1 11 rfl rfl)
theorem dJ13_copyOf_2_38 : decode cJ13_copyOf_2 38 = .ok (.aload_n 3, 1) := dk_45 (dk_at dksJ13_copyOf_2_1 14 rfl rfl)
theorem dJ13_copyOf_2_39 : decode cJ13_copyOf_2 39 = .ok (.areturn, 1) := dk_176 (dk_at dksJ13_copyOf_2_1 15 rfl rfl)
theorem q151 : (Jvm.Cond.initialized "java/util/Arrays") ∈ lw_all := lw_g (lw_at lw_m1 28 rfl) rfl
theorem q929 : (Jvm.Cond.static ({ cls := "java/util/Arrays", name := "copyOf", desc := "([Ljava/lang/Object;I)[Ljava/lang/Object;" } : Jvm.MethodName)) ∈ lw_all := lw_g (lw_at lw_m4 86 rfl) rfl
theorem q930 : (Jvm.Cond.code ({ cls := "java/util/Arrays", name := "copyOf", desc := "([Ljava/lang/Object;I)[Ljava/lang/Object;" } : Jvm.MethodName) prog_58_method_119_code (2 : Nat) (Option.some (Jvm.ClassFile.FieldType.array (Jvm.ClassFile.FieldType.object "java/lang/Object")))) ∈ lw_all := lw_g (lw_at lw_m4 87 rfl) rfl
theorem q931 : (Jvm.Cond.methodLink "java/util/Arrays" (86 : Nat) ({ cls := "java/lang/Object", name := "getClass", desc := "()Ljava/lang/Class;" } : Jvm.MethodName)) ∈ lw_all := lw_g (lw_at lw_m4 88 rfl) rfl
theorem q969 : (Jvm.Cond.methodLink "java/util/Arrays" (300 : Nat) ({ cls := "java/util/Arrays", name := "copyOf", desc := "([Ljava/lang/Object;ILjava/lang/Class;)[Ljava/lang/Object;" } : Jvm.MethodName)) ∈ lw_all := lw_g (lw_at lw_m4 126 rfl) rfl
theorem q970 : (Jvm.Cond.static ({ cls := "java/util/Arrays", name := "copyOf", desc := "([Ljava/lang/Object;ILjava/lang/Class;)[Ljava/lang/Object;" } : Jvm.MethodName)) ∈ lw_all := lw_g (lw_at lw_m4 127 rfl) rfl
theorem q971 : (Jvm.Cond.code ({ cls := "java/util/Arrays", name := "copyOf", desc := "([Ljava/lang/Object;ILjava/lang/Class;)[Ljava/lang/Object;" } : Jvm.MethodName) prog_58_method_120_code (4 : Nat) (Option.some (Jvm.ClassFile.FieldType.array (Jvm.ClassFile.FieldType.object "java/lang/Object")))) ∈ lw_all := lw_g (lw_at lw_m4 128 rfl) rfl
theorem q972 : (Jvm.Cond.classLink "java/util/Arrays" (110 : Nat) "[Ljava/lang/Object;") ∈ lw_all := lw_g (lw_at lw_m4 129 rfl) rfl
theorem q973 : (Jvm.Cond.classLink "java/util/Arrays" (2 : Nat) "java/lang/Object") ∈ lw_all := lw_g (lw_at lw_m4 130 rfl) rfl
theorem q974 : (Jvm.Cond.methodLink "java/util/Arrays" (304 : Nat) ({ cls := "java/lang/Math", name := "min", desc := "(II)I" } : Jvm.MethodName)) ∈ lw_all := lw_g (lw_at lw_m4 131 rfl) rfl
theorem q975 : (Jvm.Cond.methodLink "java/util/Arrays" (150 : Nat) ({ cls := "java/lang/System", name := "arraycopy", desc := "(Ljava/lang/Object;ILjava/lang/Object;II)V" } : Jvm.MethodName)) ∈ lw_all := lw_g (lw_at lw_m4 132 rfl) rfl
/-! java/lang/Number -/
set_option maxRecDepth 100000
def RJ14 : String := "java/lang/Number"
abbrev cJ14_init : ByteArray := prog_46_method_1_code
def yJ14_init : MethodName := ⟨RJ14, "<init>", "()V"⟩
theorem dJ14_init_0 : decode cJ14_init 0 = .ok (.aload_n 0, 1) := by decide +kernel
theorem dJ14_init_1 : decode cJ14_init 1 = .ok (.invokespecial 1, 3) := by decide +kernel
theorem dJ14_init_4 : decode cJ14_init 4 = .ok (.return_, 1) := by decide +kernel
theorem q155 : (Jvm.Cond.initialized "java/lang/Number") ∈ lw_all := lw_g (lw_at lw_m1 32 rfl) rfl
theorem q1070 : (Jvm.Cond.instanceMethod ({ cls := "java/lang/Number", name := "<init>", desc := "()V" } : Jvm.MethodName)) ∈ lw_all := lw_g (lw_at lw_m4 227 rfl) rfl
theorem q1071 : (Jvm.Cond.code ({ cls := "java/lang/Number", name := "<init>", desc := "()V" } : Jvm.MethodName) prog_46_method_1_code (1 : Nat) (Option.none : Option Jvm.ClassFile.FieldType)) ∈ lw_all := lw_g (lw_at lw_m4 228 rfl) rfl
theorem q1072 : (Jvm.Cond.methodLink "java/lang/Number" (1 : Nat) ({ cls := "java/lang/Object", name := "<init>", desc := "()V" } : Jvm.MethodName)) ∈ lw_all := lw_g (lw_at lw_m4 229 rfl) rfl
/-! java/lang/Long -/
set_option maxRecDepth 100000
def RJ15 : String := "java/lang/Long"
def TJ15 : u_T := fun k => match k with
  | _ => ("java/lang/Long", "value", "J", true)
def tyJ15 : Nat → FieldType := fun k => match k with
  | _ => .long
abbrev wsJ150 : List Cond := u_ws RJ15 TJ15 1
theorem nmJ15 : ∀ a, a < 1 → ∀ b, b < 1 → a ≠ b → (TJ15 a).2.1 ≠ (TJ15 b).2.1 := by decide +kernel
theorem tyJ15_ok : ∀ k, k < 1 → parseFieldDescriptor (TJ15 k).2.2.1 = some (tyJ15 k) := by decide +kernel
abbrev cJ15_longValue : ByteArray := prog_43_method_31_code
def yJ15_longValue : MethodName := ⟨RJ15, "longValue", "()J"⟩
theorem dJ15_longValue_0 : decode cJ15_longValue 0 = .ok (.aload_n 0, 1) := by decide +kernel
theorem dJ15_longValue_1 : decode cJ15_longValue 1 = .ok (.getfield 273, 3) := by decide +kernel
theorem dJ15_longValue_4 : decode cJ15_longValue 4 = .ok (.lreturn, 1) := by decide +kernel
abbrev cJ15_valueOf : ByteArray := prog_43_method_24_code
def yJ15_valueOf : MethodName := ⟨RJ15, "valueOf", "(J)Ljava/lang/Long;"⟩
def dkwJ15_valueOf_1 : List UInt8 := [136, 17, 0, 128, 96, 50, 176, 187, 0, 1, 89, 30, 183, 0, 240, 176]
abbrev dktJ15_valueOf_1 : List UInt8 := dkwJ15_valueOf_1 ++ []
def dkwJ15_valueOf_0 : List UInt8 := [17, 0, 128, 61, 30, 20, 0, 230, 148, 155, 0, 22, 30, 20, 0, 232, 148, 157, 0, 14, 178, 0, 234, 30]
abbrev dktJ15_valueOf_0 : List UInt8 := dkwJ15_valueOf_0 ++ dktJ15_valueOf_1
theorem dksJ15_valueOf_0 : cJ15_valueOf.data.toList.drop 0 = dktJ15_valueOf_0 := by decide +kernel
theorem dksJ15_valueOf_1 : cJ15_valueOf.data.toList.drop 24 = dktJ15_valueOf_1 := dk_seg dksJ15_valueOf_0 24 rfl rfl
theorem dJ15_valueOf_0 : decode cJ15_valueOf 0 = .ok (.sipush 128, 3) := dk_17 0 128 (dk_at dksJ15_valueOf_0 0 rfl rfl)
theorem dJ15_valueOf_3 : decode cJ15_valueOf 3 = .ok (.istore_n 2, 1) := dk_61 (dk_at dksJ15_valueOf_0 3 rfl rfl)
theorem dJ15_valueOf_4 : decode cJ15_valueOf 4 = .ok (.lload_n 0, 1) := dk_30 (dk_at dksJ15_valueOf_0 4 rfl rfl)
theorem dJ15_valueOf_5 : decode cJ15_valueOf 5 = .ok (.ldc2_w 230, 3) := dk_20 0 230 (dk_at dksJ15_valueOf_0 5 rfl rfl)
theorem dJ15_valueOf_8 : decode cJ15_valueOf 8 = .ok (.lcmp, 1) := dk_148 (dk_at dksJ15_valueOf_0 8 rfl rfl)
theorem dJ15_valueOf_9 : decode cJ15_valueOf 9 = .ok (.ifCond .lt 22, 3) := dk_155 0 22 (dk_at dksJ15_valueOf_0 9 rfl rfl)
theorem dJ15_valueOf_12 : decode cJ15_valueOf 12 = .ok (.lload_n 0, 1) := dk_30 (dk_at dksJ15_valueOf_0 12 rfl rfl)
theorem dJ15_valueOf_13 : decode cJ15_valueOf 13 = .ok (.ldc2_w 232, 3) := dk_20 0 232 (dk_at dksJ15_valueOf_0 13 rfl rfl)
theorem dJ15_valueOf_16 : decode cJ15_valueOf 16 = .ok (.lcmp, 1) := dk_148 (dk_at dksJ15_valueOf_0 16 rfl rfl)
theorem dJ15_valueOf_17 : decode cJ15_valueOf 17 = .ok (.ifCond .gt 14, 3) := dk_157 0 14 (dk_at dksJ15_valueOf_0 17 rfl rfl)
theorem dJ15_valueOf_20 : decode cJ15_valueOf 20 = .ok (.getstatic 234, 3) := dk_178 0 234 (dk_at dksJ15_valueOf_0 20 rfl rfl)
theorem dJ15_valueOf_23 : decode cJ15_valueOf 23 = .ok (.lload_n 0, 1) := dk_30 (dk_at dksJ15_valueOf_0 23 rfl rfl)
theorem dJ15_valueOf_24 : decode cJ15_valueOf 24 = .ok (.l2i, 1) := dk_136 (dk_at dksJ15_valueOf_1 0 rfl rfl)
theorem dJ15_valueOf_25 : decode cJ15_valueOf 25 = .ok (.sipush 128, 3) := dk_17 0 128 (dk_at dksJ15_valueOf_1 1 rfl rfl)
theorem dJ15_valueOf_28 : decode cJ15_valueOf 28 = .ok (.iadd, 1) := dk_96 (dk_at dksJ15_valueOf_1 4 rfl rfl)
theorem dJ15_valueOf_29 : decode cJ15_valueOf 29 = .ok (.aaload, 1) := dk_50 (dk_at dksJ15_valueOf_1 5 rfl rfl)
theorem dJ15_valueOf_30 : decode cJ15_valueOf 30 = .ok (.areturn, 1) := dk_176 (dk_at dksJ15_valueOf_1 6 rfl rfl)
theorem dJ15_valueOf_31 : decode cJ15_valueOf 31 = .ok (.new 1, 3) := dk_187 0 1 (dk_at dksJ15_valueOf_1 7 rfl rfl)
theorem dJ15_valueOf_34 : decode cJ15_valueOf 34 = .ok (.dup, 1) := dk_89 (dk_at dksJ15_valueOf_1 10 rfl rfl)
theorem dJ15_valueOf_35 : decode cJ15_valueOf 35 = .ok (.lload_n 0, 1) := dk_30 (dk_at dksJ15_valueOf_1 11 rfl rfl)
theorem dJ15_valueOf_36 : decode cJ15_valueOf 36 = .ok (.invokespecial 240, 3) := dk_183 0 240 (dk_at dksJ15_valueOf_1 12 rfl rfl)
theorem dJ15_valueOf_39 : decode cJ15_valueOf 39 = .ok (.areturn, 1) := dk_176 (dk_at dksJ15_valueOf_1 15 rfl rfl)
abbrev cJ15_init : ByteArray := prog_43_method_26_code
def yJ15_init : MethodName := ⟨RJ15, "<init>", "(J)V"⟩
def dkwJ15_init_0 : List UInt8 := [42, 183, 1, 14, 42, 31, 181, 1, 17, 177]
abbrev dktJ15_init_0 : List UInt8 := dkwJ15_init_0 ++ []
theorem dksJ15_init_0 : cJ15_init.data.toList.drop 0 = dktJ15_init_0 := by decide +kernel
theorem dJ15_init_0 : decode cJ15_init 0 = .ok (.aload_n 0, 1) := dk_42 (dk_at dksJ15_init_0 0 rfl rfl)
theorem dJ15_init_1 : decode cJ15_init 1 = .ok (.invokespecial 270, 3) := dk_183 1 14 (dk_at dksJ15_init_0 1 rfl rfl)
theorem dJ15_init_4 : decode cJ15_init 4 = .ok (.aload_n 0, 1) := dk_42 (dk_at dksJ15_init_0 4 rfl rfl)
theorem dJ15_init_5 : decode cJ15_init 5 = .ok (.lload_n 1, 1) := dk_31 (dk_at dksJ15_init_0 5 rfl rfl)
theorem dJ15_init_6 : decode cJ15_init 6 = .ok (.putfield 273, 3) := dk_181 1 17 (dk_at dksJ15_init_0 6 rfl rfl)
theorem dJ15_init_9 : decode cJ15_init 9 = .ok (.return_, 1) := dk_177 (dk_at dksJ15_init_0 9 rfl rfl)
theorem q156 : (Jvm.Cond.initialized "java/lang/Long") ∈ lw_all := lw_g (lw_at lw_m1 33 rfl) rfl
theorem q803 : (Jvm.Cond.instanceMethod ({ cls := "java/lang/Long", name := "longValue", desc := "()J" } : Jvm.MethodName)) ∈ lw_all := lw_g (lw_at lw_m3 200 rfl) rfl
theorem q804 : (Jvm.Cond.selects "java/lang/Long" ({ cls := "java/lang/Long", name := "longValue", desc := "()J" } : Jvm.MethodName) ({ cls := "java/lang/Long", name := "longValue", desc := "()J" } : Jvm.MethodName)) ∈ lw_all := lw_g (lw_at lw_m3 201 rfl) rfl
theorem q805 : (Jvm.Cond.code ({ cls := "java/lang/Long", name := "longValue", desc := "()J" } : Jvm.MethodName) prog_43_method_31_code (1 : Nat) (Option.some Jvm.ClassFile.FieldType.long)) ∈ lw_all := lw_g (lw_at lw_m3 202 rfl) rfl
theorem q965 : (Jvm.Cond.selects "java/lang/Long" ({ cls := "java/lang/Object", name := "getClass", desc := "()Ljava/lang/Class;" } : Jvm.MethodName) ({ cls := "java/lang/Object", name := "getClass", desc := "()Ljava/lang/Class;" } : Jvm.MethodName)) ∈ lw_all := lw_g (lw_at lw_m4 122 rfl) rfl
theorem q1058 : (Jvm.Cond.static ({ cls := "java/lang/Long", name := "valueOf", desc := "(J)Ljava/lang/Long;" } : Jvm.MethodName)) ∈ lw_all := lw_g (lw_at lw_m4 215 rfl) rfl
theorem q1059 : (Jvm.Cond.code ({ cls := "java/lang/Long", name := "valueOf", desc := "(J)Ljava/lang/Long;" } : Jvm.MethodName) prog_43_method_24_code (3 : Nat) (Option.some (Jvm.ClassFile.FieldType.object "java/lang/Long"))) ∈ lw_all := lw_g (lw_at lw_m4 216 rfl) rfl
theorem q1060 : (Jvm.Cond.constantLong "java/lang/Long" (230 : Nat) (-128 : Int64)) ∈ lw_all := lw_g (lw_at lw_m4 217 rfl) rfl
theorem q1061 : (Jvm.Cond.constantLong "java/lang/Long" (232 : Nat) (127 : Int64)) ∈ lw_all := lw_g (lw_at lw_m4 218 rfl) rfl
theorem q1062 : (Jvm.Cond.fieldLink "java/lang/Long" (234 : Nat) "java/lang/Long$LongCache" "cache" "[Ljava/lang/Long;") ∈ lw_all := lw_g (lw_at lw_m4 219 rfl) rfl
theorem q1064 : (Jvm.Cond.classLink "java/lang/Long" (1 : Nat) "java/lang/Long") ∈ lw_all := lw_g (lw_at lw_m4 221 rfl) rfl
theorem q1065 : (Jvm.Cond.instantiable "java/lang/Long" (1 : Nat)) ∈ lw_all := lw_g (lw_at lw_m4 222 rfl) rfl
theorem q1066 : (Jvm.Cond.methodLink "java/lang/Long" (240 : Nat) ({ cls := "java/lang/Long", name := "<init>", desc := "(J)V" } : Jvm.MethodName)) ∈ lw_all := lw_g (lw_at lw_m4 223 rfl) rfl
theorem q1067 : (Jvm.Cond.instanceMethod ({ cls := "java/lang/Long", name := "<init>", desc := "(J)V" } : Jvm.MethodName)) ∈ lw_all := lw_g (lw_at lw_m4 224 rfl) rfl
theorem q1068 : (Jvm.Cond.code ({ cls := "java/lang/Long", name := "<init>", desc := "(J)V" } : Jvm.MethodName) prog_43_method_26_code (3 : Nat) (Option.none : Option Jvm.ClassFile.FieldType)) ∈ lw_all := lw_g (lw_at lw_m4 225 rfl) rfl
theorem q1069 : (Jvm.Cond.methodLink "java/lang/Long" (270 : Nat) ({ cls := "java/lang/Number", name := "<init>", desc := "()V" } : Jvm.MethodName)) ∈ lw_all := lw_g (lw_at lw_m4 226 rfl) rfl
theorem q1073 : (Jvm.Cond.fieldLink "java/lang/Long" (273 : Nat) "java/lang/Long" "value" "J") ∈ lw_all := lw_g (lw_at lw_m4 230 rfl) rfl
theorem q1074 : (Jvm.Cond.laysFinal "java/lang/Long" "java/lang/Long" "value" "J") ∈ lw_all := lw_g (lw_at lw_m4 231 rfl) rfl
theorem q1075 : (Jvm.Cond.soleField "java/lang/Long" "value") ∈ lw_all := lw_g (lw_at lw_m4 232 rfl) rfl
theorem q1076 : (Jvm.Cond.superclass "java/lang/Long" "java/lang/Number") ∈ lw_all := lw_g (lw_at lw_m4 233 rfl) rfl
theorem q2620 : (Jvm.Cond.castable "java/lang/Long" "java/lang/Object") ∈ lw_tbl := lw_at lw_m11 97 rfl
theorem in_J15 : ∀ w ∈ wsJ150, w ∈ lw_all := lw_in wsJ150 [1074] (by decide +kernel) (by decide +kernel)
/-! java/lang/RuntimeException -/
set_option maxRecDepth 100000
def RJ16 : String := "java/lang/RuntimeException"
abbrev cJ16_init : ByteArray := prog_47_method_1_code
def yJ16_init : MethodName := ⟨RJ16, "<init>", "()V"⟩
theorem dJ16_init_0 : decode cJ16_init 0 = .ok (.aload_n 0, 1) := by decide +kernel
theorem dJ16_init_1 : decode cJ16_init 1 = .ok (.invokespecial 1, 3) := by decide +kernel
theorem dJ16_init_4 : decode cJ16_init 4 = .ok (.return_, 1) := by decide +kernel
theorem q175 : (Jvm.Cond.initialized "java/lang/RuntimeException") ∈ lw_all := lw_g (lw_at lw_m1 52 rfl) rfl
theorem q1835 : (Jvm.Cond.declares ({ cls := "java/lang/RuntimeException", name := "<init>", desc := "()V" } : Jvm.MethodName)) ∈ lw_tbl := lw_at lw_m8 32 rfl
theorem q1836 : (Jvm.Cond.declares ({ cls := "java/lang/RuntimeException", name := "<init>", desc := "(Ljava/lang/String;)V" } : Jvm.MethodName)) ∈ lw_tbl := lw_at lw_m8 33 rfl
theorem q1847 : (Jvm.Cond.instanceMethod ({ cls := "java/lang/RuntimeException", name := "<init>", desc := "()V" } : Jvm.MethodName)) ∈ lw_all := lw_g (lw_at lw_m8 44 rfl) rfl
theorem q1848 : (Jvm.Cond.code ({ cls := "java/lang/RuntimeException", name := "<init>", desc := "()V" } : Jvm.MethodName) prog_47_method_1_code (1 : Nat) (Option.none : Option Jvm.ClassFile.FieldType)) ∈ lw_all := lw_g (lw_at lw_m8 45 rfl) rfl
theorem q1849 : (Jvm.Cond.methodLink "java/lang/RuntimeException" (1 : Nat) ({ cls := "java/lang/Exception", name := "<init>", desc := "()V" } : Jvm.MethodName)) ∈ lw_all := lw_g (lw_at lw_m8 46 rfl) rfl
/-! java/util/NoSuchElementException -/
set_option maxRecDepth 100000
def RJ17 : String := "java/util/NoSuchElementException"
def TJ17 : u_T := fun k => match k with
  | 0 => ("java/lang/Throwable", "cause", "Ljava/lang/Throwable;", false)
  | 1 => ("java/lang/Throwable", "stackTrace", "[Ljava/lang/StackTraceElement;", false)
  | 2 => ("java/lang/Throwable", "suppressedExceptions", "Ljava/util/List;", false)
  | 3 => ("java/lang/Throwable", "detailMessage", "Ljava/lang/String;", false)
  | 4 => ("java/lang/Throwable", "backtrace", "Ljava/lang/Object;", false)
  | _ => ("java/lang/Throwable", "depth", "I", false)
def tyJ17 : Nat → FieldType := fun k => match k with
  | 0 => .object "java/lang/Throwable"
  | 1 => .array (.object "java/lang/StackTraceElement")
  | 2 => .object "java/util/List"
  | 3 => .object "java/lang/String"
  | 4 => .object "java/lang/Object"
  | _ => .int
abbrev wsJ170 : List Cond := u_ws RJ17 TJ17 6
theorem nmJ17 : ∀ a, a < 6 → ∀ b, b < 6 → a ≠ b → (TJ17 a).2.1 ≠ (TJ17 b).2.1 := by decide +kernel
theorem tyJ17_ok : ∀ k, k < 6 → parseFieldDescriptor (TJ17 k).2.2.1 = some (tyJ17 k) := by decide +kernel
abbrev cJ17_init : ByteArray := prog_61_method_1_code
def yJ17_init : MethodName := ⟨RJ17, "<init>", "()V"⟩
theorem dJ17_init_0 : decode cJ17_init 0 = .ok (.aload_n 0, 1) := by decide +kernel
theorem dJ17_init_1 : decode cJ17_init 1 = .ok (.invokespecial 1, 3) := by decide +kernel
theorem dJ17_init_4 : decode cJ17_init 4 = .ok (.return_, 1) := by decide +kernel
theorem q176 : (Jvm.Cond.initialized "java/util/NoSuchElementException") ∈ lw_all := lw_g (lw_at lw_m1 53 rfl) rfl
theorem q752 : (Jvm.Cond.selects "java/util/NoSuchElementException" ({ cls := "java/lang/Throwable", name := "fillInStackTrace", desc := "()Ljava/lang/Throwable;" } : Jvm.MethodName) ({ cls := "java/lang/Throwable", name := "fillInStackTrace", desc := "()Ljava/lang/Throwable;" } : Jvm.MethodName)) ∈ lw_all := lw_g (lw_at lw_m3 149 rfl) rfl
theorem q967 : (Jvm.Cond.selects "java/util/NoSuchElementException" ({ cls := "java/lang/Object", name := "getClass", desc := "()Ljava/lang/Class;" } : Jvm.MethodName) ({ cls := "java/lang/Object", name := "getClass", desc := "()Ljava/lang/Class;" } : Jvm.MethodName)) ∈ lw_all := lw_g (lw_at lw_m4 124 rfl) rfl
theorem q1833 : (Jvm.Cond.instantiable "java/util/NoSuchElementException" (6 : Nat)) ∈ lw_all := lw_g (lw_at lw_m8 30 rfl) rfl
theorem q1834 : (Jvm.Cond.castable "java/util/NoSuchElementException" "java/util/NoSuchElementException") ∈ lw_tbl := lw_at lw_m8 31 rfl
theorem q1837 : (Jvm.Cond.selects "java/util/NoSuchElementException" ({ cls := "java/lang/Throwable", name := "fillInStackTrace", desc := "(I)Ljava/lang/Throwable;" } : Jvm.MethodName) ({ cls := "java/lang/Throwable", name := "fillInStackTrace", desc := "(I)Ljava/lang/Throwable;" } : Jvm.MethodName)) ∈ lw_all := lw_g (lw_at lw_m8 34 rfl) rfl
theorem q1838 : (Jvm.Cond.lays "java/util/NoSuchElementException" "java/lang/Throwable" "cause" "Ljava/lang/Throwable;") ∈ lw_all := lw_g (lw_at lw_m8 35 rfl) rfl
theorem q1839 : (Jvm.Cond.lays "java/util/NoSuchElementException" "java/lang/Throwable" "stackTrace" "[Ljava/lang/StackTraceElement;") ∈ lw_all := lw_g (lw_at lw_m8 36 rfl) rfl
theorem q1840 : (Jvm.Cond.lays "java/util/NoSuchElementException" "java/lang/Throwable" "suppressedExceptions" "Ljava/util/List;") ∈ lw_all := lw_g (lw_at lw_m8 37 rfl) rfl
theorem q1841 : (Jvm.Cond.lays "java/util/NoSuchElementException" "java/lang/Throwable" "detailMessage" "Ljava/lang/String;") ∈ lw_all := lw_g (lw_at lw_m8 38 rfl) rfl
theorem q1842 : (Jvm.Cond.lays "java/util/NoSuchElementException" "java/lang/Throwable" "backtrace" "Ljava/lang/Object;") ∈ lw_all := lw_g (lw_at lw_m8 39 rfl) rfl
theorem q1844 : (Jvm.Cond.instanceMethod ({ cls := "java/util/NoSuchElementException", name := "<init>", desc := "()V" } : Jvm.MethodName)) ∈ lw_all := lw_g (lw_at lw_m8 41 rfl) rfl
theorem q1845 : (Jvm.Cond.code ({ cls := "java/util/NoSuchElementException", name := "<init>", desc := "()V" } : Jvm.MethodName) prog_61_method_1_code (1 : Nat) (Option.none : Option Jvm.ClassFile.FieldType)) ∈ lw_all := lw_g (lw_at lw_m8 42 rfl) rfl
theorem q1846 : (Jvm.Cond.methodLink "java/util/NoSuchElementException" (1 : Nat) ({ cls := "java/lang/RuntimeException", name := "<init>", desc := "()V" } : Jvm.MethodName)) ∈ lw_all := lw_g (lw_at lw_m8 43 rfl) rfl
theorem q1850 : (Jvm.Cond.lays "java/util/NoSuchElementException" "java/lang/Throwable" "depth" "I") ∈ lw_all := lw_g (lw_at lw_m8 47 rfl) rfl
theorem q1851 : (Jvm.Cond.superclass "java/util/NoSuchElementException" "java/lang/RuntimeException") ∈ lw_all := lw_g (lw_at lw_m8 48 rfl) rfl
theorem q2635 : (Jvm.Cond.castable "java/util/NoSuchElementException" "java/lang/Object") ∈ lw_tbl := lw_at lw_m11 112 rfl
theorem in_J17 : ∀ w ∈ wsJ170, w ∈ lw_all := lw_in wsJ170 [1838, 1839, 1840, 1841, 1842, 1850] (by decide +kernel) (by decide +kernel)
/-! java/lang/Object -/
set_option maxRecDepth 100000
def RJ18 : String := "java/lang/Object"
abbrev cJ18_init : ByteArray := object_method_1_code
def yJ18_init : MethodName := ⟨RJ18, "<init>", "()V"⟩
theorem dJ18_init_0 : decode cJ18_init 0 = .ok (.return_, 1) := by decide +kernel
theorem q184 : (Jvm.Cond.instanceMethod ({ cls := "java/lang/Object", name := "<init>", desc := "()V" } : Jvm.MethodName)) ∈ lw_all := lw_g (lw_at lw_m1 61 rfl) rfl
theorem q185 : (Jvm.Cond.code ({ cls := "java/lang/Object", name := "<init>", desc := "()V" } : Jvm.MethodName) object_method_1_code (1 : Nat) (Option.none : Option Jvm.ClassFile.FieldType)) ∈ lw_all := lw_g (lw_at lw_m1 62 rfl) rfl
theorem q932 : (Jvm.Cond.instanceMethod ({ cls := "java/lang/Object", name := "getClass", desc := "()Ljava/lang/Class;" } : Jvm.MethodName)) ∈ lw_all := lw_g (lw_at lw_m4 89 rfl) rfl
theorem q933 : (Jvm.Cond.sameMethod "java/lang/Object" "java/lang/Object" "getClass" "()Ljava/lang/Class;") ∈ lw_all := lw_g (lw_at lw_m4 90 rfl) rfl
theorem q968 : (Jvm.Cond.native ({ cls := "java/lang/Object", name := "getClass", desc := "()Ljava/lang/Class;" } : Jvm.MethodName)) ∈ lw_all := lw_g (lw_at lw_m4 125 rfl) rfl
theorem q2639 : (Jvm.Cond.declares ({ cls := "java/lang/Object", name := "getClass", desc := "()Ljava/lang/Class;" } : Jvm.MethodName)) ∈ lw_tbl := lw_at lw_m11 116 rfl
