/-! NameOrchard$Reader -/
set_option maxRecDepth 100000
def RX2 : String := "NameOrchard$Reader"
def TX2 : u_T := fun k => match k with
  | 0 => ("NameOrchard$Reader", "nearFacts", "[Ljava/lang/String;", true)
  | 1 => ("NameOrchard$Reader", "valueFacts", "[Ljava/lang/String;", true)
  | 2 => ("NameOrchard$Reader", "kinds", "[Ljava/lang/String;", true)
  | 3 => ("NameOrchard$Reader", "kept", "[Ljava/lang/String;", true)
  | 4 => ("NameOrchard$Reader", "draft", "LNameOrchard$Orchard;", false)
  | 5 => ("NameOrchard$Reader", "facts", "[Ljava/lang/String;", false)
  | 6 => ("NameOrchard$Reader", "tape", "[I", true)
  | 7 => ("NameOrchard$Reader", "taped", "I", false)
  | 8 => ("NameOrchard$Reader", "sort", "[I", true)
  | 9 => ("NameOrchard$Reader", "value", "[J", true)
  | 10 => ("NameOrchard$Reader", "place", "[I", true)
  | 11 => ("NameOrchard$Reader", "at", "I", false)
  | _ => ("NameOrchard$Reader", "deep", "I", false)
def tyX2 : Nat → FieldType := fun k => match k with
  | 0 => .array (.object "java/lang/String")
  | 1 => .array (.object "java/lang/String")
  | 2 => .array (.object "java/lang/String")
  | 3 => .array (.object "java/lang/String")
  | 4 => .object "NameOrchard$Orchard"
  | 5 => .array (.object "java/lang/String")
  | 6 => .array .int
  | 7 => .int
  | 8 => .array .int
  | 9 => .array .long
  | 10 => .array .int
  | 11 => .int
  | _ => .int
abbrev wsX20 : List Cond := u_ws RX2 TX2 13
set_option maxRecDepth 100000 in
theorem nmX2 : ∀ a, a < 13 → ∀ b, b < 13 → a ≠ b → (TX2 a).2.1 ≠ (TX2 b).2.1 := by decide +kernel
set_option maxRecDepth 100000 in
theorem tyX2_ok : ∀ k, k < 13 → parseFieldDescriptor (TX2 k).2.2.1 = some (tyX2 k) := by decide +kernel
abbrev cX2_init : ByteArray := prog_27_method_1_code
def yX2_init : MethodName := ⟨RX2, "<init>", "()V"⟩
def dkwX2_init_10 : List UInt8 := [17, 3, 233, 188, 10, 181, 0, 99, 177]
abbrev dktX2_init_10 : List UInt8 := dkwX2_init_10 ++ []
def dkwX2_init_9 : List UInt8 := [181, 0, 89, 42, 17, 3, 233, 188, 10, 181, 0, 93, 42, 17, 3, 233, 188, 11, 181, 0, 96, 42]
abbrev dktX2_init_9 : List UInt8 := dkwX2_init_9 ++ dktX2_init_10
def dkwX2_init_8 : List UInt8 := [83, 89, 16, 19, 18, 81, 83, 181, 0, 83, 42, 42, 180, 0, 19, 181, 0, 86, 42, 17, 3, 232, 188, 10]
abbrev dktX2_init_8 : List UInt8 := dkwX2_init_8 ++ dktX2_init_9
def dkwX2_init_7 : List UInt8 := [83, 89, 16, 15, 18, 73, 83, 89, 16, 16, 18, 75, 83, 89, 16, 17, 18, 77, 83, 89, 16, 18, 18, 79]
abbrev dktX2_init_7 : List UInt8 := dkwX2_init_7 ++ dktX2_init_8
def dkwX2_init_6 : List UInt8 := [83, 89, 16, 11, 18, 65, 83, 89, 16, 12, 18, 67, 83, 89, 16, 13, 18, 69, 83, 89, 16, 14, 18, 71]
abbrev dktX2_init_6 : List UInt8 := dkwX2_init_6 ++ dktX2_init_7
def dkwX2_init_5 : List UInt8 := [83, 89, 16, 7, 18, 57, 83, 89, 16, 8, 18, 59, 83, 89, 16, 9, 18, 61, 83, 89, 16, 10, 18, 63]
abbrev dktX2_init_5 : List UInt8 := dkwX2_init_5 ++ dktX2_init_6
def dkwX2_init_4 : List UInt8 := [5, 18, 47, 83, 89, 6, 18, 49, 83, 89, 7, 18, 51, 83, 89, 8, 18, 53, 83, 89, 16, 6, 18, 55]
abbrev dktX2_init_4 : List UInt8 := dkwX2_init_4 ++ dktX2_init_5
def dkwX2_init_3 : List UInt8 := [6, 18, 38, 83, 181, 0, 40, 42, 16, 20, 189, 0, 9, 89, 3, 18, 43, 83, 89, 4, 18, 45, 83, 89]
abbrev dktX2_init_3 : List UInt8 := dkwX2_init_3 ++ dktX2_init_4
def dkwX2_init_2 : List UInt8 := [181, 0, 29, 42, 7, 189, 0, 9, 89, 3, 18, 32, 83, 89, 4, 18, 34, 83, 89, 5, 18, 36, 83, 89]
abbrev dktX2_init_2 : List UInt8 := dkwX2_init_2 ++ dktX2_init_3
def dkwX2_init_1 : List UInt8 := [89, 6, 18, 17, 83, 181, 0, 19, 42, 5, 189, 0, 9, 89, 3, 18, 25, 83, 89, 4, 18, 27, 83]
abbrev dktX2_init_1 : List UInt8 := dkwX2_init_1 ++ dktX2_init_2
def dkwX2_init_0 : List UInt8 := [42, 183, 0, 3, 42, 7, 189, 0, 9, 89, 3, 18, 11, 83, 89, 4, 18, 13, 83, 89, 5, 18, 15, 83]
abbrev dktX2_init_0 : List UInt8 := dkwX2_init_0 ++ dktX2_init_1
theorem dksX2_init_0 : cX2_init.data.toList.drop 0 = dktX2_init_0 := by decide +kernel
theorem dksX2_init_1 : cX2_init.data.toList.drop 24 = dktX2_init_1 := dk_seg dksX2_init_0 24 rfl rfl
theorem dksX2_init_2 : cX2_init.data.toList.drop 47 = dktX2_init_2 := dk_seg dksX2_init_1 23 rfl rfl
theorem dksX2_init_3 : cX2_init.data.toList.drop 71 = dktX2_init_3 := dk_seg dksX2_init_2 24 rfl rfl
theorem dksX2_init_4 : cX2_init.data.toList.drop 95 = dktX2_init_4 := dk_seg dksX2_init_3 24 rfl rfl
theorem dksX2_init_5 : cX2_init.data.toList.drop 119 = dktX2_init_5 := dk_seg dksX2_init_4 24 rfl rfl
theorem dksX2_init_6 : cX2_init.data.toList.drop 143 = dktX2_init_6 := dk_seg dksX2_init_5 24 rfl rfl
theorem dksX2_init_7 : cX2_init.data.toList.drop 167 = dktX2_init_7 := dk_seg dksX2_init_6 24 rfl rfl
theorem dksX2_init_8 : cX2_init.data.toList.drop 191 = dktX2_init_8 := dk_seg dksX2_init_7 24 rfl rfl
theorem dksX2_init_9 : cX2_init.data.toList.drop 215 = dktX2_init_9 := dk_seg dksX2_init_8 24 rfl rfl
theorem dksX2_init_10 : cX2_init.data.toList.drop 237 = dktX2_init_10 := dk_seg dksX2_init_9 22 rfl rfl
theorem dX2_init_0 : decode cX2_init 0 = .ok (.aload_n 0, 1) := dk_42 (dk_at dksX2_init_0 0 rfl rfl)
theorem dX2_init_1 : decode cX2_init 1 = .ok (.invokespecial 3, 3) := dk_183 0 3 (dk_at dksX2_init_0 1 rfl rfl)
theorem dX2_init_4 : decode cX2_init 4 = .ok (.aload_n 0, 1) := dk_42 (dk_at dksX2_init_0 4 rfl rfl)
theorem dX2_init_5 : decode cX2_init 5 = .ok (.iconst 4, 1) := dk_7 (dk_at dksX2_init_0 5 rfl rfl)
theorem dX2_init_6 : decode cX2_init 6 = .ok (.anewarray 9, 3) := dk_189 0 9 (dk_at dksX2_init_0 6 rfl rfl)
theorem dX2_init_9 : decode cX2_init 9 = .ok (.dup, 1) := dk_89 (dk_at dksX2_init_0 9 rfl rfl)
theorem dX2_init_10 : decode cX2_init 10 = .ok (.iconst 0, 1) := dk_3 (dk_at dksX2_init_0 10 rfl rfl)
theorem dX2_init_11 : decode cX2_init 11 = .ok (.ldc 11, 2) := dk_18 11 (dk_at dksX2_init_0 11 rfl rfl)
theorem dX2_init_13 : decode cX2_init 13 = .ok (.aastore, 1) := dk_83 (dk_at dksX2_init_0 13 rfl rfl)
theorem dX2_init_14 : decode cX2_init 14 = .ok (.dup, 1) := dk_89 (dk_at dksX2_init_0 14 rfl rfl)
theorem dX2_init_15 : decode cX2_init 15 = .ok (.iconst 1, 1) := dk_4 (dk_at dksX2_init_0 15 rfl rfl)
theorem dX2_init_16 : decode cX2_init 16 = .ok (.ldc 13, 2) := dk_18 13 (dk_at dksX2_init_0 16 rfl rfl)
theorem dX2_init_18 : decode cX2_init 18 = .ok (.aastore, 1) := dk_83 (dk_at dksX2_init_0 18 rfl rfl)
theorem dX2_init_19 : decode cX2_init 19 = .ok (.dup, 1) := dk_89 (dk_at dksX2_init_0 19 rfl rfl)
theorem dX2_init_20 : decode cX2_init 20 = .ok (.iconst 2, 1) := dk_5 (dk_at dksX2_init_0 20 rfl rfl)
theorem dX2_init_21 : decode cX2_init 21 = .ok (.ldc 15, 2) := dk_18 15 (dk_at dksX2_init_0 21 rfl rfl)
theorem dX2_init_23 : decode cX2_init 23 = .ok (.aastore, 1) := dk_83 (dk_at dksX2_init_0 23 rfl rfl)
theorem dX2_init_24 : decode cX2_init 24 = .ok (.dup, 1) := dk_89 (dk_at dksX2_init_1 0 rfl rfl)
theorem dX2_init_25 : decode cX2_init 25 = .ok (.iconst 3, 1) := dk_6 (dk_at dksX2_init_1 1 rfl rfl)
theorem dX2_init_26 : decode cX2_init 26 = .ok (.ldc 17, 2) := dk_18 17 (dk_at dksX2_init_1 2 rfl rfl)
theorem dX2_init_28 : decode cX2_init 28 = .ok (.aastore, 1) := dk_83 (dk_at dksX2_init_1 4 rfl rfl)
theorem dX2_init_29 : decode cX2_init 29 = .ok (.putfield 19, 3) := dk_181 0 19 (dk_at dksX2_init_1 5 rfl rfl)
theorem dX2_init_32 : decode cX2_init 32 = .ok (.aload_n 0, 1) := dk_42 (dk_at dksX2_init_1 8 rfl rfl)
theorem dX2_init_33 : decode cX2_init 33 = .ok (.iconst 2, 1) := dk_5 (dk_at dksX2_init_1 9 rfl rfl)
theorem dX2_init_34 : decode cX2_init 34 = .ok (.anewarray 9, 3) := dk_189 0 9 (dk_at dksX2_init_1 10 rfl rfl)
theorem dX2_init_37 : decode cX2_init 37 = .ok (.dup, 1) := dk_89 (dk_at dksX2_init_1 13 rfl rfl)
theorem dX2_init_38 : decode cX2_init 38 = .ok (.iconst 0, 1) := dk_3 (dk_at dksX2_init_1 14 rfl rfl)
theorem dX2_init_39 : decode cX2_init 39 = .ok (.ldc 25, 2) := dk_18 25 (dk_at dksX2_init_1 15 rfl rfl)
theorem dX2_init_41 : decode cX2_init 41 = .ok (.aastore, 1) := dk_83 (dk_at dksX2_init_1 17 rfl rfl)
theorem dX2_init_42 : decode cX2_init 42 = .ok (.dup, 1) := dk_89 (dk_at dksX2_init_1 18 rfl rfl)
theorem dX2_init_43 : decode cX2_init 43 = .ok (.iconst 1, 1) := dk_4 (dk_at dksX2_init_1 19 rfl rfl)
theorem dX2_init_44 : decode cX2_init 44 = .ok (.ldc 27, 2) := dk_18 27 (dk_at dksX2_init_1 20 rfl rfl)
theorem dX2_init_46 : decode cX2_init 46 = .ok (.aastore, 1) := dk_83 (dk_at dksX2_init_1 22 rfl rfl)
theorem dX2_init_47 : decode cX2_init 47 = .ok (.putfield 29, 3) := dk_181 0 29 (dk_at dksX2_init_2 0 rfl rfl)
theorem dX2_init_50 : decode cX2_init 50 = .ok (.aload_n 0, 1) := dk_42 (dk_at dksX2_init_2 3 rfl rfl)
theorem dX2_init_51 : decode cX2_init 51 = .ok (.iconst 4, 1) := dk_7 (dk_at dksX2_init_2 4 rfl rfl)
theorem dX2_init_52 : decode cX2_init 52 = .ok (.anewarray 9, 3) := dk_189 0 9 (dk_at dksX2_init_2 5 rfl rfl)
theorem dX2_init_55 : decode cX2_init 55 = .ok (.dup, 1) := dk_89 (dk_at dksX2_init_2 8 rfl rfl)
theorem dX2_init_56 : decode cX2_init 56 = .ok (.iconst 0, 1) := dk_3 (dk_at dksX2_init_2 9 rfl rfl)
theorem dX2_init_57 : decode cX2_init 57 = .ok (.ldc 32, 2) := dk_18 32 (dk_at dksX2_init_2 10 rfl rfl)
theorem dX2_init_59 : decode cX2_init 59 = .ok (.aastore, 1) := dk_83 (dk_at dksX2_init_2 12 rfl rfl)
theorem dX2_init_60 : decode cX2_init 60 = .ok (.dup, 1) := dk_89 (dk_at dksX2_init_2 13 rfl rfl)
theorem dX2_init_61 : decode cX2_init 61 = .ok (.iconst 1, 1) := dk_4 (dk_at dksX2_init_2 14 rfl rfl)
theorem dX2_init_62 : decode cX2_init 62 = .ok (.ldc 34, 2) := dk_18 34 (dk_at dksX2_init_2 15 rfl rfl)
theorem dX2_init_64 : decode cX2_init 64 = .ok (.aastore, 1) := dk_83 (dk_at dksX2_init_2 17 rfl rfl)
theorem dX2_init_65 : decode cX2_init 65 = .ok (.dup, 1) := dk_89 (dk_at dksX2_init_2 18 rfl rfl)
theorem dX2_init_66 : decode cX2_init 66 = .ok (.iconst 2, 1) := dk_5 (dk_at dksX2_init_2 19 rfl rfl)
theorem dX2_init_67 : decode cX2_init 67 = .ok (.ldc 36, 2) := dk_18 36 (dk_at dksX2_init_2 20 rfl rfl)
theorem dX2_init_69 : decode cX2_init 69 = .ok (.aastore, 1) := dk_83 (dk_at dksX2_init_2 22 rfl rfl)
theorem dX2_init_70 : decode cX2_init 70 = .ok (.dup, 1) := dk_89 (dk_at dksX2_init_2 23 rfl rfl)
theorem dX2_init_71 : decode cX2_init 71 = .ok (.iconst 3, 1) := dk_6 (dk_at dksX2_init_3 0 rfl rfl)
theorem dX2_init_72 : decode cX2_init 72 = .ok (.ldc 38, 2) := dk_18 38 (dk_at dksX2_init_3 1 rfl rfl)
theorem dX2_init_74 : decode cX2_init 74 = .ok (.aastore, 1) := dk_83 (dk_at dksX2_init_3 3 rfl rfl)
theorem dX2_init_75 : decode cX2_init 75 = .ok (.putfield 40, 3) := dk_181 0 40 (dk_at dksX2_init_3 4 rfl rfl)
theorem dX2_init_78 : decode cX2_init 78 = .ok (.aload_n 0, 1) := dk_42 (dk_at dksX2_init_3 7 rfl rfl)
theorem dX2_init_79 : decode cX2_init 79 = .ok (.bipush 20, 2) := dk_16 20 (dk_at dksX2_init_3 8 rfl rfl)
theorem dX2_init_81 : decode cX2_init 81 = .ok (.anewarray 9, 3) := dk_189 0 9 (dk_at dksX2_init_3 10 rfl rfl)
theorem dX2_init_84 : decode cX2_init 84 = .ok (.dup, 1) := dk_89 (dk_at dksX2_init_3 13 rfl rfl)
theorem dX2_init_85 : decode cX2_init 85 = .ok (.iconst 0, 1) := dk_3 (dk_at dksX2_init_3 14 rfl rfl)
theorem dX2_init_86 : decode cX2_init 86 = .ok (.ldc 43, 2) := dk_18 43 (dk_at dksX2_init_3 15 rfl rfl)
theorem dX2_init_88 : decode cX2_init 88 = .ok (.aastore, 1) := dk_83 (dk_at dksX2_init_3 17 rfl rfl)
theorem dX2_init_89 : decode cX2_init 89 = .ok (.dup, 1) := dk_89 (dk_at dksX2_init_3 18 rfl rfl)
theorem dX2_init_90 : decode cX2_init 90 = .ok (.iconst 1, 1) := dk_4 (dk_at dksX2_init_3 19 rfl rfl)
theorem dX2_init_91 : decode cX2_init 91 = .ok (.ldc 45, 2) := dk_18 45 (dk_at dksX2_init_3 20 rfl rfl)
theorem dX2_init_93 : decode cX2_init 93 = .ok (.aastore, 1) := dk_83 (dk_at dksX2_init_3 22 rfl rfl)
theorem dX2_init_94 : decode cX2_init 94 = .ok (.dup, 1) := dk_89 (dk_at dksX2_init_3 23 rfl rfl)
theorem dX2_init_95 : decode cX2_init 95 = .ok (.iconst 2, 1) := dk_5 (dk_at dksX2_init_4 0 rfl rfl)
theorem dX2_init_96 : decode cX2_init 96 = .ok (.ldc 47, 2) := dk_18 47 (dk_at dksX2_init_4 1 rfl rfl)
theorem dX2_init_98 : decode cX2_init 98 = .ok (.aastore, 1) := dk_83 (dk_at dksX2_init_4 3 rfl rfl)
theorem dX2_init_99 : decode cX2_init 99 = .ok (.dup, 1) := dk_89 (dk_at dksX2_init_4 4 rfl rfl)
theorem dX2_init_100 : decode cX2_init 100 = .ok (.iconst 3, 1) := dk_6 (dk_at dksX2_init_4 5 rfl rfl)
theorem dX2_init_101 : decode cX2_init 101 = .ok (.ldc 49, 2) := dk_18 49 (dk_at dksX2_init_4 6 rfl rfl)
theorem dX2_init_103 : decode cX2_init 103 = .ok (.aastore, 1) := dk_83 (dk_at dksX2_init_4 8 rfl rfl)
theorem dX2_init_104 : decode cX2_init 104 = .ok (.dup, 1) := dk_89 (dk_at dksX2_init_4 9 rfl rfl)
theorem dX2_init_105 : decode cX2_init 105 = .ok (.iconst 4, 1) := dk_7 (dk_at dksX2_init_4 10 rfl rfl)
theorem dX2_init_106 : decode cX2_init 106 = .ok (.ldc 51, 2) := dk_18 51 (dk_at dksX2_init_4 11 rfl rfl)
theorem dX2_init_108 : decode cX2_init 108 = .ok (.aastore, 1) := dk_83 (dk_at dksX2_init_4 13 rfl rfl)
theorem dX2_init_109 : decode cX2_init 109 = .ok (.dup, 1) := dk_89 (dk_at dksX2_init_4 14 rfl rfl)
theorem dX2_init_110 : decode cX2_init 110 = .ok (.iconst 5, 1) := dk_8 (dk_at dksX2_init_4 15 rfl rfl)
theorem dX2_init_111 : decode cX2_init 111 = .ok (.ldc 53, 2) := dk_18 53 (dk_at dksX2_init_4 16 rfl rfl)
theorem dX2_init_113 : decode cX2_init 113 = .ok (.aastore, 1) := dk_83 (dk_at dksX2_init_4 18 rfl rfl)
theorem dX2_init_114 : decode cX2_init 114 = .ok (.dup, 1) := dk_89 (dk_at dksX2_init_4 19 rfl rfl)
theorem dX2_init_115 : decode cX2_init 115 = .ok (.bipush 6, 2) := dk_16 6 (dk_at dksX2_init_4 20 rfl rfl)
theorem dX2_init_117 : decode cX2_init 117 = .ok (.ldc 55, 2) := dk_18 55 (dk_at dksX2_init_4 22 rfl rfl)
theorem dX2_init_119 : decode cX2_init 119 = .ok (.aastore, 1) := dk_83 (dk_at dksX2_init_5 0 rfl rfl)
theorem dX2_init_120 : decode cX2_init 120 = .ok (.dup, 1) := dk_89 (dk_at dksX2_init_5 1 rfl rfl)
theorem dX2_init_121 : decode cX2_init 121 = .ok (.bipush 7, 2) := dk_16 7 (dk_at dksX2_init_5 2 rfl rfl)
theorem dX2_init_123 : decode cX2_init 123 = .ok (.ldc 57, 2) := dk_18 57 (dk_at dksX2_init_5 4 rfl rfl)
theorem dX2_init_125 : decode cX2_init 125 = .ok (.aastore, 1) := dk_83 (dk_at dksX2_init_5 6 rfl rfl)
theorem dX2_init_126 : decode cX2_init 126 = .ok (.dup, 1) := dk_89 (dk_at dksX2_init_5 7 rfl rfl)
theorem dX2_init_127 : decode cX2_init 127 = .ok (.bipush 8, 2) := dk_16 8 (dk_at dksX2_init_5 8 rfl rfl)
theorem dX2_init_129 : decode cX2_init 129 = .ok (.ldc 59, 2) := dk_18 59 (dk_at dksX2_init_5 10 rfl rfl)
theorem dX2_init_131 : decode cX2_init 131 = .ok (.aastore, 1) := dk_83 (dk_at dksX2_init_5 12 rfl rfl)
theorem dX2_init_132 : decode cX2_init 132 = .ok (.dup, 1) := dk_89 (dk_at dksX2_init_5 13 rfl rfl)
theorem dX2_init_133 : decode cX2_init 133 = .ok (.bipush 9, 2) := dk_16 9 (dk_at dksX2_init_5 14 rfl rfl)
theorem dX2_init_135 : decode cX2_init 135 = .ok (.ldc 61, 2) := dk_18 61 (dk_at dksX2_init_5 16 rfl rfl)
theorem dX2_init_137 : decode cX2_init 137 = .ok (.aastore, 1) := dk_83 (dk_at dksX2_init_5 18 rfl rfl)
theorem dX2_init_138 : decode cX2_init 138 = .ok (.dup, 1) := dk_89 (dk_at dksX2_init_5 19 rfl rfl)
theorem dX2_init_139 : decode cX2_init 139 = .ok (.bipush 10, 2) := dk_16 10 (dk_at dksX2_init_5 20 rfl rfl)
theorem dX2_init_141 : decode cX2_init 141 = .ok (.ldc 63, 2) := dk_18 63 (dk_at dksX2_init_5 22 rfl rfl)
theorem dX2_init_143 : decode cX2_init 143 = .ok (.aastore, 1) := dk_83 (dk_at dksX2_init_6 0 rfl rfl)
theorem dX2_init_144 : decode cX2_init 144 = .ok (.dup, 1) := dk_89 (dk_at dksX2_init_6 1 rfl rfl)
theorem dX2_init_145 : decode cX2_init 145 = .ok (.bipush 11, 2) := dk_16 11 (dk_at dksX2_init_6 2 rfl rfl)
theorem dX2_init_147 : decode cX2_init 147 = .ok (.ldc 65, 2) := dk_18 65 (dk_at dksX2_init_6 4 rfl rfl)
theorem dX2_init_149 : decode cX2_init 149 = .ok (.aastore, 1) := dk_83 (dk_at dksX2_init_6 6 rfl rfl)
theorem dX2_init_150 : decode cX2_init 150 = .ok (.dup, 1) := dk_89 (dk_at dksX2_init_6 7 rfl rfl)
theorem dX2_init_151 : decode cX2_init 151 = .ok (.bipush 12, 2) := dk_16 12 (dk_at dksX2_init_6 8 rfl rfl)
theorem dX2_init_153 : decode cX2_init 153 = .ok (.ldc 67, 2) := dk_18 67 (dk_at dksX2_init_6 10 rfl rfl)
theorem dX2_init_155 : decode cX2_init 155 = .ok (.aastore, 1) := dk_83 (dk_at dksX2_init_6 12 rfl rfl)
theorem dX2_init_156 : decode cX2_init 156 = .ok (.dup, 1) := dk_89 (dk_at dksX2_init_6 13 rfl rfl)
theorem dX2_init_157 : decode cX2_init 157 = .ok (.bipush 13, 2) := dk_16 13 (dk_at dksX2_init_6 14 rfl rfl)
theorem dX2_init_159 : decode cX2_init 159 = .ok (.ldc 69, 2) := dk_18 69 (dk_at dksX2_init_6 16 rfl rfl)
theorem dX2_init_161 : decode cX2_init 161 = .ok (.aastore, 1) := dk_83 (dk_at dksX2_init_6 18 rfl rfl)
theorem dX2_init_162 : decode cX2_init 162 = .ok (.dup, 1) := dk_89 (dk_at dksX2_init_6 19 rfl rfl)
theorem dX2_init_163 : decode cX2_init 163 = .ok (.bipush 14, 2) := dk_16 14 (dk_at dksX2_init_6 20 rfl rfl)
theorem dX2_init_165 : decode cX2_init 165 = .ok (.ldc 71, 2) := dk_18 71 (dk_at dksX2_init_6 22 rfl rfl)
theorem dX2_init_167 : decode cX2_init 167 = .ok (.aastore, 1) := dk_83 (dk_at dksX2_init_7 0 rfl rfl)
theorem dX2_init_168 : decode cX2_init 168 = .ok (.dup, 1) := dk_89 (dk_at dksX2_init_7 1 rfl rfl)
theorem dX2_init_169 : decode cX2_init 169 = .ok (.bipush 15, 2) := dk_16 15 (dk_at dksX2_init_7 2 rfl rfl)
theorem dX2_init_171 : decode cX2_init 171 = .ok (.ldc 73, 2) := dk_18 73 (dk_at dksX2_init_7 4 rfl rfl)
theorem dX2_init_173 : decode cX2_init 173 = .ok (.aastore, 1) := dk_83 (dk_at dksX2_init_7 6 rfl rfl)
theorem dX2_init_174 : decode cX2_init 174 = .ok (.dup, 1) := dk_89 (dk_at dksX2_init_7 7 rfl rfl)
theorem dX2_init_175 : decode cX2_init 175 = .ok (.bipush 16, 2) := dk_16 16 (dk_at dksX2_init_7 8 rfl rfl)
theorem dX2_init_177 : decode cX2_init 177 = .ok (.ldc 75, 2) := dk_18 75 (dk_at dksX2_init_7 10 rfl rfl)
theorem dX2_init_179 : decode cX2_init 179 = .ok (.aastore, 1) := dk_83 (dk_at dksX2_init_7 12 rfl rfl)
theorem dX2_init_180 : decode cX2_init 180 = .ok (.dup, 1) := dk_89 (dk_at dksX2_init_7 13 rfl rfl)
theorem dX2_init_181 : decode cX2_init 181 = .ok (.bipush 17, 2) := dk_16 17 (dk_at dksX2_init_7 14 rfl rfl)
theorem dX2_init_183 : decode cX2_init 183 = .ok (.ldc 77, 2) := dk_18 77 (dk_at dksX2_init_7 16 rfl rfl)
theorem dX2_init_185 : decode cX2_init 185 = .ok (.aastore, 1) := dk_83 (dk_at dksX2_init_7 18 rfl rfl)
theorem dX2_init_186 : decode cX2_init 186 = .ok (.dup, 1) := dk_89 (dk_at dksX2_init_7 19 rfl rfl)
theorem dX2_init_187 : decode cX2_init 187 = .ok (.bipush 18, 2) := dk_16 18 (dk_at dksX2_init_7 20 rfl rfl)
theorem dX2_init_189 : decode cX2_init 189 = .ok (.ldc 79, 2) := dk_18 79 (dk_at dksX2_init_7 22 rfl rfl)
theorem dX2_init_191 : decode cX2_init 191 = .ok (.aastore, 1) := dk_83 (dk_at dksX2_init_8 0 rfl rfl)
theorem dX2_init_192 : decode cX2_init 192 = .ok (.dup, 1) := dk_89 (dk_at dksX2_init_8 1 rfl rfl)
theorem dX2_init_193 : decode cX2_init 193 = .ok (.bipush 19, 2) := dk_16 19 (dk_at dksX2_init_8 2 rfl rfl)
theorem dX2_init_195 : decode cX2_init 195 = .ok (.ldc 81, 2) := dk_18 81 (dk_at dksX2_init_8 4 rfl rfl)
theorem dX2_init_197 : decode cX2_init 197 = .ok (.aastore, 1) := dk_83 (dk_at dksX2_init_8 6 rfl rfl)
theorem dX2_init_198 : decode cX2_init 198 = .ok (.putfield 83, 3) := dk_181 0 83 (dk_at dksX2_init_8 7 rfl rfl)
theorem dX2_init_201 : decode cX2_init 201 = .ok (.aload_n 0, 1) := dk_42 (dk_at dksX2_init_8 10 rfl rfl)
theorem dX2_init_202 : decode cX2_init 202 = .ok (.aload_n 0, 1) := dk_42 (dk_at dksX2_init_8 11 rfl rfl)
theorem dX2_init_203 : decode cX2_init 203 = .ok (.getfield 19, 3) := dk_180 0 19 (dk_at dksX2_init_8 12 rfl rfl)
theorem dX2_init_206 : decode cX2_init 206 = .ok (.putfield 86, 3) := dk_181 0 86 (dk_at dksX2_init_8 15 rfl rfl)
theorem dX2_init_209 : decode cX2_init 209 = .ok (.aload_n 0, 1) := dk_42 (dk_at dksX2_init_8 18 rfl rfl)
theorem dX2_init_210 : decode cX2_init 210 = .ok (.sipush 1000, 3) := dk_17 3 232 (dk_at dksX2_init_8 19 rfl rfl)
theorem dX2_init_213 : decode cX2_init 213 = .ok (.newarray .int, 2) := dk_188_10 (dk_at dksX2_init_8 22 rfl rfl)
theorem dX2_init_215 : decode cX2_init 215 = .ok (.putfield 89, 3) := dk_181 0 89 (dk_at dksX2_init_9 0 rfl rfl)
theorem dX2_init_218 : decode cX2_init 218 = .ok (.aload_n 0, 1) := dk_42 (dk_at dksX2_init_9 3 rfl rfl)
theorem dX2_init_219 : decode cX2_init 219 = .ok (.sipush 1001, 3) := dk_17 3 233 (dk_at dksX2_init_9 4 rfl rfl)
theorem dX2_init_222 : decode cX2_init 222 = .ok (.newarray .int, 2) := dk_188_10 (dk_at dksX2_init_9 7 rfl rfl)
theorem dX2_init_224 : decode cX2_init 224 = .ok (.putfield 93, 3) := dk_181 0 93 (dk_at dksX2_init_9 9 rfl rfl)
theorem dX2_init_227 : decode cX2_init 227 = .ok (.aload_n 0, 1) := dk_42 (dk_at dksX2_init_9 12 rfl rfl)
theorem dX2_init_228 : decode cX2_init 228 = .ok (.sipush 1001, 3) := dk_17 3 233 (dk_at dksX2_init_9 13 rfl rfl)
theorem dX2_init_231 : decode cX2_init 231 = .ok (.newarray .long, 2) := dk_188_11 (dk_at dksX2_init_9 16 rfl rfl)
theorem dX2_init_233 : decode cX2_init 233 = .ok (.putfield 96, 3) := dk_181 0 96 (dk_at dksX2_init_9 18 rfl rfl)
theorem dX2_init_236 : decode cX2_init 236 = .ok (.aload_n 0, 1) := dk_42 (dk_at dksX2_init_9 21 rfl rfl)
theorem dX2_init_237 : decode cX2_init 237 = .ok (.sipush 1001, 3) := dk_17 3 233 (dk_at dksX2_init_10 0 rfl rfl)
theorem dX2_init_240 : decode cX2_init 240 = .ok (.newarray .int, 2) := dk_188_10 (dk_at dksX2_init_10 3 rfl rfl)
theorem dX2_init_242 : decode cX2_init 242 = .ok (.putfield 99, 3) := dk_181 0 99 (dk_at dksX2_init_10 5 rfl rfl)
theorem dX2_init_245 : decode cX2_init 245 = .ok (.return_, 1) := dk_177 (dk_at dksX2_init_10 8 rfl rfl)
abbrev cX2_feed : ByteArray := prog_27_method_2_code
def yX2_feed : MethodName := ⟨RX2, "feed", "(J)V"⟩
def dkwX2_feed_3 : List UInt8 := [167, 255, 189, 177]
abbrev dktX2_feed_3 : List UInt8 := dkwX2_feed_3 ++ []
def dkwX2_feed_2 : List UInt8 := [180, 0, 89, 42, 180, 0, 108, 21, 4, 79, 42, 89, 180, 0, 108, 4, 96, 181, 0, 108, 132, 3, 248]
abbrev dktX2_feed_2 : List UInt8 := dkwX2_feed_2 ++ dktX2_feed_3
def dkwX2_feed_1 : List UInt8 := [21, 4, 16, 32, 16, 126, 184, 0, 104, 153, 0, 34, 42, 180, 0, 108, 17, 3, 232, 162, 0, 24, 42]
abbrev dktX2_feed_1 : List UInt8 := dkwX2_feed_1 ++ dktX2_feed_2
def dkwX2_feed_0 : List UInt8 := [16, 56, 62, 29, 155, 0, 69, 31, 29, 125, 20, 0, 102, 127, 136, 54, 4, 21, 4, 16, 10, 159, 0, 15]
abbrev dktX2_feed_0 : List UInt8 := dkwX2_feed_0 ++ dktX2_feed_1
theorem dksX2_feed_0 : cX2_feed.data.toList.drop 0 = dktX2_feed_0 := by decide +kernel
theorem dksX2_feed_1 : cX2_feed.data.toList.drop 24 = dktX2_feed_1 := dk_seg dksX2_feed_0 24 rfl rfl
theorem dksX2_feed_2 : cX2_feed.data.toList.drop 47 = dktX2_feed_2 := dk_seg dksX2_feed_1 23 rfl rfl
theorem dksX2_feed_3 : cX2_feed.data.toList.drop 70 = dktX2_feed_3 := dk_seg dksX2_feed_2 23 rfl rfl
theorem dX2_feed_0 : decode cX2_feed 0 = .ok (.bipush 56, 2) := dk_16 56 (dk_at dksX2_feed_0 0 rfl rfl)
theorem dX2_feed_2 : decode cX2_feed 2 = .ok (.istore_n 3, 1) := dk_62 (dk_at dksX2_feed_0 2 rfl rfl)
theorem dX2_feed_3 : decode cX2_feed 3 = .ok (.iload_n 3, 1) := dk_29 (dk_at dksX2_feed_0 3 rfl rfl)
theorem dX2_feed_4 : decode cX2_feed 4 = .ok (.ifCond .lt 69, 3) := dk_155 0 69 (dk_at dksX2_feed_0 4 rfl rfl)
theorem dX2_feed_7 : decode cX2_feed 7 = .ok (.lload_n 1, 1) := dk_31 (dk_at dksX2_feed_0 7 rfl rfl)
theorem dX2_feed_8 : decode cX2_feed 8 = .ok (.iload_n 3, 1) := dk_29 (dk_at dksX2_feed_0 8 rfl rfl)
theorem dX2_feed_9 : decode cX2_feed 9 = .ok (.lushr, 1) := dk_125 (dk_at dksX2_feed_0 9 rfl rfl)
theorem dX2_feed_10 : decode cX2_feed 10 = .ok (.ldc2_w 102, 3) := dk_20 0 102 (dk_at dksX2_feed_0 10 rfl rfl)
theorem dX2_feed_13 : decode cX2_feed 13 = .ok (.land, 1) := dk_127 (dk_at dksX2_feed_0 13 rfl rfl)
theorem dX2_feed_14 : decode cX2_feed 14 = .ok (.l2i, 1) := dk_136 (dk_at dksX2_feed_0 14 rfl rfl)
theorem dX2_feed_15 : decode cX2_feed 15 = .ok (.istore 4, 2) := dk_54 4 (dk_at dksX2_feed_0 15 rfl rfl)
theorem dX2_feed_17 : decode cX2_feed 17 = .ok (.iload 4, 2) := dk_21 4 (dk_at dksX2_feed_0 17 rfl rfl)
theorem dX2_feed_19 : decode cX2_feed 19 = .ok (.bipush 10, 2) := dk_16 10 (dk_at dksX2_feed_0 19 rfl rfl)
theorem dX2_feed_21 : decode cX2_feed 21 = .ok (.if_icmp .eq 15, 3) := dk_159 0 15 (dk_at dksX2_feed_0 21 rfl rfl)
theorem dX2_feed_24 : decode cX2_feed 24 = .ok (.iload 4, 2) := dk_21 4 (dk_at dksX2_feed_1 0 rfl rfl)
theorem dX2_feed_26 : decode cX2_feed 26 = .ok (.bipush 32, 2) := dk_16 32 (dk_at dksX2_feed_1 2 rfl rfl)
theorem dX2_feed_28 : decode cX2_feed 28 = .ok (.bipush 126, 2) := dk_16 126 (dk_at dksX2_feed_1 4 rfl rfl)
theorem dX2_feed_30 : decode cX2_feed 30 = .ok (.invokestatic 104, 3) := dk_184 0 104 (dk_at dksX2_feed_1 6 rfl rfl)
theorem dX2_feed_33 : decode cX2_feed 33 = .ok (.ifCond .eq 34, 3) := dk_153 0 34 (dk_at dksX2_feed_1 9 rfl rfl)
theorem dX2_feed_36 : decode cX2_feed 36 = .ok (.aload_n 0, 1) := dk_42 (dk_at dksX2_feed_1 12 rfl rfl)
theorem dX2_feed_37 : decode cX2_feed 37 = .ok (.getfield 108, 3) := dk_180 0 108 (dk_at dksX2_feed_1 13 rfl rfl)
theorem dX2_feed_40 : decode cX2_feed 40 = .ok (.sipush 1000, 3) := dk_17 3 232 (dk_at dksX2_feed_1 16 rfl rfl)
theorem dX2_feed_43 : decode cX2_feed 43 = .ok (.if_icmp .ge 24, 3) := dk_162 0 24 (dk_at dksX2_feed_1 19 rfl rfl)
theorem dX2_feed_46 : decode cX2_feed 46 = .ok (.aload_n 0, 1) := dk_42 (dk_at dksX2_feed_1 22 rfl rfl)
theorem dX2_feed_47 : decode cX2_feed 47 = .ok (.getfield 89, 3) := dk_180 0 89 (dk_at dksX2_feed_2 0 rfl rfl)
theorem dX2_feed_50 : decode cX2_feed 50 = .ok (.aload_n 0, 1) := dk_42 (dk_at dksX2_feed_2 3 rfl rfl)
theorem dX2_feed_51 : decode cX2_feed 51 = .ok (.getfield 108, 3) := dk_180 0 108 (dk_at dksX2_feed_2 4 rfl rfl)
theorem dX2_feed_54 : decode cX2_feed 54 = .ok (.iload 4, 2) := dk_21 4 (dk_at dksX2_feed_2 7 rfl rfl)
theorem dX2_feed_56 : decode cX2_feed 56 = .ok (.iastore, 1) := dk_79 (dk_at dksX2_feed_2 9 rfl rfl)
theorem dX2_feed_57 : decode cX2_feed 57 = .ok (.aload_n 0, 1) := dk_42 (dk_at dksX2_feed_2 10 rfl rfl)
theorem dX2_feed_58 : decode cX2_feed 58 = .ok (.dup, 1) := dk_89 (dk_at dksX2_feed_2 11 rfl rfl)
theorem dX2_feed_59 : decode cX2_feed 59 = .ok (.getfield 108, 3) := dk_180 0 108 (dk_at dksX2_feed_2 12 rfl rfl)
theorem dX2_feed_62 : decode cX2_feed 62 = .ok (.iconst 1, 1) := dk_4 (dk_at dksX2_feed_2 15 rfl rfl)
theorem dX2_feed_63 : decode cX2_feed 63 = .ok (.iadd, 1) := dk_96 (dk_at dksX2_feed_2 16 rfl rfl)
theorem dX2_feed_64 : decode cX2_feed 64 = .ok (.putfield 108, 3) := dk_181 0 108 (dk_at dksX2_feed_2 17 rfl rfl)
theorem dX2_feed_67 : decode cX2_feed 67 = .ok (.iinc 3 (-8), 3) := dk_132 3 248 (dk_at dksX2_feed_2 20 rfl rfl)
theorem dX2_feed_70 : decode cX2_feed 70 = .ok (.goto (-67), 3) := dk_167 255 189 (dk_at dksX2_feed_3 0 rfl rfl)
theorem dX2_feed_73 : decode cX2_feed 73 = .ok (.return_, 1) := dk_177 (dk_at dksX2_feed_3 3 rfl rfl)
abbrev cX2_orchard : ByteArray := prog_27_method_16_code
def yX2_orchard : MethodName := ⟨RX2, "orchard", "()LNameOrchard$Orchard;"⟩
def dkwX2_orchard_6 : List UInt8 := [182, 0, 194, 42, 16, 59, 182, 0, 197, 167, 255, 122, 42, 180, 0, 176, 176]
abbrev dktX2_orchard_6 : List UInt8 := dkwX2_orchard_6 ++ []
def dkwX2_orchard_5 : List UInt8 := [42, 182, 0, 190, 167, 0, 23, 42, 18, 65, 182, 0, 152, 153, 0, 10, 42, 182, 0, 192, 167, 0, 7, 42]
abbrev dktX2_orchard_5 : List UInt8 := dkwX2_orchard_5 ++ dktX2_orchard_6
def dkwX2_orchard_4 : List UInt8 := [18, 61, 182, 0, 152, 153, 0, 10, 42, 182, 0, 188, 167, 0, 39, 42, 18, 63, 182, 0, 152, 153, 0, 10]
abbrev dktX2_orchard_4 : List UInt8 := dkwX2_orchard_4 ++ dktX2_orchard_5
def dkwX2_orchard_3 : List UInt8 := [182, 0, 184, 167, 0, 71, 42, 18, 55, 182, 0, 152, 153, 0, 10, 42, 182, 0, 186, 167, 0, 55, 42]
abbrev dktX2_orchard_3 : List UInt8 := dkwX2_orchard_3 ++ dktX2_orchard_4
def dkwX2_orchard_2 : List UInt8 := [182, 0, 152, 153, 0, 10, 42, 182, 0, 182, 167, 0, 87, 42, 18, 53, 182, 0, 152, 153, 0, 10, 42]
abbrev dktX2_orchard_2 : List UInt8 := dkwX2_orchard_2 ++ dktX2_orchard_3
def dkwX2_orchard_1 : List UInt8 := [153, 0, 128, 42, 18, 43, 182, 0, 152, 153, 0, 10, 42, 182, 0, 180, 167, 0, 103, 42, 18, 51]
abbrev dktX2_orchard_1 : List UInt8 := dkwX2_orchard_1 ++ dktX2_orchard_2
def dkwX2_orchard_0 : List UInt8 := [42, 182, 0, 170, 42, 187, 0, 173, 89, 183, 0, 175, 181, 0, 176, 42, 180, 0, 93, 42, 180, 0, 141, 46]
abbrev dktX2_orchard_0 : List UInt8 := dkwX2_orchard_0 ++ dktX2_orchard_1
theorem dksX2_orchard_0 : cX2_orchard.data.toList.drop 0 = dktX2_orchard_0 := by decide +kernel
theorem dksX2_orchard_1 : cX2_orchard.data.toList.drop 24 = dktX2_orchard_1 := dk_seg dksX2_orchard_0 24 rfl rfl
theorem dksX2_orchard_2 : cX2_orchard.data.toList.drop 46 = dktX2_orchard_2 := dk_seg dksX2_orchard_1 22 rfl rfl
theorem dksX2_orchard_3 : cX2_orchard.data.toList.drop 69 = dktX2_orchard_3 := dk_seg dksX2_orchard_2 23 rfl rfl
theorem dksX2_orchard_4 : cX2_orchard.data.toList.drop 92 = dktX2_orchard_4 := dk_seg dksX2_orchard_3 23 rfl rfl
theorem dksX2_orchard_5 : cX2_orchard.data.toList.drop 116 = dktX2_orchard_5 := dk_seg dksX2_orchard_4 24 rfl rfl
theorem dksX2_orchard_6 : cX2_orchard.data.toList.drop 140 = dktX2_orchard_6 := dk_seg dksX2_orchard_5 24 rfl rfl
theorem dX2_orchard_0 : decode cX2_orchard 0 = .ok (.aload_n 0, 1) := dk_42 (dk_at dksX2_orchard_0 0 rfl rfl)
theorem dX2_orchard_1 : decode cX2_orchard 1 = .ok (.invokevirtual 170, 3) := dk_182 0 170 (dk_at dksX2_orchard_0 1 rfl rfl)
theorem dX2_orchard_4 : decode cX2_orchard 4 = .ok (.aload_n 0, 1) := dk_42 (dk_at dksX2_orchard_0 4 rfl rfl)
theorem dX2_orchard_5 : decode cX2_orchard 5 = .ok (.new 173, 3) := dk_187 0 173 (dk_at dksX2_orchard_0 5 rfl rfl)
theorem dX2_orchard_8 : decode cX2_orchard 8 = .ok (.dup, 1) := dk_89 (dk_at dksX2_orchard_0 8 rfl rfl)
theorem dX2_orchard_9 : decode cX2_orchard 9 = .ok (.invokespecial 175, 3) := dk_183 0 175 (dk_at dksX2_orchard_0 9 rfl rfl)
theorem dX2_orchard_12 : decode cX2_orchard 12 = .ok (.putfield 176, 3) := dk_181 0 176 (dk_at dksX2_orchard_0 12 rfl rfl)
theorem dX2_orchard_15 : decode cX2_orchard 15 = .ok (.aload_n 0, 1) := dk_42 (dk_at dksX2_orchard_0 15 rfl rfl)
theorem dX2_orchard_16 : decode cX2_orchard 16 = .ok (.getfield 93, 3) := dk_180 0 93 (dk_at dksX2_orchard_0 16 rfl rfl)
theorem dX2_orchard_19 : decode cX2_orchard 19 = .ok (.aload_n 0, 1) := dk_42 (dk_at dksX2_orchard_0 19 rfl rfl)
theorem dX2_orchard_20 : decode cX2_orchard 20 = .ok (.getfield 141, 3) := dk_180 0 141 (dk_at dksX2_orchard_0 20 rfl rfl)
theorem dX2_orchard_23 : decode cX2_orchard 23 = .ok (.iaload, 1) := dk_46 (dk_at dksX2_orchard_0 23 rfl rfl)
theorem dX2_orchard_24 : decode cX2_orchard 24 = .ok (.ifCond .eq 128, 3) := dk_153 0 128 (dk_at dksX2_orchard_1 0 rfl rfl)
theorem dX2_orchard_27 : decode cX2_orchard 27 = .ok (.aload_n 0, 1) := dk_42 (dk_at dksX2_orchard_1 3 rfl rfl)
theorem dX2_orchard_28 : decode cX2_orchard 28 = .ok (.ldc 43, 2) := dk_18 43 (dk_at dksX2_orchard_1 4 rfl rfl)
theorem dX2_orchard_30 : decode cX2_orchard 30 = .ok (.invokevirtual 152, 3) := dk_182 0 152 (dk_at dksX2_orchard_1 6 rfl rfl)
theorem dX2_orchard_33 : decode cX2_orchard 33 = .ok (.ifCond .eq 10, 3) := dk_153 0 10 (dk_at dksX2_orchard_1 9 rfl rfl)
theorem dX2_orchard_36 : decode cX2_orchard 36 = .ok (.aload_n 0, 1) := dk_42 (dk_at dksX2_orchard_1 12 rfl rfl)
theorem dX2_orchard_37 : decode cX2_orchard 37 = .ok (.invokevirtual 180, 3) := dk_182 0 180 (dk_at dksX2_orchard_1 13 rfl rfl)
theorem dX2_orchard_40 : decode cX2_orchard 40 = .ok (.goto 103, 3) := dk_167 0 103 (dk_at dksX2_orchard_1 16 rfl rfl)
theorem dX2_orchard_43 : decode cX2_orchard 43 = .ok (.aload_n 0, 1) := dk_42 (dk_at dksX2_orchard_1 19 rfl rfl)
theorem dX2_orchard_44 : decode cX2_orchard 44 = .ok (.ldc 51, 2) := dk_18 51 (dk_at dksX2_orchard_1 20 rfl rfl)
theorem dX2_orchard_46 : decode cX2_orchard 46 = .ok (.invokevirtual 152, 3) := dk_182 0 152 (dk_at dksX2_orchard_2 0 rfl rfl)
theorem dX2_orchard_49 : decode cX2_orchard 49 = .ok (.ifCond .eq 10, 3) := dk_153 0 10 (dk_at dksX2_orchard_2 3 rfl rfl)
theorem dX2_orchard_52 : decode cX2_orchard 52 = .ok (.aload_n 0, 1) := dk_42 (dk_at dksX2_orchard_2 6 rfl rfl)
theorem dX2_orchard_53 : decode cX2_orchard 53 = .ok (.invokevirtual 182, 3) := dk_182 0 182 (dk_at dksX2_orchard_2 7 rfl rfl)
theorem dX2_orchard_56 : decode cX2_orchard 56 = .ok (.goto 87, 3) := dk_167 0 87 (dk_at dksX2_orchard_2 10 rfl rfl)
theorem dX2_orchard_59 : decode cX2_orchard 59 = .ok (.aload_n 0, 1) := dk_42 (dk_at dksX2_orchard_2 13 rfl rfl)
theorem dX2_orchard_60 : decode cX2_orchard 60 = .ok (.ldc 53, 2) := dk_18 53 (dk_at dksX2_orchard_2 14 rfl rfl)
theorem dX2_orchard_62 : decode cX2_orchard 62 = .ok (.invokevirtual 152, 3) := dk_182 0 152 (dk_at dksX2_orchard_2 16 rfl rfl)
theorem dX2_orchard_65 : decode cX2_orchard 65 = .ok (.ifCond .eq 10, 3) := dk_153 0 10 (dk_at dksX2_orchard_2 19 rfl rfl)
theorem dX2_orchard_68 : decode cX2_orchard 68 = .ok (.aload_n 0, 1) := dk_42 (dk_at dksX2_orchard_2 22 rfl rfl)
theorem dX2_orchard_69 : decode cX2_orchard 69 = .ok (.invokevirtual 184, 3) := dk_182 0 184 (dk_at dksX2_orchard_3 0 rfl rfl)
theorem dX2_orchard_72 : decode cX2_orchard 72 = .ok (.goto 71, 3) := dk_167 0 71 (dk_at dksX2_orchard_3 3 rfl rfl)
theorem dX2_orchard_75 : decode cX2_orchard 75 = .ok (.aload_n 0, 1) := dk_42 (dk_at dksX2_orchard_3 6 rfl rfl)
theorem dX2_orchard_76 : decode cX2_orchard 76 = .ok (.ldc 55, 2) := dk_18 55 (dk_at dksX2_orchard_3 7 rfl rfl)
theorem dX2_orchard_78 : decode cX2_orchard 78 = .ok (.invokevirtual 152, 3) := dk_182 0 152 (dk_at dksX2_orchard_3 9 rfl rfl)
theorem dX2_orchard_81 : decode cX2_orchard 81 = .ok (.ifCond .eq 10, 3) := dk_153 0 10 (dk_at dksX2_orchard_3 12 rfl rfl)
theorem dX2_orchard_84 : decode cX2_orchard 84 = .ok (.aload_n 0, 1) := dk_42 (dk_at dksX2_orchard_3 15 rfl rfl)
theorem dX2_orchard_85 : decode cX2_orchard 85 = .ok (.invokevirtual 186, 3) := dk_182 0 186 (dk_at dksX2_orchard_3 16 rfl rfl)
theorem dX2_orchard_88 : decode cX2_orchard 88 = .ok (.goto 55, 3) := dk_167 0 55 (dk_at dksX2_orchard_3 19 rfl rfl)
theorem dX2_orchard_91 : decode cX2_orchard 91 = .ok (.aload_n 0, 1) := dk_42 (dk_at dksX2_orchard_3 22 rfl rfl)
theorem dX2_orchard_92 : decode cX2_orchard 92 = .ok (.ldc 61, 2) := dk_18 61 (dk_at dksX2_orchard_4 0 rfl rfl)
theorem dX2_orchard_94 : decode cX2_orchard 94 = .ok (.invokevirtual 152, 3) := dk_182 0 152 (dk_at dksX2_orchard_4 2 rfl rfl)
theorem dX2_orchard_97 : decode cX2_orchard 97 = .ok (.ifCond .eq 10, 3) := dk_153 0 10 (dk_at dksX2_orchard_4 5 rfl rfl)
theorem dX2_orchard_100 : decode cX2_orchard 100 = .ok (.aload_n 0, 1) := dk_42 (dk_at dksX2_orchard_4 8 rfl rfl)
theorem dX2_orchard_101 : decode cX2_orchard 101 = .ok (.invokevirtual 188, 3) := dk_182 0 188 (dk_at dksX2_orchard_4 9 rfl rfl)
theorem dX2_orchard_104 : decode cX2_orchard 104 = .ok (.goto 39, 3) := dk_167 0 39 (dk_at dksX2_orchard_4 12 rfl rfl)
theorem dX2_orchard_107 : decode cX2_orchard 107 = .ok (.aload_n 0, 1) := dk_42 (dk_at dksX2_orchard_4 15 rfl rfl)
theorem dX2_orchard_108 : decode cX2_orchard 108 = .ok (.ldc 63, 2) := dk_18 63 (dk_at dksX2_orchard_4 16 rfl rfl)
theorem dX2_orchard_110 : decode cX2_orchard 110 = .ok (.invokevirtual 152, 3) := dk_182 0 152 (dk_at dksX2_orchard_4 18 rfl rfl)
theorem dX2_orchard_113 : decode cX2_orchard 113 = .ok (.ifCond .eq 10, 3) := dk_153 0 10 (dk_at dksX2_orchard_4 21 rfl rfl)
theorem dX2_orchard_116 : decode cX2_orchard 116 = .ok (.aload_n 0, 1) := dk_42 (dk_at dksX2_orchard_5 0 rfl rfl)
theorem dX2_orchard_117 : decode cX2_orchard 117 = .ok (.invokevirtual 190, 3) := dk_182 0 190 (dk_at dksX2_orchard_5 1 rfl rfl)
theorem dX2_orchard_120 : decode cX2_orchard 120 = .ok (.goto 23, 3) := dk_167 0 23 (dk_at dksX2_orchard_5 4 rfl rfl)
theorem dX2_orchard_123 : decode cX2_orchard 123 = .ok (.aload_n 0, 1) := dk_42 (dk_at dksX2_orchard_5 7 rfl rfl)
theorem dX2_orchard_124 : decode cX2_orchard 124 = .ok (.ldc 65, 2) := dk_18 65 (dk_at dksX2_orchard_5 8 rfl rfl)
theorem dX2_orchard_126 : decode cX2_orchard 126 = .ok (.invokevirtual 152, 3) := dk_182 0 152 (dk_at dksX2_orchard_5 10 rfl rfl)
theorem dX2_orchard_129 : decode cX2_orchard 129 = .ok (.ifCond .eq 10, 3) := dk_153 0 10 (dk_at dksX2_orchard_5 13 rfl rfl)
theorem dX2_orchard_132 : decode cX2_orchard 132 = .ok (.aload_n 0, 1) := dk_42 (dk_at dksX2_orchard_5 16 rfl rfl)
theorem dX2_orchard_133 : decode cX2_orchard 133 = .ok (.invokevirtual 192, 3) := dk_182 0 192 (dk_at dksX2_orchard_5 17 rfl rfl)
theorem dX2_orchard_136 : decode cX2_orchard 136 = .ok (.goto 7, 3) := dk_167 0 7 (dk_at dksX2_orchard_5 20 rfl rfl)
theorem dX2_orchard_139 : decode cX2_orchard 139 = .ok (.aload_n 0, 1) := dk_42 (dk_at dksX2_orchard_5 23 rfl rfl)
theorem dX2_orchard_140 : decode cX2_orchard 140 = .ok (.invokevirtual 194, 3) := dk_182 0 194 (dk_at dksX2_orchard_6 0 rfl rfl)
theorem dX2_orchard_143 : decode cX2_orchard 143 = .ok (.aload_n 0, 1) := dk_42 (dk_at dksX2_orchard_6 3 rfl rfl)
theorem dX2_orchard_144 : decode cX2_orchard 144 = .ok (.bipush 59, 2) := dk_16 59 (dk_at dksX2_orchard_6 4 rfl rfl)
theorem dX2_orchard_146 : decode cX2_orchard 146 = .ok (.invokevirtual 197, 3) := dk_182 0 197 (dk_at dksX2_orchard_6 6 rfl rfl)
theorem dX2_orchard_149 : decode cX2_orchard 149 = .ok (.goto (-134), 3) := dk_167 255 122 (dk_at dksX2_orchard_6 9 rfl rfl)
theorem dX2_orchard_152 : decode cX2_orchard 152 = .ok (.aload_n 0, 1) := dk_42 (dk_at dksX2_orchard_6 12 rfl rfl)
theorem dX2_orchard_153 : decode cX2_orchard 153 = .ok (.getfield 176, 3) := dk_180 0 176 (dk_at dksX2_orchard_6 13 rfl rfl)
theorem dX2_orchard_156 : decode cX2_orchard 156 = .ok (.areturn, 1) := dk_176 (dk_at dksX2_orchard_6 16 rfl rfl)
abbrev cX2_cut : ByteArray := prog_27_method_6_code
def yX2_cut : MethodName := ⟨RX2, "cut", "()V"⟩
def dkwX2_cut_12 : List UInt8 := [181, 0, 141, 177]
abbrev dktX2_cut_12 : List UInt8 := dkwX2_cut_12 ++ []
def dkwX2_cut_11 : List UInt8 := [79, 132, 2, 1, 167, 255, 5, 42, 180, 0, 93, 28, 3, 79, 42, 180, 0, 99, 28, 27, 79, 42, 3]
abbrev dktX2_cut_11 : List UInt8 := dkwX2_cut_11 ++ dktX2_cut_12
def dkwX2_cut_10 : List UInt8 := [155, 0, 7, 6, 167, 0, 4, 7, 79, 42, 180, 0, 96, 28, 22, 6, 80, 42, 180, 0, 99, 28, 21, 5]
abbrev dktX2_cut_10 : List UInt8 := dkwX2_cut_10 ++ dktX2_cut_11
def dkwX2_cut_9 : List UInt8 := [79, 167, 0, 32, 21, 4, 133, 55, 6, 132, 3, 1, 42, 180, 0, 93, 28, 18, 135, 21, 4, 182, 0, 137]
abbrev dktX2_cut_9 : List UInt8 := dkwX2_cut_9 ++ dktX2_cut_10
def dkwX2_cut_8 : List UInt8 := [132, 3, 1, 167, 255, 208, 42, 180, 0, 93, 28, 29, 21, 5, 100, 7, 164, 0, 7, 7, 167, 0, 4, 5]
abbrev dktX2_cut_8 : List UInt8 := dkwX2_cut_8 ++ dktX2_cut_9
def dkwX2_cut_7 : List UInt8 := [7, 162, 0, 23, 20, 0, 131, 22, 6, 105, 42, 180, 0, 89, 29, 46, 133, 97, 20, 0, 133, 101, 55, 6]
abbrev dktX2_cut_7 : List UInt8 := dkwX2_cut_7 ++ dktX2_cut_8
def dkwX2_cut_6 : List UInt8 := [153, 0, 76, 29, 27, 162, 0, 49, 42, 180, 0, 89, 29, 46, 184, 0, 128, 153, 0, 37, 29, 21, 5, 100]
abbrev dktX2_cut_6 : List UInt8 := dkwX2_cut_6 ++ dktX2_cut_7
def dkwX2_cut_5 : List UInt8 := [29, 21, 5, 100, 16, 8, 164, 0, 7, 7, 167, 0, 4, 4, 79, 167, 0, 113, 21, 4, 184, 0, 128]
abbrev dktX2_cut_5 : List UInt8 := dkwX2_cut_5 ++ dktX2_cut_6
def dkwX2_cut_4 : List UInt8 := [180, 0, 89, 29, 46, 133, 97, 20, 0, 122, 101, 55, 6, 132, 3, 1, 167, 255, 207, 42, 180, 0, 93, 28]
abbrev dktX2_cut_4 : List UInt8 := dkwX2_cut_4 ++ dktX2_cut_5
def dkwX2_cut_3 : List UInt8 := [184, 0, 124, 153, 0, 38, 29, 21, 5, 100, 16, 8, 162, 0, 23, 20, 0, 116, 22, 6, 105, 42]
abbrev dktX2_cut_3 : List UInt8 := dkwX2_cut_3 ++ dktX2_cut_4
def dkwX2_cut_2 : List UInt8 := [54, 5, 9, 55, 6, 21, 4, 184, 0, 124, 153, 0, 78, 29, 27, 162, 0, 50, 42, 180, 0, 89, 29, 46]
abbrev dktX2_cut_2 : List UInt8 := dkwX2_cut_2 ++ dktX2_cut_3
def dkwX2_cut_1 : List UInt8 := [46, 54, 4, 21, 4, 16, 10, 159, 0, 10, 21, 4, 16, 32, 160, 0, 9, 132, 3, 1, 167, 255, 226, 29]
abbrev dktX2_cut_1 : List UInt8 := dkwX2_cut_1 ++ dktX2_cut_2
def dkwX2_cut_0 : List UInt8 := [42, 180, 0, 108, 60, 42, 3, 181, 0, 108, 3, 61, 3, 62, 29, 27, 162, 0, 252, 42, 180, 0, 89, 29]
abbrev dktX2_cut_0 : List UInt8 := dkwX2_cut_0 ++ dktX2_cut_1
theorem dksX2_cut_0 : cX2_cut.data.toList.drop 0 = dktX2_cut_0 := by decide +kernel
theorem dksX2_cut_1 : cX2_cut.data.toList.drop 24 = dktX2_cut_1 := dk_seg dksX2_cut_0 24 rfl rfl
theorem dksX2_cut_2 : cX2_cut.data.toList.drop 48 = dktX2_cut_2 := dk_seg dksX2_cut_1 24 rfl rfl
theorem dksX2_cut_3 : cX2_cut.data.toList.drop 72 = dktX2_cut_3 := dk_seg dksX2_cut_2 24 rfl rfl
theorem dksX2_cut_4 : cX2_cut.data.toList.drop 94 = dktX2_cut_4 := dk_seg dksX2_cut_3 22 rfl rfl
theorem dksX2_cut_5 : cX2_cut.data.toList.drop 118 = dktX2_cut_5 := dk_seg dksX2_cut_4 24 rfl rfl
theorem dksX2_cut_6 : cX2_cut.data.toList.drop 141 = dktX2_cut_6 := dk_seg dksX2_cut_5 23 rfl rfl
theorem dksX2_cut_7 : cX2_cut.data.toList.drop 165 = dktX2_cut_7 := dk_seg dksX2_cut_6 24 rfl rfl
theorem dksX2_cut_8 : cX2_cut.data.toList.drop 189 = dktX2_cut_8 := dk_seg dksX2_cut_7 24 rfl rfl
theorem dksX2_cut_9 : cX2_cut.data.toList.drop 213 = dktX2_cut_9 := dk_seg dksX2_cut_8 24 rfl rfl
theorem dksX2_cut_10 : cX2_cut.data.toList.drop 237 = dktX2_cut_10 := dk_seg dksX2_cut_9 24 rfl rfl
theorem dksX2_cut_11 : cX2_cut.data.toList.drop 261 = dktX2_cut_11 := dk_seg dksX2_cut_10 24 rfl rfl
theorem dksX2_cut_12 : cX2_cut.data.toList.drop 284 = dktX2_cut_12 := dk_seg dksX2_cut_11 23 rfl rfl
theorem dX2_cut_0 : decode cX2_cut 0 = .ok (.aload_n 0, 1) := dk_42 (dk_at dksX2_cut_0 0 rfl rfl)
theorem dX2_cut_1 : decode cX2_cut 1 = .ok (.getfield 108, 3) := dk_180 0 108 (dk_at dksX2_cut_0 1 rfl rfl)
theorem dX2_cut_4 : decode cX2_cut 4 = .ok (.istore_n 1, 1) := dk_60 (dk_at dksX2_cut_0 4 rfl rfl)
theorem dX2_cut_5 : decode cX2_cut 5 = .ok (.aload_n 0, 1) := dk_42 (dk_at dksX2_cut_0 5 rfl rfl)
theorem dX2_cut_6 : decode cX2_cut 6 = .ok (.iconst 0, 1) := dk_3 (dk_at dksX2_cut_0 6 rfl rfl)
theorem dX2_cut_7 : decode cX2_cut 7 = .ok (.putfield 108, 3) := dk_181 0 108 (dk_at dksX2_cut_0 7 rfl rfl)
theorem dX2_cut_10 : decode cX2_cut 10 = .ok (.iconst 0, 1) := dk_3 (dk_at dksX2_cut_0 10 rfl rfl)
theorem dX2_cut_11 : decode cX2_cut 11 = .ok (.istore_n 2, 1) := dk_61 (dk_at dksX2_cut_0 11 rfl rfl)
theorem dX2_cut_12 : decode cX2_cut 12 = .ok (.iconst 0, 1) := dk_3 (dk_at dksX2_cut_0 12 rfl rfl)
theorem dX2_cut_13 : decode cX2_cut 13 = .ok (.istore_n 3, 1) := dk_62 (dk_at dksX2_cut_0 13 rfl rfl)
theorem dX2_cut_14 : decode cX2_cut 14 = .ok (.iload_n 3, 1) := dk_29 (dk_at dksX2_cut_0 14 rfl rfl)
theorem dX2_cut_15 : decode cX2_cut 15 = .ok (.iload_n 1, 1) := dk_27 (dk_at dksX2_cut_0 15 rfl rfl)
theorem dX2_cut_16 : decode cX2_cut 16 = .ok (.if_icmp .ge 252, 3) := dk_162 0 252 (dk_at dksX2_cut_0 16 rfl rfl)
theorem dX2_cut_19 : decode cX2_cut 19 = .ok (.aload_n 0, 1) := dk_42 (dk_at dksX2_cut_0 19 rfl rfl)
theorem dX2_cut_20 : decode cX2_cut 20 = .ok (.getfield 89, 3) := dk_180 0 89 (dk_at dksX2_cut_0 20 rfl rfl)
theorem dX2_cut_23 : decode cX2_cut 23 = .ok (.iload_n 3, 1) := dk_29 (dk_at dksX2_cut_0 23 rfl rfl)
theorem dX2_cut_24 : decode cX2_cut 24 = .ok (.iaload, 1) := dk_46 (dk_at dksX2_cut_1 0 rfl rfl)
theorem dX2_cut_25 : decode cX2_cut 25 = .ok (.istore 4, 2) := dk_54 4 (dk_at dksX2_cut_1 1 rfl rfl)
theorem dX2_cut_27 : decode cX2_cut 27 = .ok (.iload 4, 2) := dk_21 4 (dk_at dksX2_cut_1 3 rfl rfl)
theorem dX2_cut_29 : decode cX2_cut 29 = .ok (.bipush 10, 2) := dk_16 10 (dk_at dksX2_cut_1 5 rfl rfl)
theorem dX2_cut_31 : decode cX2_cut 31 = .ok (.if_icmp .eq 10, 3) := dk_159 0 10 (dk_at dksX2_cut_1 7 rfl rfl)
theorem dX2_cut_34 : decode cX2_cut 34 = .ok (.iload 4, 2) := dk_21 4 (dk_at dksX2_cut_1 10 rfl rfl)
theorem dX2_cut_36 : decode cX2_cut 36 = .ok (.bipush 32, 2) := dk_16 32 (dk_at dksX2_cut_1 12 rfl rfl)
theorem dX2_cut_38 : decode cX2_cut 38 = .ok (.if_icmp .ne 9, 3) := dk_160 0 9 (dk_at dksX2_cut_1 14 rfl rfl)
theorem dX2_cut_41 : decode cX2_cut 41 = .ok (.iinc 3 1, 3) := dk_132 3 1 (dk_at dksX2_cut_1 17 rfl rfl)
theorem dX2_cut_44 : decode cX2_cut 44 = .ok (.goto (-30), 3) := dk_167 255 226 (dk_at dksX2_cut_1 20 rfl rfl)
theorem dX2_cut_47 : decode cX2_cut 47 = .ok (.iload_n 3, 1) := dk_29 (dk_at dksX2_cut_1 23 rfl rfl)
theorem dX2_cut_48 : decode cX2_cut 48 = .ok (.istore 5, 2) := dk_54 5 (dk_at dksX2_cut_2 0 rfl rfl)
theorem dX2_cut_50 : decode cX2_cut 50 = .ok (.lconst 0, 1) := dk_9 (dk_at dksX2_cut_2 2 rfl rfl)
theorem dX2_cut_51 : decode cX2_cut 51 = .ok (.lstore 6, 2) := dk_55 6 (dk_at dksX2_cut_2 3 rfl rfl)
theorem dX2_cut_53 : decode cX2_cut 53 = .ok (.iload 4, 2) := dk_21 4 (dk_at dksX2_cut_2 5 rfl rfl)
theorem dX2_cut_55 : decode cX2_cut 55 = .ok (.invokestatic 124, 3) := dk_184 0 124 (dk_at dksX2_cut_2 7 rfl rfl)
theorem dX2_cut_58 : decode cX2_cut 58 = .ok (.ifCond .eq 78, 3) := dk_153 0 78 (dk_at dksX2_cut_2 10 rfl rfl)
theorem dX2_cut_61 : decode cX2_cut 61 = .ok (.iload_n 3, 1) := dk_29 (dk_at dksX2_cut_2 13 rfl rfl)
theorem dX2_cut_62 : decode cX2_cut 62 = .ok (.iload_n 1, 1) := dk_27 (dk_at dksX2_cut_2 14 rfl rfl)
theorem dX2_cut_63 : decode cX2_cut 63 = .ok (.if_icmp .ge 50, 3) := dk_162 0 50 (dk_at dksX2_cut_2 15 rfl rfl)
theorem dX2_cut_66 : decode cX2_cut 66 = .ok (.aload_n 0, 1) := dk_42 (dk_at dksX2_cut_2 18 rfl rfl)
theorem dX2_cut_67 : decode cX2_cut 67 = .ok (.getfield 89, 3) := dk_180 0 89 (dk_at dksX2_cut_2 19 rfl rfl)
theorem dX2_cut_70 : decode cX2_cut 70 = .ok (.iload_n 3, 1) := dk_29 (dk_at dksX2_cut_2 22 rfl rfl)
theorem dX2_cut_71 : decode cX2_cut 71 = .ok (.iaload, 1) := dk_46 (dk_at dksX2_cut_2 23 rfl rfl)
theorem dX2_cut_72 : decode cX2_cut 72 = .ok (.invokestatic 124, 3) := dk_184 0 124 (dk_at dksX2_cut_3 0 rfl rfl)
theorem dX2_cut_75 : decode cX2_cut 75 = .ok (.ifCond .eq 38, 3) := dk_153 0 38 (dk_at dksX2_cut_3 3 rfl rfl)
theorem dX2_cut_78 : decode cX2_cut 78 = .ok (.iload_n 3, 1) := dk_29 (dk_at dksX2_cut_3 6 rfl rfl)
theorem dX2_cut_79 : decode cX2_cut 79 = .ok (.iload 5, 2) := dk_21 5 (dk_at dksX2_cut_3 7 rfl rfl)
theorem dX2_cut_81 : decode cX2_cut 81 = .ok (.isub, 1) := dk_100 (dk_at dksX2_cut_3 9 rfl rfl)
theorem dX2_cut_82 : decode cX2_cut 82 = .ok (.bipush 8, 2) := dk_16 8 (dk_at dksX2_cut_3 10 rfl rfl)
theorem dX2_cut_84 : decode cX2_cut 84 = .ok (.if_icmp .ge 23, 3) := dk_162 0 23 (dk_at dksX2_cut_3 12 rfl rfl)
theorem dX2_cut_87 : decode cX2_cut 87 = .ok (.ldc2_w 116, 3) := dk_20 0 116 (dk_at dksX2_cut_3 15 rfl rfl)
theorem dX2_cut_90 : decode cX2_cut 90 = .ok (.lload 6, 2) := dk_22 6 (dk_at dksX2_cut_3 18 rfl rfl)
theorem dX2_cut_92 : decode cX2_cut 92 = .ok (.lmul, 1) := dk_105 (dk_at dksX2_cut_3 20 rfl rfl)
theorem dX2_cut_93 : decode cX2_cut 93 = .ok (.aload_n 0, 1) := dk_42 (dk_at dksX2_cut_3 21 rfl rfl)
theorem dX2_cut_94 : decode cX2_cut 94 = .ok (.getfield 89, 3) := dk_180 0 89 (dk_at dksX2_cut_4 0 rfl rfl)
theorem dX2_cut_97 : decode cX2_cut 97 = .ok (.iload_n 3, 1) := dk_29 (dk_at dksX2_cut_4 3 rfl rfl)
theorem dX2_cut_98 : decode cX2_cut 98 = .ok (.iaload, 1) := dk_46 (dk_at dksX2_cut_4 4 rfl rfl)
theorem dX2_cut_99 : decode cX2_cut 99 = .ok (.i2l, 1) := dk_133 (dk_at dksX2_cut_4 5 rfl rfl)
theorem dX2_cut_100 : decode cX2_cut 100 = .ok (.ladd, 1) := dk_97 (dk_at dksX2_cut_4 6 rfl rfl)
theorem dX2_cut_101 : decode cX2_cut 101 = .ok (.ldc2_w 122, 3) := dk_20 0 122 (dk_at dksX2_cut_4 7 rfl rfl)
theorem dX2_cut_104 : decode cX2_cut 104 = .ok (.lsub, 1) := dk_101 (dk_at dksX2_cut_4 10 rfl rfl)
theorem dX2_cut_105 : decode cX2_cut 105 = .ok (.lstore 6, 2) := dk_55 6 (dk_at dksX2_cut_4 11 rfl rfl)
theorem dX2_cut_107 : decode cX2_cut 107 = .ok (.iinc 3 1, 3) := dk_132 3 1 (dk_at dksX2_cut_4 13 rfl rfl)
theorem dX2_cut_110 : decode cX2_cut 110 = .ok (.goto (-49), 3) := dk_167 255 207 (dk_at dksX2_cut_4 16 rfl rfl)
theorem dX2_cut_113 : decode cX2_cut 113 = .ok (.aload_n 0, 1) := dk_42 (dk_at dksX2_cut_4 19 rfl rfl)
theorem dX2_cut_114 : decode cX2_cut 114 = .ok (.getfield 93, 3) := dk_180 0 93 (dk_at dksX2_cut_4 20 rfl rfl)
theorem dX2_cut_117 : decode cX2_cut 117 = .ok (.iload_n 2, 1) := dk_28 (dk_at dksX2_cut_4 23 rfl rfl)
theorem dX2_cut_118 : decode cX2_cut 118 = .ok (.iload_n 3, 1) := dk_29 (dk_at dksX2_cut_5 0 rfl rfl)
theorem dX2_cut_119 : decode cX2_cut 119 = .ok (.iload 5, 2) := dk_21 5 (dk_at dksX2_cut_5 1 rfl rfl)
theorem dX2_cut_121 : decode cX2_cut 121 = .ok (.isub, 1) := dk_100 (dk_at dksX2_cut_5 3 rfl rfl)
theorem dX2_cut_122 : decode cX2_cut 122 = .ok (.bipush 8, 2) := dk_16 8 (dk_at dksX2_cut_5 4 rfl rfl)
theorem dX2_cut_124 : decode cX2_cut 124 = .ok (.if_icmp .le 7, 3) := dk_164 0 7 (dk_at dksX2_cut_5 6 rfl rfl)
theorem dX2_cut_127 : decode cX2_cut 127 = .ok (.iconst 4, 1) := dk_7 (dk_at dksX2_cut_5 9 rfl rfl)
theorem dX2_cut_128 : decode cX2_cut 128 = .ok (.goto 4, 3) := dk_167 0 4 (dk_at dksX2_cut_5 10 rfl rfl)
theorem dX2_cut_131 : decode cX2_cut 131 = .ok (.iconst 1, 1) := dk_4 (dk_at dksX2_cut_5 13 rfl rfl)
theorem dX2_cut_132 : decode cX2_cut 132 = .ok (.iastore, 1) := dk_79 (dk_at dksX2_cut_5 14 rfl rfl)
theorem dX2_cut_133 : decode cX2_cut 133 = .ok (.goto 113, 3) := dk_167 0 113 (dk_at dksX2_cut_5 15 rfl rfl)
theorem dX2_cut_136 : decode cX2_cut 136 = .ok (.iload 4, 2) := dk_21 4 (dk_at dksX2_cut_5 18 rfl rfl)
theorem dX2_cut_138 : decode cX2_cut 138 = .ok (.invokestatic 128, 3) := dk_184 0 128 (dk_at dksX2_cut_5 20 rfl rfl)
theorem dX2_cut_141 : decode cX2_cut 141 = .ok (.ifCond .eq 76, 3) := dk_153 0 76 (dk_at dksX2_cut_6 0 rfl rfl)
theorem dX2_cut_144 : decode cX2_cut 144 = .ok (.iload_n 3, 1) := dk_29 (dk_at dksX2_cut_6 3 rfl rfl)
theorem dX2_cut_145 : decode cX2_cut 145 = .ok (.iload_n 1, 1) := dk_27 (dk_at dksX2_cut_6 4 rfl rfl)
theorem dX2_cut_146 : decode cX2_cut 146 = .ok (.if_icmp .ge 49, 3) := dk_162 0 49 (dk_at dksX2_cut_6 5 rfl rfl)
theorem dX2_cut_149 : decode cX2_cut 149 = .ok (.aload_n 0, 1) := dk_42 (dk_at dksX2_cut_6 8 rfl rfl)
theorem dX2_cut_150 : decode cX2_cut 150 = .ok (.getfield 89, 3) := dk_180 0 89 (dk_at dksX2_cut_6 9 rfl rfl)
theorem dX2_cut_153 : decode cX2_cut 153 = .ok (.iload_n 3, 1) := dk_29 (dk_at dksX2_cut_6 12 rfl rfl)
theorem dX2_cut_154 : decode cX2_cut 154 = .ok (.iaload, 1) := dk_46 (dk_at dksX2_cut_6 13 rfl rfl)
theorem dX2_cut_155 : decode cX2_cut 155 = .ok (.invokestatic 128, 3) := dk_184 0 128 (dk_at dksX2_cut_6 14 rfl rfl)
theorem dX2_cut_158 : decode cX2_cut 158 = .ok (.ifCond .eq 37, 3) := dk_153 0 37 (dk_at dksX2_cut_6 17 rfl rfl)
theorem dX2_cut_161 : decode cX2_cut 161 = .ok (.iload_n 3, 1) := dk_29 (dk_at dksX2_cut_6 20 rfl rfl)
theorem dX2_cut_162 : decode cX2_cut 162 = .ok (.iload 5, 2) := dk_21 5 (dk_at dksX2_cut_6 21 rfl rfl)
theorem dX2_cut_164 : decode cX2_cut 164 = .ok (.isub, 1) := dk_100 (dk_at dksX2_cut_6 23 rfl rfl)
theorem dX2_cut_165 : decode cX2_cut 165 = .ok (.iconst 4, 1) := dk_7 (dk_at dksX2_cut_7 0 rfl rfl)
theorem dX2_cut_166 : decode cX2_cut 166 = .ok (.if_icmp .ge 23, 3) := dk_162 0 23 (dk_at dksX2_cut_7 1 rfl rfl)
theorem dX2_cut_169 : decode cX2_cut 169 = .ok (.ldc2_w 131, 3) := dk_20 0 131 (dk_at dksX2_cut_7 4 rfl rfl)
theorem dX2_cut_172 : decode cX2_cut 172 = .ok (.lload 6, 2) := dk_22 6 (dk_at dksX2_cut_7 7 rfl rfl)
theorem dX2_cut_174 : decode cX2_cut 174 = .ok (.lmul, 1) := dk_105 (dk_at dksX2_cut_7 9 rfl rfl)
theorem dX2_cut_175 : decode cX2_cut 175 = .ok (.aload_n 0, 1) := dk_42 (dk_at dksX2_cut_7 10 rfl rfl)
theorem dX2_cut_176 : decode cX2_cut 176 = .ok (.getfield 89, 3) := dk_180 0 89 (dk_at dksX2_cut_7 11 rfl rfl)
theorem dX2_cut_179 : decode cX2_cut 179 = .ok (.iload_n 3, 1) := dk_29 (dk_at dksX2_cut_7 14 rfl rfl)
theorem dX2_cut_180 : decode cX2_cut 180 = .ok (.iaload, 1) := dk_46 (dk_at dksX2_cut_7 15 rfl rfl)
theorem dX2_cut_181 : decode cX2_cut 181 = .ok (.i2l, 1) := dk_133 (dk_at dksX2_cut_7 16 rfl rfl)
theorem dX2_cut_182 : decode cX2_cut 182 = .ok (.ladd, 1) := dk_97 (dk_at dksX2_cut_7 17 rfl rfl)
theorem dX2_cut_183 : decode cX2_cut 183 = .ok (.ldc2_w 133, 3) := dk_20 0 133 (dk_at dksX2_cut_7 18 rfl rfl)
theorem dX2_cut_186 : decode cX2_cut 186 = .ok (.lsub, 1) := dk_101 (dk_at dksX2_cut_7 21 rfl rfl)
theorem dX2_cut_187 : decode cX2_cut 187 = .ok (.lstore 6, 2) := dk_55 6 (dk_at dksX2_cut_7 22 rfl rfl)
theorem dX2_cut_189 : decode cX2_cut 189 = .ok (.iinc 3 1, 3) := dk_132 3 1 (dk_at dksX2_cut_8 0 rfl rfl)
theorem dX2_cut_192 : decode cX2_cut 192 = .ok (.goto (-48), 3) := dk_167 255 208 (dk_at dksX2_cut_8 3 rfl rfl)
theorem dX2_cut_195 : decode cX2_cut 195 = .ok (.aload_n 0, 1) := dk_42 (dk_at dksX2_cut_8 6 rfl rfl)
theorem dX2_cut_196 : decode cX2_cut 196 = .ok (.getfield 93, 3) := dk_180 0 93 (dk_at dksX2_cut_8 7 rfl rfl)
theorem dX2_cut_199 : decode cX2_cut 199 = .ok (.iload_n 2, 1) := dk_28 (dk_at dksX2_cut_8 10 rfl rfl)
theorem dX2_cut_200 : decode cX2_cut 200 = .ok (.iload_n 3, 1) := dk_29 (dk_at dksX2_cut_8 11 rfl rfl)
theorem dX2_cut_201 : decode cX2_cut 201 = .ok (.iload 5, 2) := dk_21 5 (dk_at dksX2_cut_8 12 rfl rfl)
theorem dX2_cut_203 : decode cX2_cut 203 = .ok (.isub, 1) := dk_100 (dk_at dksX2_cut_8 14 rfl rfl)
theorem dX2_cut_204 : decode cX2_cut 204 = .ok (.iconst 4, 1) := dk_7 (dk_at dksX2_cut_8 15 rfl rfl)
theorem dX2_cut_205 : decode cX2_cut 205 = .ok (.if_icmp .le 7, 3) := dk_164 0 7 (dk_at dksX2_cut_8 16 rfl rfl)
theorem dX2_cut_208 : decode cX2_cut 208 = .ok (.iconst 4, 1) := dk_7 (dk_at dksX2_cut_8 19 rfl rfl)
theorem dX2_cut_209 : decode cX2_cut 209 = .ok (.goto 4, 3) := dk_167 0 4 (dk_at dksX2_cut_8 20 rfl rfl)
theorem dX2_cut_212 : decode cX2_cut 212 = .ok (.iconst 2, 1) := dk_5 (dk_at dksX2_cut_8 23 rfl rfl)
theorem dX2_cut_213 : decode cX2_cut 213 = .ok (.iastore, 1) := dk_79 (dk_at dksX2_cut_9 0 rfl rfl)
theorem dX2_cut_214 : decode cX2_cut 214 = .ok (.goto 32, 3) := dk_167 0 32 (dk_at dksX2_cut_9 1 rfl rfl)
theorem dX2_cut_217 : decode cX2_cut 217 = .ok (.iload 4, 2) := dk_21 4 (dk_at dksX2_cut_9 4 rfl rfl)
theorem dX2_cut_219 : decode cX2_cut 219 = .ok (.i2l, 1) := dk_133 (dk_at dksX2_cut_9 6 rfl rfl)
theorem dX2_cut_220 : decode cX2_cut 220 = .ok (.lstore 6, 2) := dk_55 6 (dk_at dksX2_cut_9 7 rfl rfl)
theorem dX2_cut_222 : decode cX2_cut 222 = .ok (.iinc 3 1, 3) := dk_132 3 1 (dk_at dksX2_cut_9 9 rfl rfl)
theorem dX2_cut_225 : decode cX2_cut 225 = .ok (.aload_n 0, 1) := dk_42 (dk_at dksX2_cut_9 12 rfl rfl)
theorem dX2_cut_226 : decode cX2_cut 226 = .ok (.getfield 93, 3) := dk_180 0 93 (dk_at dksX2_cut_9 13 rfl rfl)
theorem dX2_cut_229 : decode cX2_cut 229 = .ok (.iload_n 2, 1) := dk_28 (dk_at dksX2_cut_9 16 rfl rfl)
theorem dX2_cut_230 : decode cX2_cut 230 = .ok (.ldc 135, 2) := dk_18 135 (dk_at dksX2_cut_9 17 rfl rfl)
theorem dX2_cut_232 : decode cX2_cut 232 = .ok (.iload 4, 2) := dk_21 4 (dk_at dksX2_cut_9 19 rfl rfl)
theorem dX2_cut_234 : decode cX2_cut 234 = .ok (.invokevirtual 137, 3) := dk_182 0 137 (dk_at dksX2_cut_9 21 rfl rfl)
theorem dX2_cut_237 : decode cX2_cut 237 = .ok (.ifCond .lt 7, 3) := dk_155 0 7 (dk_at dksX2_cut_10 0 rfl rfl)
theorem dX2_cut_240 : decode cX2_cut 240 = .ok (.iconst 3, 1) := dk_6 (dk_at dksX2_cut_10 3 rfl rfl)
theorem dX2_cut_241 : decode cX2_cut 241 = .ok (.goto 4, 3) := dk_167 0 4 (dk_at dksX2_cut_10 4 rfl rfl)
theorem dX2_cut_244 : decode cX2_cut 244 = .ok (.iconst 4, 1) := dk_7 (dk_at dksX2_cut_10 7 rfl rfl)
theorem dX2_cut_245 : decode cX2_cut 245 = .ok (.iastore, 1) := dk_79 (dk_at dksX2_cut_10 8 rfl rfl)
theorem dX2_cut_246 : decode cX2_cut 246 = .ok (.aload_n 0, 1) := dk_42 (dk_at dksX2_cut_10 9 rfl rfl)
theorem dX2_cut_247 : decode cX2_cut 247 = .ok (.getfield 96, 3) := dk_180 0 96 (dk_at dksX2_cut_10 10 rfl rfl)
theorem dX2_cut_250 : decode cX2_cut 250 = .ok (.iload_n 2, 1) := dk_28 (dk_at dksX2_cut_10 13 rfl rfl)
theorem dX2_cut_251 : decode cX2_cut 251 = .ok (.lload 6, 2) := dk_22 6 (dk_at dksX2_cut_10 14 rfl rfl)
theorem dX2_cut_253 : decode cX2_cut 253 = .ok (.lastore, 1) := dk_80 (dk_at dksX2_cut_10 16 rfl rfl)
theorem dX2_cut_254 : decode cX2_cut 254 = .ok (.aload_n 0, 1) := dk_42 (dk_at dksX2_cut_10 17 rfl rfl)
theorem dX2_cut_255 : decode cX2_cut 255 = .ok (.getfield 99, 3) := dk_180 0 99 (dk_at dksX2_cut_10 18 rfl rfl)
theorem dX2_cut_258 : decode cX2_cut 258 = .ok (.iload_n 2, 1) := dk_28 (dk_at dksX2_cut_10 21 rfl rfl)
theorem dX2_cut_259 : decode cX2_cut 259 = .ok (.iload 5, 2) := dk_21 5 (dk_at dksX2_cut_10 22 rfl rfl)
theorem dX2_cut_261 : decode cX2_cut 261 = .ok (.iastore, 1) := dk_79 (dk_at dksX2_cut_11 0 rfl rfl)
theorem dX2_cut_262 : decode cX2_cut 262 = .ok (.iinc 2 1, 3) := dk_132 2 1 (dk_at dksX2_cut_11 1 rfl rfl)
theorem dX2_cut_265 : decode cX2_cut 265 = .ok (.goto (-251), 3) := dk_167 255 5 (dk_at dksX2_cut_11 4 rfl rfl)
theorem dX2_cut_268 : decode cX2_cut 268 = .ok (.aload_n 0, 1) := dk_42 (dk_at dksX2_cut_11 7 rfl rfl)
theorem dX2_cut_269 : decode cX2_cut 269 = .ok (.getfield 93, 3) := dk_180 0 93 (dk_at dksX2_cut_11 8 rfl rfl)
theorem dX2_cut_272 : decode cX2_cut 272 = .ok (.iload_n 2, 1) := dk_28 (dk_at dksX2_cut_11 11 rfl rfl)
theorem dX2_cut_273 : decode cX2_cut 273 = .ok (.iconst 0, 1) := dk_3 (dk_at dksX2_cut_11 12 rfl rfl)
theorem dX2_cut_274 : decode cX2_cut 274 = .ok (.iastore, 1) := dk_79 (dk_at dksX2_cut_11 13 rfl rfl)
theorem dX2_cut_275 : decode cX2_cut 275 = .ok (.aload_n 0, 1) := dk_42 (dk_at dksX2_cut_11 14 rfl rfl)
theorem dX2_cut_276 : decode cX2_cut 276 = .ok (.getfield 99, 3) := dk_180 0 99 (dk_at dksX2_cut_11 15 rfl rfl)
theorem dX2_cut_279 : decode cX2_cut 279 = .ok (.iload_n 2, 1) := dk_28 (dk_at dksX2_cut_11 18 rfl rfl)
theorem dX2_cut_280 : decode cX2_cut 280 = .ok (.iload_n 1, 1) := dk_27 (dk_at dksX2_cut_11 19 rfl rfl)
theorem dX2_cut_281 : decode cX2_cut 281 = .ok (.iastore, 1) := dk_79 (dk_at dksX2_cut_11 20 rfl rfl)
theorem dX2_cut_282 : decode cX2_cut 282 = .ok (.aload_n 0, 1) := dk_42 (dk_at dksX2_cut_11 21 rfl rfl)
theorem dX2_cut_283 : decode cX2_cut 283 = .ok (.iconst 0, 1) := dk_3 (dk_at dksX2_cut_11 22 rfl rfl)
theorem dX2_cut_284 : decode cX2_cut 284 = .ok (.putfield 141, 3) := dk_181 0 141 (dk_at dksX2_cut_12 0 rfl rfl)
theorem dX2_cut_287 : decode cX2_cut 287 = .ok (.return_, 1) := dk_177 (dk_at dksX2_cut_12 3 rfl rfl)
abbrev cX2_isLetter : ByteArray := prog_27_method_4_code
def yX2_isLetter : MethodName := ⟨RX2, "isLetter", "(I)Z"⟩
def dkwX2_isLetter_0 : List UInt8 := [26, 16, 97, 16, 122, 184, 0, 104, 172]
abbrev dktX2_isLetter_0 : List UInt8 := dkwX2_isLetter_0 ++ []
theorem dksX2_isLetter_0 : cX2_isLetter.data.toList.drop 0 = dktX2_isLetter_0 := by decide +kernel
theorem dX2_isLetter_0 : decode cX2_isLetter 0 = .ok (.iload_n 0, 1) := dk_26 (dk_at dksX2_isLetter_0 0 rfl rfl)
theorem dX2_isLetter_1 : decode cX2_isLetter 1 = .ok (.bipush 97, 2) := dk_16 97 (dk_at dksX2_isLetter_0 1 rfl rfl)
theorem dX2_isLetter_3 : decode cX2_isLetter 3 = .ok (.bipush 122, 2) := dk_16 122 (dk_at dksX2_isLetter_0 3 rfl rfl)
theorem dX2_isLetter_5 : decode cX2_isLetter 5 = .ok (.invokestatic 104, 3) := dk_184 0 104 (dk_at dksX2_isLetter_0 5 rfl rfl)
theorem dX2_isLetter_8 : decode cX2_isLetter 8 = .ok (.ireturn, 1) := dk_172 (dk_at dksX2_isLetter_0 8 rfl rfl)
abbrev cX2_isDigit : ByteArray := prog_27_method_5_code
def yX2_isDigit : MethodName := ⟨RX2, "isDigit", "(I)Z"⟩
def dkwX2_isDigit_0 : List UInt8 := [26, 16, 48, 16, 57, 184, 0, 104, 172]
abbrev dktX2_isDigit_0 : List UInt8 := dkwX2_isDigit_0 ++ []
theorem dksX2_isDigit_0 : cX2_isDigit.data.toList.drop 0 = dktX2_isDigit_0 := by decide +kernel
theorem dX2_isDigit_0 : decode cX2_isDigit 0 = .ok (.iload_n 0, 1) := dk_26 (dk_at dksX2_isDigit_0 0 rfl rfl)
theorem dX2_isDigit_1 : decode cX2_isDigit 1 = .ok (.bipush 48, 2) := dk_16 48 (dk_at dksX2_isDigit_0 1 rfl rfl)
theorem dX2_isDigit_3 : decode cX2_isDigit 3 = .ok (.bipush 57, 2) := dk_16 57 (dk_at dksX2_isDigit_0 3 rfl rfl)
theorem dX2_isDigit_5 : decode cX2_isDigit 5 = .ok (.invokestatic 104, 3) := dk_184 0 104 (dk_at dksX2_isDigit_0 5 rfl rfl)
theorem dX2_isDigit_8 : decode cX2_isDigit 8 = .ok (.ireturn, 1) := dk_172 (dk_at dksX2_isDigit_0 8 rfl rfl)
abbrev cX2_isWord : ByteArray := prog_27_method_8_code
def yX2_isWord : MethodName := ⟨RX2, "isWord", "(Ljava/lang/String;)Z"⟩
def dkwX2_isWord_1 : List UInt8 := [184, 0, 148, 148, 154, 0, 7, 4, 167, 0, 4, 3, 172]
abbrev dktX2_isWord_1 : List UInt8 := dkwX2_isWord_1 ++ []
def dkwX2_isWord_0 : List UInt8 := [42, 180, 0, 93, 42, 180, 0, 141, 46, 4, 160, 0, 24, 42, 180, 0, 96, 42, 180, 0, 141, 47, 43]
abbrev dktX2_isWord_0 : List UInt8 := dkwX2_isWord_0 ++ dktX2_isWord_1
theorem dksX2_isWord_0 : cX2_isWord.data.toList.drop 0 = dktX2_isWord_0 := by decide +kernel
theorem dksX2_isWord_1 : cX2_isWord.data.toList.drop 23 = dktX2_isWord_1 := dk_seg dksX2_isWord_0 23 rfl rfl
theorem dX2_isWord_0 : decode cX2_isWord 0 = .ok (.aload_n 0, 1) := dk_42 (dk_at dksX2_isWord_0 0 rfl rfl)
theorem dX2_isWord_1 : decode cX2_isWord 1 = .ok (.getfield 93, 3) := dk_180 0 93 (dk_at dksX2_isWord_0 1 rfl rfl)
theorem dX2_isWord_4 : decode cX2_isWord 4 = .ok (.aload_n 0, 1) := dk_42 (dk_at dksX2_isWord_0 4 rfl rfl)
theorem dX2_isWord_5 : decode cX2_isWord 5 = .ok (.getfield 141, 3) := dk_180 0 141 (dk_at dksX2_isWord_0 5 rfl rfl)
theorem dX2_isWord_8 : decode cX2_isWord 8 = .ok (.iaload, 1) := dk_46 (dk_at dksX2_isWord_0 8 rfl rfl)
theorem dX2_isWord_9 : decode cX2_isWord 9 = .ok (.iconst 1, 1) := dk_4 (dk_at dksX2_isWord_0 9 rfl rfl)
theorem dX2_isWord_10 : decode cX2_isWord 10 = .ok (.if_icmp .ne 24, 3) := dk_160 0 24 (dk_at dksX2_isWord_0 10 rfl rfl)
theorem dX2_isWord_13 : decode cX2_isWord 13 = .ok (.aload_n 0, 1) := dk_42 (dk_at dksX2_isWord_0 13 rfl rfl)
theorem dX2_isWord_14 : decode cX2_isWord 14 = .ok (.getfield 96, 3) := dk_180 0 96 (dk_at dksX2_isWord_0 14 rfl rfl)
theorem dX2_isWord_17 : decode cX2_isWord 17 = .ok (.aload_n 0, 1) := dk_42 (dk_at dksX2_isWord_0 17 rfl rfl)
theorem dX2_isWord_18 : decode cX2_isWord 18 = .ok (.getfield 141, 3) := dk_180 0 141 (dk_at dksX2_isWord_0 18 rfl rfl)
theorem dX2_isWord_21 : decode cX2_isWord 21 = .ok (.laload, 1) := dk_47 (dk_at dksX2_isWord_0 21 rfl rfl)
theorem dX2_isWord_22 : decode cX2_isWord 22 = .ok (.aload_n 1, 1) := dk_43 (dk_at dksX2_isWord_0 22 rfl rfl)
theorem dX2_isWord_23 : decode cX2_isWord 23 = .ok (.invokestatic 148, 3) := dk_184 0 148 (dk_at dksX2_isWord_1 0 rfl rfl)
theorem dX2_isWord_26 : decode cX2_isWord 26 = .ok (.lcmp, 1) := dk_148 (dk_at dksX2_isWord_1 3 rfl rfl)
theorem dX2_isWord_27 : decode cX2_isWord 27 = .ok (.ifCond .ne 7, 3) := dk_154 0 7 (dk_at dksX2_isWord_1 4 rfl rfl)
theorem dX2_isWord_30 : decode cX2_isWord 30 = .ok (.iconst 1, 1) := dk_4 (dk_at dksX2_isWord_1 7 rfl rfl)
theorem dX2_isWord_31 : decode cX2_isWord 31 = .ok (.goto 4, 3) := dk_167 0 4 (dk_at dksX2_isWord_1 8 rfl rfl)
theorem dX2_isWord_34 : decode cX2_isWord 34 = .ok (.iconst 0, 1) := dk_3 (dk_at dksX2_isWord_1 11 rfl rfl)
theorem dX2_isWord_35 : decode cX2_isWord 35 = .ok (.ireturn, 1) := dk_172 (dk_at dksX2_isWord_1 12 rfl rfl)
abbrev cX2_word : ByteArray := prog_27_method_3_code
def yX2_word : MethodName := ⟨RX2, "word", "(Ljava/lang/String;)J"⟩
def dkwX2_word_1 : List UInt8 := [20, 0, 122, 101, 64, 132, 3, 1, 167, 255, 228, 31, 173]
abbrev dktX2_word_1 : List UInt8 := dkwX2_word_1 ++ []
def dkwX2_word_0 : List UInt8 := [9, 64, 3, 62, 29, 42, 182, 0, 112, 162, 0, 26, 20, 0, 116, 31, 105, 42, 29, 182, 0, 118, 133, 97]
abbrev dktX2_word_0 : List UInt8 := dkwX2_word_0 ++ dktX2_word_1
theorem dksX2_word_0 : cX2_word.data.toList.drop 0 = dktX2_word_0 := by decide +kernel
theorem dksX2_word_1 : cX2_word.data.toList.drop 24 = dktX2_word_1 := dk_seg dksX2_word_0 24 rfl rfl
theorem dX2_word_0 : decode cX2_word 0 = .ok (.lconst 0, 1) := dk_9 (dk_at dksX2_word_0 0 rfl rfl)
theorem dX2_word_1 : decode cX2_word 1 = .ok (.lstore_n 1, 1) := dk_64 (dk_at dksX2_word_0 1 rfl rfl)
theorem dX2_word_2 : decode cX2_word 2 = .ok (.iconst 0, 1) := dk_3 (dk_at dksX2_word_0 2 rfl rfl)
theorem dX2_word_3 : decode cX2_word 3 = .ok (.istore_n 3, 1) := dk_62 (dk_at dksX2_word_0 3 rfl rfl)
theorem dX2_word_4 : decode cX2_word 4 = .ok (.iload_n 3, 1) := dk_29 (dk_at dksX2_word_0 4 rfl rfl)
theorem dX2_word_5 : decode cX2_word 5 = .ok (.aload_n 0, 1) := dk_42 (dk_at dksX2_word_0 5 rfl rfl)
theorem dX2_word_6 : decode cX2_word 6 = .ok (.invokevirtual 112, 3) := dk_182 0 112 (dk_at dksX2_word_0 6 rfl rfl)
theorem dX2_word_9 : decode cX2_word 9 = .ok (.if_icmp .ge 26, 3) := dk_162 0 26 (dk_at dksX2_word_0 9 rfl rfl)
theorem dX2_word_12 : decode cX2_word 12 = .ok (.ldc2_w 116, 3) := dk_20 0 116 (dk_at dksX2_word_0 12 rfl rfl)
theorem dX2_word_15 : decode cX2_word 15 = .ok (.lload_n 1, 1) := dk_31 (dk_at dksX2_word_0 15 rfl rfl)
theorem dX2_word_16 : decode cX2_word 16 = .ok (.lmul, 1) := dk_105 (dk_at dksX2_word_0 16 rfl rfl)
theorem dX2_word_17 : decode cX2_word 17 = .ok (.aload_n 0, 1) := dk_42 (dk_at dksX2_word_0 17 rfl rfl)
theorem dX2_word_18 : decode cX2_word 18 = .ok (.iload_n 3, 1) := dk_29 (dk_at dksX2_word_0 18 rfl rfl)
theorem dX2_word_19 : decode cX2_word 19 = .ok (.invokevirtual 118, 3) := dk_182 0 118 (dk_at dksX2_word_0 19 rfl rfl)
theorem dX2_word_22 : decode cX2_word 22 = .ok (.i2l, 1) := dk_133 (dk_at dksX2_word_0 22 rfl rfl)
theorem dX2_word_23 : decode cX2_word 23 = .ok (.ladd, 1) := dk_97 (dk_at dksX2_word_0 23 rfl rfl)
theorem dX2_word_24 : decode cX2_word 24 = .ok (.ldc2_w 122, 3) := dk_20 0 122 (dk_at dksX2_word_1 0 rfl rfl)
theorem dX2_word_27 : decode cX2_word 27 = .ok (.lsub, 1) := dk_101 (dk_at dksX2_word_1 3 rfl rfl)
theorem dX2_word_28 : decode cX2_word 28 = .ok (.lstore_n 1, 1) := dk_64 (dk_at dksX2_word_1 4 rfl rfl)
theorem dX2_word_29 : decode cX2_word 29 = .ok (.iinc 3 1, 3) := dk_132 3 1 (dk_at dksX2_word_1 5 rfl rfl)
theorem dX2_word_32 : decode cX2_word 32 = .ok (.goto (-28), 3) := dk_167 255 228 (dk_at dksX2_word_1 8 rfl rfl)
theorem dX2_word_35 : decode cX2_word 35 = .ok (.lload_n 1, 1) := dk_31 (dk_at dksX2_word_1 11 rfl rfl)
theorem dX2_word_36 : decode cX2_word 36 = .ok (.lreturn, 1) := dk_173 (dk_at dksX2_word_1 12 rfl rfl)
abbrev cX2_apple : ByteArray := prog_27_method_22_code
def yX2_apple : MethodName := ⟨RX2, "apple", "()V"⟩
def dkwX2_apple_6 : List UInt8 := [183, 0, 251, 182, 0, 245, 87, 177]
abbrev dktX2_apple_6 : List UInt8 := dkwX2_apple_6 ++ []
def dkwX2_apple_5 : List UInt8 := [182, 0, 235, 184, 0, 241, 182, 0, 245, 87, 42, 180, 0, 176, 180, 0, 238, 187, 0, 249, 89, 31]
abbrev dktX2_apple_5 : List UInt8 := dkwX2_apple_5 ++ dktX2_apple_6
def dkwX2_apple_4 : List UInt8 := [42, 180, 0, 176, 180, 0, 238, 182, 0, 227, 21, 4, 21, 5, 21, 6, 42, 18, 49, 3, 16, 99]
abbrev dktX2_apple_4 : List UInt8 := dkwX2_apple_4 ++ dktX2_apple_5
def dkwX2_apple_3 : List UInt8 := [182, 0, 204, 54, 5, 42, 18, 47, 3, 16, 60, 182, 0, 235, 54, 6, 42, 180, 0, 176, 180, 0, 223, 29]
abbrev dktX2_apple_3 : List UInt8 := dkwX2_apple_3 ++ dktX2_apple_4
def dkwX2_apple_2 : List UInt8 := [180, 0, 141, 4, 96, 181, 0, 141, 42, 18, 45, 3, 16, 11, 182, 0, 235, 54, 4, 42, 3, 16, 11]
abbrev dktX2_apple_2 : List UInt8 := dkwX2_apple_2 ++ dktX2_apple_3
def dkwX2_apple_1 : List UInt8 := [64, 42, 42, 180, 0, 40, 182, 0, 166, 62, 29, 2, 160, 0, 9, 42, 4, 182, 0, 162, 191, 42, 89]
abbrev dktX2_apple_1 : List UInt8 := dkwX2_apple_1 ++ dktX2_apple_2
def dkwX2_apple_0 : List UInt8 := [42, 42, 180, 0, 176, 180, 0, 223, 182, 0, 227, 16, 10, 160, 0, 7, 4, 167, 0, 4, 3, 182, 0, 231]
abbrev dktX2_apple_0 : List UInt8 := dkwX2_apple_0 ++ dktX2_apple_1
theorem dksX2_apple_0 : cX2_apple.data.toList.drop 0 = dktX2_apple_0 := by decide +kernel
theorem dksX2_apple_1 : cX2_apple.data.toList.drop 24 = dktX2_apple_1 := dk_seg dksX2_apple_0 24 rfl rfl
theorem dksX2_apple_2 : cX2_apple.data.toList.drop 47 = dktX2_apple_2 := dk_seg dksX2_apple_1 23 rfl rfl
theorem dksX2_apple_3 : cX2_apple.data.toList.drop 70 = dktX2_apple_3 := dk_seg dksX2_apple_2 23 rfl rfl
theorem dksX2_apple_4 : cX2_apple.data.toList.drop 94 = dktX2_apple_4 := dk_seg dksX2_apple_3 24 rfl rfl
theorem dksX2_apple_5 : cX2_apple.data.toList.drop 116 = dktX2_apple_5 := dk_seg dksX2_apple_4 22 rfl rfl
theorem dksX2_apple_6 : cX2_apple.data.toList.drop 138 = dktX2_apple_6 := dk_seg dksX2_apple_5 22 rfl rfl
theorem dX2_apple_0 : decode cX2_apple 0 = .ok (.aload_n 0, 1) := dk_42 (dk_at dksX2_apple_0 0 rfl rfl)
theorem dX2_apple_1 : decode cX2_apple 1 = .ok (.aload_n 0, 1) := dk_42 (dk_at dksX2_apple_0 1 rfl rfl)
theorem dX2_apple_2 : decode cX2_apple 2 = .ok (.getfield 176, 3) := dk_180 0 176 (dk_at dksX2_apple_0 2 rfl rfl)
theorem dX2_apple_5 : decode cX2_apple 5 = .ok (.getfield 223, 3) := dk_180 0 223 (dk_at dksX2_apple_0 5 rfl rfl)
theorem dX2_apple_8 : decode cX2_apple 8 = .ok (.invokevirtual 227, 3) := dk_182 0 227 (dk_at dksX2_apple_0 8 rfl rfl)
theorem dX2_apple_11 : decode cX2_apple 11 = .ok (.bipush 10, 2) := dk_16 10 (dk_at dksX2_apple_0 11 rfl rfl)
theorem dX2_apple_13 : decode cX2_apple 13 = .ok (.if_icmp .ne 7, 3) := dk_160 0 7 (dk_at dksX2_apple_0 13 rfl rfl)
theorem dX2_apple_16 : decode cX2_apple 16 = .ok (.iconst 1, 1) := dk_4 (dk_at dksX2_apple_0 16 rfl rfl)
theorem dX2_apple_17 : decode cX2_apple 17 = .ok (.goto 4, 3) := dk_167 0 4 (dk_at dksX2_apple_0 17 rfl rfl)
theorem dX2_apple_20 : decode cX2_apple 20 = .ok (.iconst 0, 1) := dk_3 (dk_at dksX2_apple_0 20 rfl rfl)
theorem dX2_apple_21 : decode cX2_apple 21 = .ok (.invokevirtual 231, 3) := dk_182 0 231 (dk_at dksX2_apple_0 21 rfl rfl)
theorem dX2_apple_24 : decode cX2_apple 24 = .ok (.lstore_n 1, 1) := dk_64 (dk_at dksX2_apple_1 0 rfl rfl)
theorem dX2_apple_25 : decode cX2_apple 25 = .ok (.aload_n 0, 1) := dk_42 (dk_at dksX2_apple_1 1 rfl rfl)
theorem dX2_apple_26 : decode cX2_apple 26 = .ok (.aload_n 0, 1) := dk_42 (dk_at dksX2_apple_1 2 rfl rfl)
theorem dX2_apple_27 : decode cX2_apple 27 = .ok (.getfield 40, 3) := dk_180 0 40 (dk_at dksX2_apple_1 3 rfl rfl)
theorem dX2_apple_30 : decode cX2_apple 30 = .ok (.invokevirtual 166, 3) := dk_182 0 166 (dk_at dksX2_apple_1 6 rfl rfl)
theorem dX2_apple_33 : decode cX2_apple 33 = .ok (.istore_n 3, 1) := dk_62 (dk_at dksX2_apple_1 9 rfl rfl)
theorem dX2_apple_34 : decode cX2_apple 34 = .ok (.iload_n 3, 1) := dk_29 (dk_at dksX2_apple_1 10 rfl rfl)
theorem dX2_apple_35 : decode cX2_apple 35 = .ok (.iconst (-1), 1) := dk_2 (dk_at dksX2_apple_1 11 rfl rfl)
theorem dX2_apple_36 : decode cX2_apple 36 = .ok (.if_icmp .ne 9, 3) := dk_160 0 9 (dk_at dksX2_apple_1 12 rfl rfl)
theorem dX2_apple_39 : decode cX2_apple 39 = .ok (.aload_n 0, 1) := dk_42 (dk_at dksX2_apple_1 15 rfl rfl)
theorem dX2_apple_40 : decode cX2_apple 40 = .ok (.iconst 1, 1) := dk_4 (dk_at dksX2_apple_1 16 rfl rfl)
theorem dX2_apple_41 : decode cX2_apple 41 = .ok (.invokevirtual 162, 3) := dk_182 0 162 (dk_at dksX2_apple_1 17 rfl rfl)
theorem dX2_apple_44 : decode cX2_apple 44 = .ok (.athrow, 1) := dk_191 (dk_at dksX2_apple_1 20 rfl rfl)
theorem dX2_apple_45 : decode cX2_apple 45 = .ok (.aload_n 0, 1) := dk_42 (dk_at dksX2_apple_1 21 rfl rfl)
theorem dX2_apple_46 : decode cX2_apple 46 = .ok (.dup, 1) := dk_89 (dk_at dksX2_apple_1 22 rfl rfl)
theorem dX2_apple_47 : decode cX2_apple 47 = .ok (.getfield 141, 3) := dk_180 0 141 (dk_at dksX2_apple_2 0 rfl rfl)
theorem dX2_apple_50 : decode cX2_apple 50 = .ok (.iconst 1, 1) := dk_4 (dk_at dksX2_apple_2 3 rfl rfl)
theorem dX2_apple_51 : decode cX2_apple 51 = .ok (.iadd, 1) := dk_96 (dk_at dksX2_apple_2 4 rfl rfl)
theorem dX2_apple_52 : decode cX2_apple 52 = .ok (.putfield 141, 3) := dk_181 0 141 (dk_at dksX2_apple_2 5 rfl rfl)
theorem dX2_apple_55 : decode cX2_apple 55 = .ok (.aload_n 0, 1) := dk_42 (dk_at dksX2_apple_2 8 rfl rfl)
theorem dX2_apple_56 : decode cX2_apple 56 = .ok (.ldc 45, 2) := dk_18 45 (dk_at dksX2_apple_2 9 rfl rfl)
theorem dX2_apple_58 : decode cX2_apple 58 = .ok (.iconst 0, 1) := dk_3 (dk_at dksX2_apple_2 11 rfl rfl)
theorem dX2_apple_59 : decode cX2_apple 59 = .ok (.bipush 11, 2) := dk_16 11 (dk_at dksX2_apple_2 12 rfl rfl)
theorem dX2_apple_61 : decode cX2_apple 61 = .ok (.invokevirtual 235, 3) := dk_182 0 235 (dk_at dksX2_apple_2 14 rfl rfl)
theorem dX2_apple_64 : decode cX2_apple 64 = .ok (.istore 4, 2) := dk_54 4 (dk_at dksX2_apple_2 17 rfl rfl)
theorem dX2_apple_66 : decode cX2_apple 66 = .ok (.aload_n 0, 1) := dk_42 (dk_at dksX2_apple_2 19 rfl rfl)
theorem dX2_apple_67 : decode cX2_apple 67 = .ok (.iconst 0, 1) := dk_3 (dk_at dksX2_apple_2 20 rfl rfl)
theorem dX2_apple_68 : decode cX2_apple 68 = .ok (.bipush 11, 2) := dk_16 11 (dk_at dksX2_apple_2 21 rfl rfl)
theorem dX2_apple_70 : decode cX2_apple 70 = .ok (.invokevirtual 204, 3) := dk_182 0 204 (dk_at dksX2_apple_3 0 rfl rfl)
theorem dX2_apple_73 : decode cX2_apple 73 = .ok (.istore 5, 2) := dk_54 5 (dk_at dksX2_apple_3 3 rfl rfl)
theorem dX2_apple_75 : decode cX2_apple 75 = .ok (.aload_n 0, 1) := dk_42 (dk_at dksX2_apple_3 5 rfl rfl)
theorem dX2_apple_76 : decode cX2_apple 76 = .ok (.ldc 47, 2) := dk_18 47 (dk_at dksX2_apple_3 6 rfl rfl)
theorem dX2_apple_78 : decode cX2_apple 78 = .ok (.iconst 0, 1) := dk_3 (dk_at dksX2_apple_3 8 rfl rfl)
theorem dX2_apple_79 : decode cX2_apple 79 = .ok (.bipush 60, 2) := dk_16 60 (dk_at dksX2_apple_3 9 rfl rfl)
theorem dX2_apple_81 : decode cX2_apple 81 = .ok (.invokevirtual 235, 3) := dk_182 0 235 (dk_at dksX2_apple_3 11 rfl rfl)
theorem dX2_apple_84 : decode cX2_apple 84 = .ok (.istore 6, 2) := dk_54 6 (dk_at dksX2_apple_3 14 rfl rfl)
theorem dX2_apple_86 : decode cX2_apple 86 = .ok (.aload_n 0, 1) := dk_42 (dk_at dksX2_apple_3 16 rfl rfl)
theorem dX2_apple_87 : decode cX2_apple 87 = .ok (.getfield 176, 3) := dk_180 0 176 (dk_at dksX2_apple_3 17 rfl rfl)
theorem dX2_apple_90 : decode cX2_apple 90 = .ok (.getfield 223, 3) := dk_180 0 223 (dk_at dksX2_apple_3 20 rfl rfl)
theorem dX2_apple_93 : decode cX2_apple 93 = .ok (.iload_n 3, 1) := dk_29 (dk_at dksX2_apple_3 23 rfl rfl)
theorem dX2_apple_94 : decode cX2_apple 94 = .ok (.aload_n 0, 1) := dk_42 (dk_at dksX2_apple_4 0 rfl rfl)
theorem dX2_apple_95 : decode cX2_apple 95 = .ok (.getfield 176, 3) := dk_180 0 176 (dk_at dksX2_apple_4 1 rfl rfl)
theorem dX2_apple_98 : decode cX2_apple 98 = .ok (.getfield 238, 3) := dk_180 0 238 (dk_at dksX2_apple_4 4 rfl rfl)
theorem dX2_apple_101 : decode cX2_apple 101 = .ok (.invokevirtual 227, 3) := dk_182 0 227 (dk_at dksX2_apple_4 7 rfl rfl)
theorem dX2_apple_104 : decode cX2_apple 104 = .ok (.iload 4, 2) := dk_21 4 (dk_at dksX2_apple_4 10 rfl rfl)
theorem dX2_apple_106 : decode cX2_apple 106 = .ok (.iload 5, 2) := dk_21 5 (dk_at dksX2_apple_4 12 rfl rfl)
theorem dX2_apple_108 : decode cX2_apple 108 = .ok (.iload 6, 2) := dk_21 6 (dk_at dksX2_apple_4 14 rfl rfl)
theorem dX2_apple_110 : decode cX2_apple 110 = .ok (.aload_n 0, 1) := dk_42 (dk_at dksX2_apple_4 16 rfl rfl)
theorem dX2_apple_111 : decode cX2_apple 111 = .ok (.ldc 49, 2) := dk_18 49 (dk_at dksX2_apple_4 17 rfl rfl)
theorem dX2_apple_113 : decode cX2_apple 113 = .ok (.iconst 0, 1) := dk_3 (dk_at dksX2_apple_4 19 rfl rfl)
theorem dX2_apple_114 : decode cX2_apple 114 = .ok (.bipush 99, 2) := dk_16 99 (dk_at dksX2_apple_4 20 rfl rfl)
theorem dX2_apple_116 : decode cX2_apple 116 = .ok (.invokevirtual 235, 3) := dk_182 0 235 (dk_at dksX2_apple_5 0 rfl rfl)
theorem dX2_apple_119 : decode cX2_apple 119 = .ok (.invokestatic 241, 3) := dk_184 0 241 (dk_at dksX2_apple_5 3 rfl rfl)
theorem dX2_apple_122 : decode cX2_apple 122 = .ok (.invokevirtual 245, 3) := dk_182 0 245 (dk_at dksX2_apple_5 6 rfl rfl)
theorem dX2_apple_125 : decode cX2_apple 125 = .ok (.pop, 1) := dk_87 (dk_at dksX2_apple_5 9 rfl rfl)
theorem dX2_apple_126 : decode cX2_apple 126 = .ok (.aload_n 0, 1) := dk_42 (dk_at dksX2_apple_5 10 rfl rfl)
theorem dX2_apple_127 : decode cX2_apple 127 = .ok (.getfield 176, 3) := dk_180 0 176 (dk_at dksX2_apple_5 11 rfl rfl)
theorem dX2_apple_130 : decode cX2_apple 130 = .ok (.getfield 238, 3) := dk_180 0 238 (dk_at dksX2_apple_5 14 rfl rfl)
theorem dX2_apple_133 : decode cX2_apple 133 = .ok (.new 249, 3) := dk_187 0 249 (dk_at dksX2_apple_5 17 rfl rfl)
theorem dX2_apple_136 : decode cX2_apple 136 = .ok (.dup, 1) := dk_89 (dk_at dksX2_apple_5 20 rfl rfl)
theorem dX2_apple_137 : decode cX2_apple 137 = .ok (.lload_n 1, 1) := dk_31 (dk_at dksX2_apple_5 21 rfl rfl)
theorem dX2_apple_138 : decode cX2_apple 138 = .ok (.invokespecial 251, 3) := dk_183 0 251 (dk_at dksX2_apple_6 0 rfl rfl)
theorem dX2_apple_141 : decode cX2_apple 141 = .ok (.invokevirtual 245, 3) := dk_182 0 245 (dk_at dksX2_apple_6 3 rfl rfl)
theorem dX2_apple_144 : decode cX2_apple 144 = .ok (.pop, 1) := dk_87 (dk_at dksX2_apple_6 6 rfl rfl)
theorem dX2_apple_145 : decode cX2_apple 145 = .ok (.return_, 1) := dk_177 (dk_at dksX2_apple_6 7 rfl rfl)
abbrev cX2_newName : ByteArray := prog_27_method_18_code
def yX2_newName : MethodName := ⟨RX2, "newName", "(Z)J"⟩
def dkwX2_newName_4 : List UInt8 := [180, 0, 141, 4, 100, 47, 173]
abbrev dktX2_newName_4 : List UInt8 := dkwX2_newName_4 ++ []
def dkwX2_newName_3 : List UInt8 := [159, 0, 9, 42, 6, 182, 0, 162, 191, 42, 89, 180, 0, 141, 4, 96, 181, 0, 141, 42, 180, 0, 96, 42]
abbrev dktX2_newName_3 : List UInt8 := dkwX2_newName_3 ++ dktX2_newName_4
def dkwX2_newName_2 : List UInt8 := [182, 0, 212, 2, 160, 0, 23, 42, 180, 0, 176, 42, 180, 0, 96, 42, 180, 0, 141, 47, 182, 0, 216, 2]
abbrev dktX2_newName_2 : List UInt8 := dkwX2_newName_2 ++ dktX2_newName_3
def dkwX2_newName_1 : List UInt8 := [154, 0, 9, 42, 4, 182, 0, 162, 191, 42, 180, 0, 176, 42, 180, 0, 96, 42, 180, 0, 141, 47]
abbrev dktX2_newName_1 : List UInt8 := dkwX2_newName_1 ++ dktX2_newName_2
def dkwX2_newName_0 : List UInt8 := [27, 153, 0, 9, 42, 8, 182, 0, 162, 191, 42, 89, 180, 0, 141, 4, 96, 181, 0, 141, 42, 182, 0, 208]
abbrev dktX2_newName_0 : List UInt8 := dkwX2_newName_0 ++ dktX2_newName_1
theorem dksX2_newName_0 : cX2_newName.data.toList.drop 0 = dktX2_newName_0 := by decide +kernel
theorem dksX2_newName_1 : cX2_newName.data.toList.drop 24 = dktX2_newName_1 := dk_seg dksX2_newName_0 24 rfl rfl
theorem dksX2_newName_2 : cX2_newName.data.toList.drop 46 = dktX2_newName_2 := dk_seg dksX2_newName_1 22 rfl rfl
theorem dksX2_newName_3 : cX2_newName.data.toList.drop 70 = dktX2_newName_3 := dk_seg dksX2_newName_2 24 rfl rfl
theorem dksX2_newName_4 : cX2_newName.data.toList.drop 94 = dktX2_newName_4 := dk_seg dksX2_newName_3 24 rfl rfl
theorem dX2_newName_0 : decode cX2_newName 0 = .ok (.iload_n 1, 1) := dk_27 (dk_at dksX2_newName_0 0 rfl rfl)
theorem dX2_newName_1 : decode cX2_newName 1 = .ok (.ifCond .eq 9, 3) := dk_153 0 9 (dk_at dksX2_newName_0 1 rfl rfl)
theorem dX2_newName_4 : decode cX2_newName 4 = .ok (.aload_n 0, 1) := dk_42 (dk_at dksX2_newName_0 4 rfl rfl)
theorem dX2_newName_5 : decode cX2_newName 5 = .ok (.iconst 5, 1) := dk_8 (dk_at dksX2_newName_0 5 rfl rfl)
theorem dX2_newName_6 : decode cX2_newName 6 = .ok (.invokevirtual 162, 3) := dk_182 0 162 (dk_at dksX2_newName_0 6 rfl rfl)
theorem dX2_newName_9 : decode cX2_newName 9 = .ok (.athrow, 1) := dk_191 (dk_at dksX2_newName_0 9 rfl rfl)
theorem dX2_newName_10 : decode cX2_newName 10 = .ok (.aload_n 0, 1) := dk_42 (dk_at dksX2_newName_0 10 rfl rfl)
theorem dX2_newName_11 : decode cX2_newName 11 = .ok (.dup, 1) := dk_89 (dk_at dksX2_newName_0 11 rfl rfl)
theorem dX2_newName_12 : decode cX2_newName 12 = .ok (.getfield 141, 3) := dk_180 0 141 (dk_at dksX2_newName_0 12 rfl rfl)
theorem dX2_newName_15 : decode cX2_newName 15 = .ok (.iconst 1, 1) := dk_4 (dk_at dksX2_newName_0 15 rfl rfl)
theorem dX2_newName_16 : decode cX2_newName 16 = .ok (.iadd, 1) := dk_96 (dk_at dksX2_newName_0 16 rfl rfl)
theorem dX2_newName_17 : decode cX2_newName 17 = .ok (.putfield 141, 3) := dk_181 0 141 (dk_at dksX2_newName_0 17 rfl rfl)
theorem dX2_newName_20 : decode cX2_newName 20 = .ok (.aload_n 0, 1) := dk_42 (dk_at dksX2_newName_0 20 rfl rfl)
theorem dX2_newName_21 : decode cX2_newName 21 = .ok (.invokevirtual 208, 3) := dk_182 0 208 (dk_at dksX2_newName_0 21 rfl rfl)
theorem dX2_newName_24 : decode cX2_newName 24 = .ok (.ifCond .ne 9, 3) := dk_154 0 9 (dk_at dksX2_newName_1 0 rfl rfl)
theorem dX2_newName_27 : decode cX2_newName 27 = .ok (.aload_n 0, 1) := dk_42 (dk_at dksX2_newName_1 3 rfl rfl)
theorem dX2_newName_28 : decode cX2_newName 28 = .ok (.iconst 1, 1) := dk_4 (dk_at dksX2_newName_1 4 rfl rfl)
theorem dX2_newName_29 : decode cX2_newName 29 = .ok (.invokevirtual 162, 3) := dk_182 0 162 (dk_at dksX2_newName_1 5 rfl rfl)
theorem dX2_newName_32 : decode cX2_newName 32 = .ok (.athrow, 1) := dk_191 (dk_at dksX2_newName_1 8 rfl rfl)
theorem dX2_newName_33 : decode cX2_newName 33 = .ok (.aload_n 0, 1) := dk_42 (dk_at dksX2_newName_1 9 rfl rfl)
theorem dX2_newName_34 : decode cX2_newName 34 = .ok (.getfield 176, 3) := dk_180 0 176 (dk_at dksX2_newName_1 10 rfl rfl)
theorem dX2_newName_37 : decode cX2_newName 37 = .ok (.aload_n 0, 1) := dk_42 (dk_at dksX2_newName_1 13 rfl rfl)
theorem dX2_newName_38 : decode cX2_newName 38 = .ok (.getfield 96, 3) := dk_180 0 96 (dk_at dksX2_newName_1 14 rfl rfl)
theorem dX2_newName_41 : decode cX2_newName 41 = .ok (.aload_n 0, 1) := dk_42 (dk_at dksX2_newName_1 17 rfl rfl)
theorem dX2_newName_42 : decode cX2_newName 42 = .ok (.getfield 141, 3) := dk_180 0 141 (dk_at dksX2_newName_1 18 rfl rfl)
theorem dX2_newName_45 : decode cX2_newName 45 = .ok (.laload, 1) := dk_47 (dk_at dksX2_newName_1 21 rfl rfl)
theorem dX2_newName_46 : decode cX2_newName 46 = .ok (.invokevirtual 212, 3) := dk_182 0 212 (dk_at dksX2_newName_2 0 rfl rfl)
theorem dX2_newName_49 : decode cX2_newName 49 = .ok (.iconst (-1), 1) := dk_2 (dk_at dksX2_newName_2 3 rfl rfl)
theorem dX2_newName_50 : decode cX2_newName 50 = .ok (.if_icmp .ne 23, 3) := dk_160 0 23 (dk_at dksX2_newName_2 4 rfl rfl)
theorem dX2_newName_53 : decode cX2_newName 53 = .ok (.aload_n 0, 1) := dk_42 (dk_at dksX2_newName_2 7 rfl rfl)
theorem dX2_newName_54 : decode cX2_newName 54 = .ok (.getfield 176, 3) := dk_180 0 176 (dk_at dksX2_newName_2 8 rfl rfl)
theorem dX2_newName_57 : decode cX2_newName 57 = .ok (.aload_n 0, 1) := dk_42 (dk_at dksX2_newName_2 11 rfl rfl)
theorem dX2_newName_58 : decode cX2_newName 58 = .ok (.getfield 96, 3) := dk_180 0 96 (dk_at dksX2_newName_2 12 rfl rfl)
theorem dX2_newName_61 : decode cX2_newName 61 = .ok (.aload_n 0, 1) := dk_42 (dk_at dksX2_newName_2 15 rfl rfl)
theorem dX2_newName_62 : decode cX2_newName 62 = .ok (.getfield 141, 3) := dk_180 0 141 (dk_at dksX2_newName_2 16 rfl rfl)
theorem dX2_newName_65 : decode cX2_newName 65 = .ok (.laload, 1) := dk_47 (dk_at dksX2_newName_2 19 rfl rfl)
theorem dX2_newName_66 : decode cX2_newName 66 = .ok (.invokevirtual 216, 3) := dk_182 0 216 (dk_at dksX2_newName_2 20 rfl rfl)
theorem dX2_newName_69 : decode cX2_newName 69 = .ok (.iconst (-1), 1) := dk_2 (dk_at dksX2_newName_2 23 rfl rfl)
theorem dX2_newName_70 : decode cX2_newName 70 = .ok (.if_icmp .eq 9, 3) := dk_159 0 9 (dk_at dksX2_newName_3 0 rfl rfl)
theorem dX2_newName_73 : decode cX2_newName 73 = .ok (.aload_n 0, 1) := dk_42 (dk_at dksX2_newName_3 3 rfl rfl)
theorem dX2_newName_74 : decode cX2_newName 74 = .ok (.iconst 3, 1) := dk_6 (dk_at dksX2_newName_3 4 rfl rfl)
theorem dX2_newName_75 : decode cX2_newName 75 = .ok (.invokevirtual 162, 3) := dk_182 0 162 (dk_at dksX2_newName_3 5 rfl rfl)
theorem dX2_newName_78 : decode cX2_newName 78 = .ok (.athrow, 1) := dk_191 (dk_at dksX2_newName_3 8 rfl rfl)
theorem dX2_newName_79 : decode cX2_newName 79 = .ok (.aload_n 0, 1) := dk_42 (dk_at dksX2_newName_3 9 rfl rfl)
theorem dX2_newName_80 : decode cX2_newName 80 = .ok (.dup, 1) := dk_89 (dk_at dksX2_newName_3 10 rfl rfl)
theorem dX2_newName_81 : decode cX2_newName 81 = .ok (.getfield 141, 3) := dk_180 0 141 (dk_at dksX2_newName_3 11 rfl rfl)
theorem dX2_newName_84 : decode cX2_newName 84 = .ok (.iconst 1, 1) := dk_4 (dk_at dksX2_newName_3 14 rfl rfl)
theorem dX2_newName_85 : decode cX2_newName 85 = .ok (.iadd, 1) := dk_96 (dk_at dksX2_newName_3 15 rfl rfl)
theorem dX2_newName_86 : decode cX2_newName 86 = .ok (.putfield 141, 3) := dk_181 0 141 (dk_at dksX2_newName_3 16 rfl rfl)
theorem dX2_newName_89 : decode cX2_newName 89 = .ok (.aload_n 0, 1) := dk_42 (dk_at dksX2_newName_3 19 rfl rfl)
theorem dX2_newName_90 : decode cX2_newName 90 = .ok (.getfield 96, 3) := dk_180 0 96 (dk_at dksX2_newName_3 20 rfl rfl)
theorem dX2_newName_93 : decode cX2_newName 93 = .ok (.aload_n 0, 1) := dk_42 (dk_at dksX2_newName_3 23 rfl rfl)
theorem dX2_newName_94 : decode cX2_newName 94 = .ok (.getfield 141, 3) := dk_180 0 141 (dk_at dksX2_newName_4 0 rfl rfl)
theorem dX2_newName_97 : decode cX2_newName 97 = .ok (.iconst 1, 1) := dk_4 (dk_at dksX2_newName_4 3 rfl rfl)
theorem dX2_newName_98 : decode cX2_newName 98 = .ok (.isub, 1) := dk_100 (dk_at dksX2_newName_4 4 rfl rfl)
theorem dX2_newName_99 : decode cX2_newName 99 = .ok (.laload, 1) := dk_47 (dk_at dksX2_newName_4 5 rfl rfl)
theorem dX2_newName_100 : decode cX2_newName 100 = .ok (.lreturn, 1) := dk_173 (dk_at dksX2_newName_4 6 rfl rfl)
abbrev cX2_wrong : ByteArray := prog_27_method_7_code
def yX2_wrong : MethodName := ⟨RX2, "wrong", "(I)LNameOrchard$Wrong;"⟩
def dkwX2_wrong_0 : List UInt8 := [187, 0, 143, 89, 27, 16, 16, 42, 180, 0, 99, 42, 180, 0, 141, 46, 104, 96, 183, 0, 145, 176]
abbrev dktX2_wrong_0 : List UInt8 := dkwX2_wrong_0 ++ []
theorem dksX2_wrong_0 : cX2_wrong.data.toList.drop 0 = dktX2_wrong_0 := by decide +kernel
theorem dX2_wrong_0 : decode cX2_wrong 0 = .ok (.new 143, 3) := dk_187 0 143 (dk_at dksX2_wrong_0 0 rfl rfl)
theorem dX2_wrong_3 : decode cX2_wrong 3 = .ok (.dup, 1) := dk_89 (dk_at dksX2_wrong_0 3 rfl rfl)
theorem dX2_wrong_4 : decode cX2_wrong 4 = .ok (.iload_n 1, 1) := dk_27 (dk_at dksX2_wrong_0 4 rfl rfl)
theorem dX2_wrong_5 : decode cX2_wrong 5 = .ok (.bipush 16, 2) := dk_16 16 (dk_at dksX2_wrong_0 5 rfl rfl)
theorem dX2_wrong_7 : decode cX2_wrong 7 = .ok (.aload_n 0, 1) := dk_42 (dk_at dksX2_wrong_0 7 rfl rfl)
theorem dX2_wrong_8 : decode cX2_wrong 8 = .ok (.getfield 99, 3) := dk_180 0 99 (dk_at dksX2_wrong_0 8 rfl rfl)
theorem dX2_wrong_11 : decode cX2_wrong 11 = .ok (.aload_n 0, 1) := dk_42 (dk_at dksX2_wrong_0 11 rfl rfl)
theorem dX2_wrong_12 : decode cX2_wrong 12 = .ok (.getfield 141, 3) := dk_180 0 141 (dk_at dksX2_wrong_0 12 rfl rfl)
theorem dX2_wrong_15 : decode cX2_wrong 15 = .ok (.iaload, 1) := dk_46 (dk_at dksX2_wrong_0 15 rfl rfl)
theorem dX2_wrong_16 : decode cX2_wrong 16 = .ok (.imul, 1) := dk_104 (dk_at dksX2_wrong_0 16 rfl rfl)
theorem dX2_wrong_17 : decode cX2_wrong 17 = .ok (.iadd, 1) := dk_96 (dk_at dksX2_wrong_0 17 rfl rfl)
theorem dX2_wrong_18 : decode cX2_wrong 18 = .ok (.invokespecial 145, 3) := dk_183 0 145 (dk_at dksX2_wrong_0 18 rfl rfl)
theorem dX2_wrong_21 : decode cX2_wrong 21 = .ok (.areturn, 1) := dk_176 (dk_at dksX2_wrong_0 21 rfl rfl)
abbrev cX2_isName : ByteArray := prog_27_method_15_code
def yX2_isName : MethodName := ⟨RX2, "isName", "()Z"⟩
def dkwX2_isName_1 : List UInt8 := [160, 0, 19, 42, 42, 180, 0, 40, 182, 0, 166, 2, 160, 0, 7, 4, 167, 0, 4, 3, 172]
abbrev dktX2_isName_1 : List UInt8 := dkwX2_isName_1 ++ []
def dkwX2_isName_0 : List UInt8 := [42, 180, 0, 93, 42, 180, 0, 141, 46, 4, 160, 0, 31, 42, 42, 180, 0, 83, 182, 0, 166, 2]
abbrev dktX2_isName_0 : List UInt8 := dkwX2_isName_0 ++ dktX2_isName_1
theorem dksX2_isName_0 : cX2_isName.data.toList.drop 0 = dktX2_isName_0 := by decide +kernel
theorem dksX2_isName_1 : cX2_isName.data.toList.drop 22 = dktX2_isName_1 := dk_seg dksX2_isName_0 22 rfl rfl
theorem dX2_isName_0 : decode cX2_isName 0 = .ok (.aload_n 0, 1) := dk_42 (dk_at dksX2_isName_0 0 rfl rfl)
theorem dX2_isName_1 : decode cX2_isName 1 = .ok (.getfield 93, 3) := dk_180 0 93 (dk_at dksX2_isName_0 1 rfl rfl)
theorem dX2_isName_4 : decode cX2_isName 4 = .ok (.aload_n 0, 1) := dk_42 (dk_at dksX2_isName_0 4 rfl rfl)
theorem dX2_isName_5 : decode cX2_isName 5 = .ok (.getfield 141, 3) := dk_180 0 141 (dk_at dksX2_isName_0 5 rfl rfl)
theorem dX2_isName_8 : decode cX2_isName 8 = .ok (.iaload, 1) := dk_46 (dk_at dksX2_isName_0 8 rfl rfl)
theorem dX2_isName_9 : decode cX2_isName 9 = .ok (.iconst 1, 1) := dk_4 (dk_at dksX2_isName_0 9 rfl rfl)
theorem dX2_isName_10 : decode cX2_isName 10 = .ok (.if_icmp .ne 31, 3) := dk_160 0 31 (dk_at dksX2_isName_0 10 rfl rfl)
theorem dX2_isName_13 : decode cX2_isName 13 = .ok (.aload_n 0, 1) := dk_42 (dk_at dksX2_isName_0 13 rfl rfl)
theorem dX2_isName_14 : decode cX2_isName 14 = .ok (.aload_n 0, 1) := dk_42 (dk_at dksX2_isName_0 14 rfl rfl)
theorem dX2_isName_15 : decode cX2_isName 15 = .ok (.getfield 83, 3) := dk_180 0 83 (dk_at dksX2_isName_0 15 rfl rfl)
theorem dX2_isName_18 : decode cX2_isName 18 = .ok (.invokevirtual 166, 3) := dk_182 0 166 (dk_at dksX2_isName_0 18 rfl rfl)
theorem dX2_isName_21 : decode cX2_isName 21 = .ok (.iconst (-1), 1) := dk_2 (dk_at dksX2_isName_0 21 rfl rfl)
theorem dX2_isName_22 : decode cX2_isName 22 = .ok (.if_icmp .ne 19, 3) := dk_160 0 19 (dk_at dksX2_isName_1 0 rfl rfl)
theorem dX2_isName_25 : decode cX2_isName 25 = .ok (.aload_n 0, 1) := dk_42 (dk_at dksX2_isName_1 3 rfl rfl)
theorem dX2_isName_26 : decode cX2_isName 26 = .ok (.aload_n 0, 1) := dk_42 (dk_at dksX2_isName_1 4 rfl rfl)
theorem dX2_isName_27 : decode cX2_isName 27 = .ok (.getfield 40, 3) := dk_180 0 40 (dk_at dksX2_isName_1 5 rfl rfl)
theorem dX2_isName_30 : decode cX2_isName 30 = .ok (.invokevirtual 166, 3) := dk_182 0 166 (dk_at dksX2_isName_1 8 rfl rfl)
theorem dX2_isName_33 : decode cX2_isName 33 = .ok (.iconst (-1), 1) := dk_2 (dk_at dksX2_isName_1 11 rfl rfl)
theorem dX2_isName_34 : decode cX2_isName 34 = .ok (.if_icmp .ne 7, 3) := dk_160 0 7 (dk_at dksX2_isName_1 12 rfl rfl)
theorem dX2_isName_37 : decode cX2_isName 37 = .ok (.iconst 1, 1) := dk_4 (dk_at dksX2_isName_1 15 rfl rfl)
theorem dX2_isName_38 : decode cX2_isName 38 = .ok (.goto 4, 3) := dk_167 0 4 (dk_at dksX2_isName_1 16 rfl rfl)
theorem dX2_isName_41 : decode cX2_isName 41 = .ok (.iconst 0, 1) := dk_3 (dk_at dksX2_isName_1 19 rfl rfl)
theorem dX2_isName_42 : decode cX2_isName 42 = .ok (.ireturn, 1) := dk_172 (dk_at dksX2_isName_1 20 rfl rfl)
abbrev cX2_which : ByteArray := prog_27_method_10_code
def yX2_which : MethodName := ⟨RX2, "which", "([Ljava/lang/String;)I"⟩
def dkwX2_which_1 : List UInt8 := [167, 255, 235, 2, 172]
abbrev dktX2_which_1 : List UInt8 := dkwX2_which_1 ++ []
def dkwX2_which_0 : List UInt8 := [3, 61, 28, 43, 190, 162, 0, 21, 42, 43, 28, 50, 182, 0, 152, 153, 0, 5, 28, 172, 132, 2, 1]
abbrev dktX2_which_0 : List UInt8 := dkwX2_which_0 ++ dktX2_which_1
theorem dksX2_which_0 : cX2_which.data.toList.drop 0 = dktX2_which_0 := by decide +kernel
theorem dksX2_which_1 : cX2_which.data.toList.drop 23 = dktX2_which_1 := dk_seg dksX2_which_0 23 rfl rfl
theorem dX2_which_0 : decode cX2_which 0 = .ok (.iconst 0, 1) := dk_3 (dk_at dksX2_which_0 0 rfl rfl)
theorem dX2_which_1 : decode cX2_which 1 = .ok (.istore_n 2, 1) := dk_61 (dk_at dksX2_which_0 1 rfl rfl)
theorem dX2_which_2 : decode cX2_which 2 = .ok (.iload_n 2, 1) := dk_28 (dk_at dksX2_which_0 2 rfl rfl)
theorem dX2_which_3 : decode cX2_which 3 = .ok (.aload_n 1, 1) := dk_43 (dk_at dksX2_which_0 3 rfl rfl)
theorem dX2_which_4 : decode cX2_which 4 = .ok (.arraylength, 1) := dk_190 (dk_at dksX2_which_0 4 rfl rfl)
theorem dX2_which_5 : decode cX2_which 5 = .ok (.if_icmp .ge 21, 3) := dk_162 0 21 (dk_at dksX2_which_0 5 rfl rfl)
theorem dX2_which_8 : decode cX2_which 8 = .ok (.aload_n 0, 1) := dk_42 (dk_at dksX2_which_0 8 rfl rfl)
theorem dX2_which_9 : decode cX2_which 9 = .ok (.aload_n 1, 1) := dk_43 (dk_at dksX2_which_0 9 rfl rfl)
theorem dX2_which_10 : decode cX2_which 10 = .ok (.iload_n 2, 1) := dk_28 (dk_at dksX2_which_0 10 rfl rfl)
theorem dX2_which_11 : decode cX2_which 11 = .ok (.aaload, 1) := dk_50 (dk_at dksX2_which_0 11 rfl rfl)
theorem dX2_which_12 : decode cX2_which 12 = .ok (.invokevirtual 152, 3) := dk_182 0 152 (dk_at dksX2_which_0 12 rfl rfl)
theorem dX2_which_15 : decode cX2_which 15 = .ok (.ifCond .eq 5, 3) := dk_153 0 5 (dk_at dksX2_which_0 15 rfl rfl)
theorem dX2_which_18 : decode cX2_which 18 = .ok (.iload_n 2, 1) := dk_28 (dk_at dksX2_which_0 18 rfl rfl)
theorem dX2_which_19 : decode cX2_which 19 = .ok (.ireturn, 1) := dk_172 (dk_at dksX2_which_0 19 rfl rfl)
theorem dX2_which_20 : decode cX2_which 20 = .ok (.iinc 2 1, 3) := dk_132 2 1 (dk_at dksX2_which_0 20 rfl rfl)
theorem dX2_which_23 : decode cX2_which 23 = .ok (.goto (-21), 3) := dk_167 255 235 (dk_at dksX2_which_1 0 rfl rfl)
theorem dX2_which_26 : decode cX2_which 26 = .ok (.iconst (-1), 1) := dk_2 (dk_at dksX2_which_1 3 rfl rfl)
theorem dX2_which_27 : decode cX2_which 27 = .ok (.ireturn, 1) := dk_172 (dk_at dksX2_which_1 4 rfl rfl)
abbrev cX2_number : ByteArray := prog_27_method_17_code
def yX2_number : MethodName := ⟨RX2, "number", "(Ljava/lang/String;II)I"⟩
def dkwX2_number_0 : List UInt8 := [42, 43, 182, 0, 200, 42, 28, 29, 182, 0, 204, 172]
abbrev dktX2_number_0 : List UInt8 := dkwX2_number_0 ++ []
theorem dksX2_number_0 : cX2_number.data.toList.drop 0 = dktX2_number_0 := by decide +kernel
theorem dX2_number_0 : decode cX2_number 0 = .ok (.aload_n 0, 1) := dk_42 (dk_at dksX2_number_0 0 rfl rfl)
theorem dX2_number_1 : decode cX2_number 1 = .ok (.aload_n 1, 1) := dk_43 (dk_at dksX2_number_0 1 rfl rfl)
theorem dX2_number_2 : decode cX2_number 2 = .ok (.invokevirtual 200, 3) := dk_182 0 200 (dk_at dksX2_number_0 2 rfl rfl)
theorem dX2_number_5 : decode cX2_number 5 = .ok (.aload_n 0, 1) := dk_42 (dk_at dksX2_number_0 5 rfl rfl)
theorem dX2_number_6 : decode cX2_number 6 = .ok (.iload_n 2, 1) := dk_28 (dk_at dksX2_number_0 6 rfl rfl)
theorem dX2_number_7 : decode cX2_number 7 = .ok (.iload_n 3, 1) := dk_29 (dk_at dksX2_number_0 7 rfl rfl)
theorem dX2_number_8 : decode cX2_number 8 = .ok (.invokevirtual 204, 3) := dk_182 0 204 (dk_at dksX2_number_0 8 rfl rfl)
theorem dX2_number_11 : decode cX2_number 11 = .ok (.ireturn, 1) := dk_172 (dk_at dksX2_number_0 11 rfl rfl)
abbrev cX2_takeWord : ByteArray := prog_27_method_34_code
def yX2_takeWord : MethodName := ⟨RX2, "takeWord", "(Ljava/lang/String;)V"⟩
def dkwX2_takeWord_0 : List UInt8 := [42, 43, 182, 1, 18, 154, 0, 9, 42, 4, 182, 0, 162, 191, 177]
abbrev dktX2_takeWord_0 : List UInt8 := dkwX2_takeWord_0 ++ []
theorem dksX2_takeWord_0 : cX2_takeWord.data.toList.drop 0 = dktX2_takeWord_0 := by decide +kernel
theorem dX2_takeWord_0 : decode cX2_takeWord 0 = .ok (.aload_n 0, 1) := dk_42 (dk_at dksX2_takeWord_0 0 rfl rfl)
theorem dX2_takeWord_1 : decode cX2_takeWord 1 = .ok (.aload_n 1, 1) := dk_43 (dk_at dksX2_takeWord_0 1 rfl rfl)
theorem dX2_takeWord_2 : decode cX2_takeWord 2 = .ok (.invokevirtual 274, 3) := dk_182 1 18 (dk_at dksX2_takeWord_0 2 rfl rfl)
theorem dX2_takeWord_5 : decode cX2_takeWord 5 = .ok (.ifCond .ne 9, 3) := dk_154 0 9 (dk_at dksX2_takeWord_0 5 rfl rfl)
theorem dX2_takeWord_8 : decode cX2_takeWord 8 = .ok (.aload_n 0, 1) := dk_42 (dk_at dksX2_takeWord_0 8 rfl rfl)
theorem dX2_takeWord_9 : decode cX2_takeWord 9 = .ok (.iconst 1, 1) := dk_4 (dk_at dksX2_takeWord_0 9 rfl rfl)
theorem dX2_takeWord_10 : decode cX2_takeWord 10 = .ok (.invokevirtual 162, 3) := dk_182 0 162 (dk_at dksX2_takeWord_0 10 rfl rfl)
theorem dX2_takeWord_13 : decode cX2_takeWord 13 = .ok (.athrow, 1) := dk_191 (dk_at dksX2_takeWord_0 13 rfl rfl)
theorem dX2_takeWord_14 : decode cX2_takeWord 14 = .ok (.return_, 1) := dk_177 (dk_at dksX2_takeWord_0 14 rfl rfl)
abbrev cX2_hasWord : ByteArray := prog_27_method_9_code
def yX2_hasWord : MethodName := ⟨RX2, "hasWord", "(Ljava/lang/String;)Z"⟩
def dkwX2_hasWord_0 : List UInt8 := [42, 43, 182, 0, 152, 61, 28, 153, 0, 13, 42, 89, 180, 0, 141, 4, 96, 181, 0, 141, 28, 172]
abbrev dktX2_hasWord_0 : List UInt8 := dkwX2_hasWord_0 ++ []
theorem dksX2_hasWord_0 : cX2_hasWord.data.toList.drop 0 = dktX2_hasWord_0 := by decide +kernel
theorem dX2_hasWord_0 : decode cX2_hasWord 0 = .ok (.aload_n 0, 1) := dk_42 (dk_at dksX2_hasWord_0 0 rfl rfl)
theorem dX2_hasWord_1 : decode cX2_hasWord 1 = .ok (.aload_n 1, 1) := dk_43 (dk_at dksX2_hasWord_0 1 rfl rfl)
theorem dX2_hasWord_2 : decode cX2_hasWord 2 = .ok (.invokevirtual 152, 3) := dk_182 0 152 (dk_at dksX2_hasWord_0 2 rfl rfl)
theorem dX2_hasWord_5 : decode cX2_hasWord 5 = .ok (.istore_n 2, 1) := dk_61 (dk_at dksX2_hasWord_0 5 rfl rfl)
theorem dX2_hasWord_6 : decode cX2_hasWord 6 = .ok (.iload_n 2, 1) := dk_28 (dk_at dksX2_hasWord_0 6 rfl rfl)
theorem dX2_hasWord_7 : decode cX2_hasWord 7 = .ok (.ifCond .eq 13, 3) := dk_153 0 13 (dk_at dksX2_hasWord_0 7 rfl rfl)
theorem dX2_hasWord_10 : decode cX2_hasWord 10 = .ok (.aload_n 0, 1) := dk_42 (dk_at dksX2_hasWord_0 10 rfl rfl)
theorem dX2_hasWord_11 : decode cX2_hasWord 11 = .ok (.dup, 1) := dk_89 (dk_at dksX2_hasWord_0 11 rfl rfl)
theorem dX2_hasWord_12 : decode cX2_hasWord 12 = .ok (.getfield 141, 3) := dk_180 0 141 (dk_at dksX2_hasWord_0 12 rfl rfl)
theorem dX2_hasWord_15 : decode cX2_hasWord 15 = .ok (.iconst 1, 1) := dk_4 (dk_at dksX2_hasWord_0 15 rfl rfl)
theorem dX2_hasWord_16 : decode cX2_hasWord 16 = .ok (.iadd, 1) := dk_96 (dk_at dksX2_hasWord_0 16 rfl rfl)
theorem dX2_hasWord_17 : decode cX2_hasWord 17 = .ok (.putfield 141, 3) := dk_181 0 141 (dk_at dksX2_hasWord_0 17 rfl rfl)
theorem dX2_hasWord_20 : decode cX2_hasWord 20 = .ok (.iload_n 2, 1) := dk_28 (dk_at dksX2_hasWord_0 20 rfl rfl)
theorem dX2_hasWord_21 : decode cX2_hasWord 21 = .ok (.ireturn, 1) := dk_172 (dk_at dksX2_hasWord_0 21 rfl rfl)
abbrev cX2_number_2 : ByteArray := prog_27_method_14_code
def yX2_number_2 : MethodName := ⟨RX2, "number", "(II)I"⟩
def dkwX2_number_2_3 : List UInt8 := [180, 0, 141, 4, 100, 47, 136, 172]
abbrev dktX2_number_2_3 : List UInt8 := dkwX2_number_2_3 ++ []
def dkwX2_number_2_2 : List UInt8 := [158, 0, 9, 42, 7, 182, 0, 162, 191, 42, 89, 180, 0, 141, 4, 96, 181, 0, 141, 42, 180, 0, 96, 42]
abbrev dktX2_number_2_2 : List UInt8 := dkwX2_number_2_2 ++ dktX2_number_2_3
def dkwX2_number_2_1 : List UInt8 := [180, 0, 141, 47, 27, 133, 148, 155, 0, 18, 42, 180, 0, 96, 42, 180, 0, 141, 47, 28, 133, 148]
abbrev dktX2_number_2_1 : List UInt8 := dkwX2_number_2_1 ++ dktX2_number_2_2
def dkwX2_number_2_0 : List UInt8 := [42, 180, 0, 93, 42, 180, 0, 141, 46, 5, 159, 0, 9, 42, 4, 182, 0, 162, 191, 42, 180, 0, 96, 42]
abbrev dktX2_number_2_0 : List UInt8 := dkwX2_number_2_0 ++ dktX2_number_2_1
theorem dksX2_number_2_0 : cX2_number_2.data.toList.drop 0 = dktX2_number_2_0 := by decide +kernel
theorem dksX2_number_2_1 : cX2_number_2.data.toList.drop 24 = dktX2_number_2_1 := dk_seg dksX2_number_2_0 24 rfl rfl
theorem dksX2_number_2_2 : cX2_number_2.data.toList.drop 46 = dktX2_number_2_2 := dk_seg dksX2_number_2_1 22 rfl rfl
theorem dksX2_number_2_3 : cX2_number_2.data.toList.drop 70 = dktX2_number_2_3 := dk_seg dksX2_number_2_2 24 rfl rfl
theorem dX2_number_2_0 : decode cX2_number_2 0 = .ok (.aload_n 0, 1) := dk_42 (dk_at dksX2_number_2_0 0 rfl rfl)
theorem dX2_number_2_1 : decode cX2_number_2 1 = .ok (.getfield 93, 3) := dk_180 0 93 (dk_at dksX2_number_2_0 1 rfl rfl)
theorem dX2_number_2_4 : decode cX2_number_2 4 = .ok (.aload_n 0, 1) := dk_42 (dk_at dksX2_number_2_0 4 rfl rfl)
theorem dX2_number_2_5 : decode cX2_number_2 5 = .ok (.getfield 141, 3) := dk_180 0 141 (dk_at dksX2_number_2_0 5 rfl rfl)
theorem dX2_number_2_8 : decode cX2_number_2 8 = .ok (.iaload, 1) := dk_46 (dk_at dksX2_number_2_0 8 rfl rfl)
theorem dX2_number_2_9 : decode cX2_number_2 9 = .ok (.iconst 2, 1) := dk_5 (dk_at dksX2_number_2_0 9 rfl rfl)
theorem dX2_number_2_10 : decode cX2_number_2 10 = .ok (.if_icmp .eq 9, 3) := dk_159 0 9 (dk_at dksX2_number_2_0 10 rfl rfl)
theorem dX2_number_2_13 : decode cX2_number_2 13 = .ok (.aload_n 0, 1) := dk_42 (dk_at dksX2_number_2_0 13 rfl rfl)
theorem dX2_number_2_14 : decode cX2_number_2 14 = .ok (.iconst 1, 1) := dk_4 (dk_at dksX2_number_2_0 14 rfl rfl)
theorem dX2_number_2_15 : decode cX2_number_2 15 = .ok (.invokevirtual 162, 3) := dk_182 0 162 (dk_at dksX2_number_2_0 15 rfl rfl)
theorem dX2_number_2_18 : decode cX2_number_2 18 = .ok (.athrow, 1) := dk_191 (dk_at dksX2_number_2_0 18 rfl rfl)
theorem dX2_number_2_19 : decode cX2_number_2 19 = .ok (.aload_n 0, 1) := dk_42 (dk_at dksX2_number_2_0 19 rfl rfl)
theorem dX2_number_2_20 : decode cX2_number_2 20 = .ok (.getfield 96, 3) := dk_180 0 96 (dk_at dksX2_number_2_0 20 rfl rfl)
theorem dX2_number_2_23 : decode cX2_number_2 23 = .ok (.aload_n 0, 1) := dk_42 (dk_at dksX2_number_2_0 23 rfl rfl)
theorem dX2_number_2_24 : decode cX2_number_2 24 = .ok (.getfield 141, 3) := dk_180 0 141 (dk_at dksX2_number_2_1 0 rfl rfl)
theorem dX2_number_2_27 : decode cX2_number_2 27 = .ok (.laload, 1) := dk_47 (dk_at dksX2_number_2_1 3 rfl rfl)
theorem dX2_number_2_28 : decode cX2_number_2 28 = .ok (.iload_n 1, 1) := dk_27 (dk_at dksX2_number_2_1 4 rfl rfl)
theorem dX2_number_2_29 : decode cX2_number_2 29 = .ok (.i2l, 1) := dk_133 (dk_at dksX2_number_2_1 5 rfl rfl)
theorem dX2_number_2_30 : decode cX2_number_2 30 = .ok (.lcmp, 1) := dk_148 (dk_at dksX2_number_2_1 6 rfl rfl)
theorem dX2_number_2_31 : decode cX2_number_2 31 = .ok (.ifCond .lt 18, 3) := dk_155 0 18 (dk_at dksX2_number_2_1 7 rfl rfl)
theorem dX2_number_2_34 : decode cX2_number_2 34 = .ok (.aload_n 0, 1) := dk_42 (dk_at dksX2_number_2_1 10 rfl rfl)
theorem dX2_number_2_35 : decode cX2_number_2 35 = .ok (.getfield 96, 3) := dk_180 0 96 (dk_at dksX2_number_2_1 11 rfl rfl)
theorem dX2_number_2_38 : decode cX2_number_2 38 = .ok (.aload_n 0, 1) := dk_42 (dk_at dksX2_number_2_1 14 rfl rfl)
theorem dX2_number_2_39 : decode cX2_number_2 39 = .ok (.getfield 141, 3) := dk_180 0 141 (dk_at dksX2_number_2_1 15 rfl rfl)
theorem dX2_number_2_42 : decode cX2_number_2 42 = .ok (.laload, 1) := dk_47 (dk_at dksX2_number_2_1 18 rfl rfl)
theorem dX2_number_2_43 : decode cX2_number_2 43 = .ok (.iload_n 2, 1) := dk_28 (dk_at dksX2_number_2_1 19 rfl rfl)
theorem dX2_number_2_44 : decode cX2_number_2 44 = .ok (.i2l, 1) := dk_133 (dk_at dksX2_number_2_1 20 rfl rfl)
theorem dX2_number_2_45 : decode cX2_number_2 45 = .ok (.lcmp, 1) := dk_148 (dk_at dksX2_number_2_1 21 rfl rfl)
theorem dX2_number_2_46 : decode cX2_number_2 46 = .ok (.ifCond .le 9, 3) := dk_158 0 9 (dk_at dksX2_number_2_2 0 rfl rfl)
theorem dX2_number_2_49 : decode cX2_number_2 49 = .ok (.aload_n 0, 1) := dk_42 (dk_at dksX2_number_2_2 3 rfl rfl)
theorem dX2_number_2_50 : decode cX2_number_2 50 = .ok (.iconst 4, 1) := dk_7 (dk_at dksX2_number_2_2 4 rfl rfl)
theorem dX2_number_2_51 : decode cX2_number_2 51 = .ok (.invokevirtual 162, 3) := dk_182 0 162 (dk_at dksX2_number_2_2 5 rfl rfl)
theorem dX2_number_2_54 : decode cX2_number_2 54 = .ok (.athrow, 1) := dk_191 (dk_at dksX2_number_2_2 8 rfl rfl)
theorem dX2_number_2_55 : decode cX2_number_2 55 = .ok (.aload_n 0, 1) := dk_42 (dk_at dksX2_number_2_2 9 rfl rfl)
theorem dX2_number_2_56 : decode cX2_number_2 56 = .ok (.dup, 1) := dk_89 (dk_at dksX2_number_2_2 10 rfl rfl)
theorem dX2_number_2_57 : decode cX2_number_2 57 = .ok (.getfield 141, 3) := dk_180 0 141 (dk_at dksX2_number_2_2 11 rfl rfl)
theorem dX2_number_2_60 : decode cX2_number_2 60 = .ok (.iconst 1, 1) := dk_4 (dk_at dksX2_number_2_2 14 rfl rfl)
theorem dX2_number_2_61 : decode cX2_number_2 61 = .ok (.iadd, 1) := dk_96 (dk_at dksX2_number_2_2 15 rfl rfl)
theorem dX2_number_2_62 : decode cX2_number_2 62 = .ok (.putfield 141, 3) := dk_181 0 141 (dk_at dksX2_number_2_2 16 rfl rfl)
theorem dX2_number_2_65 : decode cX2_number_2 65 = .ok (.aload_n 0, 1) := dk_42 (dk_at dksX2_number_2_2 19 rfl rfl)
theorem dX2_number_2_66 : decode cX2_number_2 66 = .ok (.getfield 96, 3) := dk_180 0 96 (dk_at dksX2_number_2_2 20 rfl rfl)
theorem dX2_number_2_69 : decode cX2_number_2 69 = .ok (.aload_n 0, 1) := dk_42 (dk_at dksX2_number_2_2 23 rfl rfl)
theorem dX2_number_2_70 : decode cX2_number_2 70 = .ok (.getfield 141, 3) := dk_180 0 141 (dk_at dksX2_number_2_3 0 rfl rfl)
theorem dX2_number_2_73 : decode cX2_number_2 73 = .ok (.iconst 1, 1) := dk_4 (dk_at dksX2_number_2_3 3 rfl rfl)
theorem dX2_number_2_74 : decode cX2_number_2 74 = .ok (.isub, 1) := dk_100 (dk_at dksX2_number_2_3 4 rfl rfl)
theorem dX2_number_2_75 : decode cX2_number_2 75 = .ok (.laload, 1) := dk_47 (dk_at dksX2_number_2_3 5 rfl rfl)
theorem dX2_number_2_76 : decode cX2_number_2 76 = .ok (.l2i, 1) := dk_136 (dk_at dksX2_number_2_3 6 rfl rfl)
theorem dX2_number_2_77 : decode cX2_number_2 77 = .ok (.ireturn, 1) := dk_172 (dk_at dksX2_number_2_3 7 rfl rfl)
abbrev cX2_twin : ByteArray := prog_27_method_24_code
def yX2_twin : MethodName := ⟨RX2, "twin", "()V"⟩
def dkwX2_twin_3 : List UInt8 := [180, 0, 176, 180, 0, 223, 28, 182, 1, 1, 192, 1, 5, 27, 181, 1, 7, 177]
abbrev dktX2_twin_3 : List UInt8 := dkwX2_twin_3 ++ []
def dkwX2_twin_2 : List UInt8 := [4, 96, 181, 0, 141, 42, 180, 0, 176, 180, 0, 223, 27, 182, 1, 1, 192, 1, 5, 28, 181, 1, 7, 42]
abbrev dktX2_twin_2 : List UInt8 := dkwX2_twin_2 ++ dktX2_twin_3
def dkwX2_twin_1 : List UInt8 := [181, 0, 141, 42, 182, 1, 9, 61, 27, 28, 160, 0, 9, 42, 6, 182, 0, 162, 191, 42, 89, 180, 0, 141]
abbrev dktX2_twin_1 : List UInt8 := dkwX2_twin_1 ++ dktX2_twin_2
def dkwX2_twin_0 : List UInt8 := [42, 89, 180, 0, 141, 4, 96, 181, 0, 141, 42, 182, 1, 9, 60, 42, 89, 180, 0, 141, 4, 96]
abbrev dktX2_twin_0 : List UInt8 := dkwX2_twin_0 ++ dktX2_twin_1
theorem dksX2_twin_0 : cX2_twin.data.toList.drop 0 = dktX2_twin_0 := by decide +kernel
theorem dksX2_twin_1 : cX2_twin.data.toList.drop 22 = dktX2_twin_1 := dk_seg dksX2_twin_0 22 rfl rfl
theorem dksX2_twin_2 : cX2_twin.data.toList.drop 46 = dktX2_twin_2 := dk_seg dksX2_twin_1 24 rfl rfl
theorem dksX2_twin_3 : cX2_twin.data.toList.drop 70 = dktX2_twin_3 := dk_seg dksX2_twin_2 24 rfl rfl
theorem dX2_twin_0 : decode cX2_twin 0 = .ok (.aload_n 0, 1) := dk_42 (dk_at dksX2_twin_0 0 rfl rfl)
theorem dX2_twin_1 : decode cX2_twin 1 = .ok (.dup, 1) := dk_89 (dk_at dksX2_twin_0 1 rfl rfl)
theorem dX2_twin_2 : decode cX2_twin 2 = .ok (.getfield 141, 3) := dk_180 0 141 (dk_at dksX2_twin_0 2 rfl rfl)
theorem dX2_twin_5 : decode cX2_twin 5 = .ok (.iconst 1, 1) := dk_4 (dk_at dksX2_twin_0 5 rfl rfl)
theorem dX2_twin_6 : decode cX2_twin 6 = .ok (.iadd, 1) := dk_96 (dk_at dksX2_twin_0 6 rfl rfl)
theorem dX2_twin_7 : decode cX2_twin 7 = .ok (.putfield 141, 3) := dk_181 0 141 (dk_at dksX2_twin_0 7 rfl rfl)
theorem dX2_twin_10 : decode cX2_twin 10 = .ok (.aload_n 0, 1) := dk_42 (dk_at dksX2_twin_0 10 rfl rfl)
theorem dX2_twin_11 : decode cX2_twin 11 = .ok (.invokevirtual 265, 3) := dk_182 1 9 (dk_at dksX2_twin_0 11 rfl rfl)
theorem dX2_twin_14 : decode cX2_twin 14 = .ok (.istore_n 1, 1) := dk_60 (dk_at dksX2_twin_0 14 rfl rfl)
theorem dX2_twin_15 : decode cX2_twin 15 = .ok (.aload_n 0, 1) := dk_42 (dk_at dksX2_twin_0 15 rfl rfl)
theorem dX2_twin_16 : decode cX2_twin 16 = .ok (.dup, 1) := dk_89 (dk_at dksX2_twin_0 16 rfl rfl)
theorem dX2_twin_17 : decode cX2_twin 17 = .ok (.getfield 141, 3) := dk_180 0 141 (dk_at dksX2_twin_0 17 rfl rfl)
theorem dX2_twin_20 : decode cX2_twin 20 = .ok (.iconst 1, 1) := dk_4 (dk_at dksX2_twin_0 20 rfl rfl)
theorem dX2_twin_21 : decode cX2_twin 21 = .ok (.iadd, 1) := dk_96 (dk_at dksX2_twin_0 21 rfl rfl)
theorem dX2_twin_22 : decode cX2_twin 22 = .ok (.putfield 141, 3) := dk_181 0 141 (dk_at dksX2_twin_1 0 rfl rfl)
theorem dX2_twin_25 : decode cX2_twin 25 = .ok (.aload_n 0, 1) := dk_42 (dk_at dksX2_twin_1 3 rfl rfl)
theorem dX2_twin_26 : decode cX2_twin 26 = .ok (.invokevirtual 265, 3) := dk_182 1 9 (dk_at dksX2_twin_1 4 rfl rfl)
theorem dX2_twin_29 : decode cX2_twin 29 = .ok (.istore_n 2, 1) := dk_61 (dk_at dksX2_twin_1 7 rfl rfl)
theorem dX2_twin_30 : decode cX2_twin 30 = .ok (.iload_n 1, 1) := dk_27 (dk_at dksX2_twin_1 8 rfl rfl)
theorem dX2_twin_31 : decode cX2_twin 31 = .ok (.iload_n 2, 1) := dk_28 (dk_at dksX2_twin_1 9 rfl rfl)
theorem dX2_twin_32 : decode cX2_twin 32 = .ok (.if_icmp .ne 9, 3) := dk_160 0 9 (dk_at dksX2_twin_1 10 rfl rfl)
theorem dX2_twin_35 : decode cX2_twin 35 = .ok (.aload_n 0, 1) := dk_42 (dk_at dksX2_twin_1 13 rfl rfl)
theorem dX2_twin_36 : decode cX2_twin 36 = .ok (.iconst 3, 1) := dk_6 (dk_at dksX2_twin_1 14 rfl rfl)
theorem dX2_twin_37 : decode cX2_twin 37 = .ok (.invokevirtual 162, 3) := dk_182 0 162 (dk_at dksX2_twin_1 15 rfl rfl)
theorem dX2_twin_40 : decode cX2_twin 40 = .ok (.athrow, 1) := dk_191 (dk_at dksX2_twin_1 18 rfl rfl)
theorem dX2_twin_41 : decode cX2_twin 41 = .ok (.aload_n 0, 1) := dk_42 (dk_at dksX2_twin_1 19 rfl rfl)
theorem dX2_twin_42 : decode cX2_twin 42 = .ok (.dup, 1) := dk_89 (dk_at dksX2_twin_1 20 rfl rfl)
theorem dX2_twin_43 : decode cX2_twin 43 = .ok (.getfield 141, 3) := dk_180 0 141 (dk_at dksX2_twin_1 21 rfl rfl)
theorem dX2_twin_46 : decode cX2_twin 46 = .ok (.iconst 1, 1) := dk_4 (dk_at dksX2_twin_2 0 rfl rfl)
theorem dX2_twin_47 : decode cX2_twin 47 = .ok (.iadd, 1) := dk_96 (dk_at dksX2_twin_2 1 rfl rfl)
theorem dX2_twin_48 : decode cX2_twin 48 = .ok (.putfield 141, 3) := dk_181 0 141 (dk_at dksX2_twin_2 2 rfl rfl)
theorem dX2_twin_51 : decode cX2_twin 51 = .ok (.aload_n 0, 1) := dk_42 (dk_at dksX2_twin_2 5 rfl rfl)
theorem dX2_twin_52 : decode cX2_twin 52 = .ok (.getfield 176, 3) := dk_180 0 176 (dk_at dksX2_twin_2 6 rfl rfl)
theorem dX2_twin_55 : decode cX2_twin 55 = .ok (.getfield 223, 3) := dk_180 0 223 (dk_at dksX2_twin_2 9 rfl rfl)
theorem dX2_twin_58 : decode cX2_twin 58 = .ok (.iload_n 1, 1) := dk_27 (dk_at dksX2_twin_2 12 rfl rfl)
theorem dX2_twin_59 : decode cX2_twin 59 = .ok (.invokevirtual 257, 3) := dk_182 1 1 (dk_at dksX2_twin_2 13 rfl rfl)
theorem dX2_twin_62 : decode cX2_twin 62 = .ok (.checkcast 261, 3) := dk_192 1 5 (dk_at dksX2_twin_2 16 rfl rfl)
theorem dX2_twin_65 : decode cX2_twin 65 = .ok (.iload_n 2, 1) := dk_28 (dk_at dksX2_twin_2 19 rfl rfl)
theorem dX2_twin_66 : decode cX2_twin 66 = .ok (.putfield 263, 3) := dk_181 1 7 (dk_at dksX2_twin_2 20 rfl rfl)
theorem dX2_twin_69 : decode cX2_twin 69 = .ok (.aload_n 0, 1) := dk_42 (dk_at dksX2_twin_2 23 rfl rfl)
theorem dX2_twin_70 : decode cX2_twin 70 = .ok (.getfield 176, 3) := dk_180 0 176 (dk_at dksX2_twin_3 0 rfl rfl)
theorem dX2_twin_73 : decode cX2_twin 73 = .ok (.getfield 223, 3) := dk_180 0 223 (dk_at dksX2_twin_3 3 rfl rfl)
theorem dX2_twin_76 : decode cX2_twin 76 = .ok (.iload_n 2, 1) := dk_28 (dk_at dksX2_twin_3 6 rfl rfl)
theorem dX2_twin_77 : decode cX2_twin 77 = .ok (.invokevirtual 257, 3) := dk_182 1 1 (dk_at dksX2_twin_3 7 rfl rfl)
theorem dX2_twin_80 : decode cX2_twin 80 = .ok (.checkcast 261, 3) := dk_192 1 5 (dk_at dksX2_twin_3 10 rfl rfl)
theorem dX2_twin_83 : decode cX2_twin 83 = .ok (.iload_n 1, 1) := dk_27 (dk_at dksX2_twin_3 13 rfl rfl)
theorem dX2_twin_84 : decode cX2_twin 84 = .ok (.putfield 263, 3) := dk_181 1 7 (dk_at dksX2_twin_3 14 rfl rfl)
theorem dX2_twin_87 : decode cX2_twin 87 = .ok (.return_, 1) := dk_177 (dk_at dksX2_twin_3 17 rfl rfl)
abbrev cX2_untwinned : ByteArray := prog_27_method_23_code
def yX2_untwinned : MethodName := ⟨RX2, "untwinned", "()I"⟩
def dkwX2_untwinned_1 : List UInt8 := [159, 0, 9, 42, 6, 182, 0, 162, 191, 27, 172]
abbrev dktX2_untwinned_1 : List UInt8 := dkwX2_untwinned_1 ++ []
def dkwX2_untwinned_0 : List UInt8 := [42, 182, 0, 254, 60, 42, 180, 0, 176, 180, 0, 223, 27, 182, 1, 1, 192, 1, 5, 180, 1, 7, 2]
abbrev dktX2_untwinned_0 : List UInt8 := dkwX2_untwinned_0 ++ dktX2_untwinned_1
theorem dksX2_untwinned_0 : cX2_untwinned.data.toList.drop 0 = dktX2_untwinned_0 := by decide +kernel
theorem dksX2_untwinned_1 : cX2_untwinned.data.toList.drop 23 = dktX2_untwinned_1 := dk_seg dksX2_untwinned_0 23 rfl rfl
theorem dX2_untwinned_0 : decode cX2_untwinned 0 = .ok (.aload_n 0, 1) := dk_42 (dk_at dksX2_untwinned_0 0 rfl rfl)
theorem dX2_untwinned_1 : decode cX2_untwinned 1 = .ok (.invokevirtual 254, 3) := dk_182 0 254 (dk_at dksX2_untwinned_0 1 rfl rfl)
theorem dX2_untwinned_4 : decode cX2_untwinned 4 = .ok (.istore_n 1, 1) := dk_60 (dk_at dksX2_untwinned_0 4 rfl rfl)
theorem dX2_untwinned_5 : decode cX2_untwinned 5 = .ok (.aload_n 0, 1) := dk_42 (dk_at dksX2_untwinned_0 5 rfl rfl)
theorem dX2_untwinned_6 : decode cX2_untwinned 6 = .ok (.getfield 176, 3) := dk_180 0 176 (dk_at dksX2_untwinned_0 6 rfl rfl)
theorem dX2_untwinned_9 : decode cX2_untwinned 9 = .ok (.getfield 223, 3) := dk_180 0 223 (dk_at dksX2_untwinned_0 9 rfl rfl)
theorem dX2_untwinned_12 : decode cX2_untwinned 12 = .ok (.iload_n 1, 1) := dk_27 (dk_at dksX2_untwinned_0 12 rfl rfl)
theorem dX2_untwinned_13 : decode cX2_untwinned 13 = .ok (.invokevirtual 257, 3) := dk_182 1 1 (dk_at dksX2_untwinned_0 13 rfl rfl)
theorem dX2_untwinned_16 : decode cX2_untwinned 16 = .ok (.checkcast 261, 3) := dk_192 1 5 (dk_at dksX2_untwinned_0 16 rfl rfl)
theorem dX2_untwinned_19 : decode cX2_untwinned 19 = .ok (.getfield 263, 3) := dk_180 1 7 (dk_at dksX2_untwinned_0 19 rfl rfl)
theorem dX2_untwinned_22 : decode cX2_untwinned 22 = .ok (.iconst (-1), 1) := dk_2 (dk_at dksX2_untwinned_0 22 rfl rfl)
theorem dX2_untwinned_23 : decode cX2_untwinned 23 = .ok (.if_icmp .eq 9, 3) := dk_159 0 9 (dk_at dksX2_untwinned_1 0 rfl rfl)
theorem dX2_untwinned_26 : decode cX2_untwinned 26 = .ok (.aload_n 0, 1) := dk_42 (dk_at dksX2_untwinned_1 3 rfl rfl)
theorem dX2_untwinned_27 : decode cX2_untwinned 27 = .ok (.iconst 3, 1) := dk_6 (dk_at dksX2_untwinned_1 4 rfl rfl)
theorem dX2_untwinned_28 : decode cX2_untwinned 28 = .ok (.invokevirtual 162, 3) := dk_182 0 162 (dk_at dksX2_untwinned_1 5 rfl rfl)
theorem dX2_untwinned_31 : decode cX2_untwinned 31 = .ok (.athrow, 1) := dk_191 (dk_at dksX2_untwinned_1 8 rfl rfl)
theorem dX2_untwinned_32 : decode cX2_untwinned 32 = .ok (.iload_n 1, 1) := dk_27 (dk_at dksX2_untwinned_1 9 rfl rfl)
theorem dX2_untwinned_33 : decode cX2_untwinned 33 = .ok (.ireturn, 1) := dk_172 (dk_at dksX2_untwinned_1 10 rfl rfl)
abbrev cX2_appleHere : ByteArray := prog_27_method_21_code
def yX2_appleHere : MethodName := ⟨RX2, "appleHere", "()I"⟩
def dkwX2_appleHere_3 : List UInt8 := [182, 0, 162, 191, 27, 172]
abbrev dktX2_appleHere_3 : List UInt8 := dkwX2_appleHere_3 ++ []
def dkwX2_appleHere_2 : List UInt8 := [180, 0, 96, 42, 180, 0, 141, 47, 182, 0, 212, 182, 0, 221, 60, 27, 2, 160, 0, 9, 42, 5]
abbrev dktX2_appleHere_2 : List UInt8 := dkwX2_appleHere_2 ++ dktX2_appleHere_3
def dkwX2_appleHere_1 : List UInt8 := [180, 0, 141, 47, 182, 0, 212, 2, 160, 0, 7, 2, 167, 0, 26, 42, 180, 0, 176, 42, 180, 0, 176, 42]
abbrev dktX2_appleHere_1 : List UInt8 := dkwX2_appleHere_1 ++ dktX2_appleHere_2
def dkwX2_appleHere_0 : List UInt8 := [42, 182, 0, 208, 154, 0, 9, 42, 4, 182, 0, 162, 191, 42, 180, 0, 176, 42, 180, 0, 96, 42]
abbrev dktX2_appleHere_0 : List UInt8 := dkwX2_appleHere_0 ++ dktX2_appleHere_1
theorem dksX2_appleHere_0 : cX2_appleHere.data.toList.drop 0 = dktX2_appleHere_0 := by decide +kernel
theorem dksX2_appleHere_1 : cX2_appleHere.data.toList.drop 22 = dktX2_appleHere_1 := dk_seg dksX2_appleHere_0 22 rfl rfl
theorem dksX2_appleHere_2 : cX2_appleHere.data.toList.drop 46 = dktX2_appleHere_2 := dk_seg dksX2_appleHere_1 24 rfl rfl
theorem dksX2_appleHere_3 : cX2_appleHere.data.toList.drop 68 = dktX2_appleHere_3 := dk_seg dksX2_appleHere_2 22 rfl rfl
theorem dX2_appleHere_0 : decode cX2_appleHere 0 = .ok (.aload_n 0, 1) := dk_42 (dk_at dksX2_appleHere_0 0 rfl rfl)
theorem dX2_appleHere_1 : decode cX2_appleHere 1 = .ok (.invokevirtual 208, 3) := dk_182 0 208 (dk_at dksX2_appleHere_0 1 rfl rfl)
theorem dX2_appleHere_4 : decode cX2_appleHere 4 = .ok (.ifCond .ne 9, 3) := dk_154 0 9 (dk_at dksX2_appleHere_0 4 rfl rfl)
theorem dX2_appleHere_7 : decode cX2_appleHere 7 = .ok (.aload_n 0, 1) := dk_42 (dk_at dksX2_appleHere_0 7 rfl rfl)
theorem dX2_appleHere_8 : decode cX2_appleHere 8 = .ok (.iconst 1, 1) := dk_4 (dk_at dksX2_appleHere_0 8 rfl rfl)
theorem dX2_appleHere_9 : decode cX2_appleHere 9 = .ok (.invokevirtual 162, 3) := dk_182 0 162 (dk_at dksX2_appleHere_0 9 rfl rfl)
theorem dX2_appleHere_12 : decode cX2_appleHere 12 = .ok (.athrow, 1) := dk_191 (dk_at dksX2_appleHere_0 12 rfl rfl)
theorem dX2_appleHere_13 : decode cX2_appleHere 13 = .ok (.aload_n 0, 1) := dk_42 (dk_at dksX2_appleHere_0 13 rfl rfl)
theorem dX2_appleHere_14 : decode cX2_appleHere 14 = .ok (.getfield 176, 3) := dk_180 0 176 (dk_at dksX2_appleHere_0 14 rfl rfl)
theorem dX2_appleHere_17 : decode cX2_appleHere 17 = .ok (.aload_n 0, 1) := dk_42 (dk_at dksX2_appleHere_0 17 rfl rfl)
theorem dX2_appleHere_18 : decode cX2_appleHere 18 = .ok (.getfield 96, 3) := dk_180 0 96 (dk_at dksX2_appleHere_0 18 rfl rfl)
theorem dX2_appleHere_21 : decode cX2_appleHere 21 = .ok (.aload_n 0, 1) := dk_42 (dk_at dksX2_appleHere_0 21 rfl rfl)
theorem dX2_appleHere_22 : decode cX2_appleHere 22 = .ok (.getfield 141, 3) := dk_180 0 141 (dk_at dksX2_appleHere_1 0 rfl rfl)
theorem dX2_appleHere_25 : decode cX2_appleHere 25 = .ok (.laload, 1) := dk_47 (dk_at dksX2_appleHere_1 3 rfl rfl)
theorem dX2_appleHere_26 : decode cX2_appleHere 26 = .ok (.invokevirtual 212, 3) := dk_182 0 212 (dk_at dksX2_appleHere_1 4 rfl rfl)
theorem dX2_appleHere_29 : decode cX2_appleHere 29 = .ok (.iconst (-1), 1) := dk_2 (dk_at dksX2_appleHere_1 7 rfl rfl)
theorem dX2_appleHere_30 : decode cX2_appleHere 30 = .ok (.if_icmp .ne 7, 3) := dk_160 0 7 (dk_at dksX2_appleHere_1 8 rfl rfl)
theorem dX2_appleHere_33 : decode cX2_appleHere 33 = .ok (.iconst (-1), 1) := dk_2 (dk_at dksX2_appleHere_1 11 rfl rfl)
theorem dX2_appleHere_34 : decode cX2_appleHere 34 = .ok (.goto 26, 3) := dk_167 0 26 (dk_at dksX2_appleHere_1 12 rfl rfl)
theorem dX2_appleHere_37 : decode cX2_appleHere 37 = .ok (.aload_n 0, 1) := dk_42 (dk_at dksX2_appleHere_1 15 rfl rfl)
theorem dX2_appleHere_38 : decode cX2_appleHere 38 = .ok (.getfield 176, 3) := dk_180 0 176 (dk_at dksX2_appleHere_1 16 rfl rfl)
theorem dX2_appleHere_41 : decode cX2_appleHere 41 = .ok (.aload_n 0, 1) := dk_42 (dk_at dksX2_appleHere_1 19 rfl rfl)
theorem dX2_appleHere_42 : decode cX2_appleHere 42 = .ok (.getfield 176, 3) := dk_180 0 176 (dk_at dksX2_appleHere_1 20 rfl rfl)
theorem dX2_appleHere_45 : decode cX2_appleHere 45 = .ok (.aload_n 0, 1) := dk_42 (dk_at dksX2_appleHere_1 23 rfl rfl)
theorem dX2_appleHere_46 : decode cX2_appleHere 46 = .ok (.getfield 96, 3) := dk_180 0 96 (dk_at dksX2_appleHere_2 0 rfl rfl)
theorem dX2_appleHere_49 : decode cX2_appleHere 49 = .ok (.aload_n 0, 1) := dk_42 (dk_at dksX2_appleHere_2 3 rfl rfl)
theorem dX2_appleHere_50 : decode cX2_appleHere 50 = .ok (.getfield 141, 3) := dk_180 0 141 (dk_at dksX2_appleHere_2 4 rfl rfl)
theorem dX2_appleHere_53 : decode cX2_appleHere 53 = .ok (.laload, 1) := dk_47 (dk_at dksX2_appleHere_2 7 rfl rfl)
theorem dX2_appleHere_54 : decode cX2_appleHere 54 = .ok (.invokevirtual 212, 3) := dk_182 0 212 (dk_at dksX2_appleHere_2 8 rfl rfl)
theorem dX2_appleHere_57 : decode cX2_appleHere 57 = .ok (.invokevirtual 221, 3) := dk_182 0 221 (dk_at dksX2_appleHere_2 11 rfl rfl)
theorem dX2_appleHere_60 : decode cX2_appleHere 60 = .ok (.istore_n 1, 1) := dk_60 (dk_at dksX2_appleHere_2 14 rfl rfl)
theorem dX2_appleHere_61 : decode cX2_appleHere 61 = .ok (.iload_n 1, 1) := dk_27 (dk_at dksX2_appleHere_2 15 rfl rfl)
theorem dX2_appleHere_62 : decode cX2_appleHere 62 = .ok (.iconst (-1), 1) := dk_2 (dk_at dksX2_appleHere_2 16 rfl rfl)
theorem dX2_appleHere_63 : decode cX2_appleHere 63 = .ok (.if_icmp .ne 9, 3) := dk_160 0 9 (dk_at dksX2_appleHere_2 17 rfl rfl)
theorem dX2_appleHere_66 : decode cX2_appleHere 66 = .ok (.aload_n 0, 1) := dk_42 (dk_at dksX2_appleHere_2 20 rfl rfl)
theorem dX2_appleHere_67 : decode cX2_appleHere 67 = .ok (.iconst 2, 1) := dk_5 (dk_at dksX2_appleHere_2 21 rfl rfl)
theorem dX2_appleHere_68 : decode cX2_appleHere 68 = .ok (.invokevirtual 162, 3) := dk_182 0 162 (dk_at dksX2_appleHere_3 0 rfl rfl)
theorem dX2_appleHere_71 : decode cX2_appleHere 71 = .ok (.athrow, 1) := dk_191 (dk_at dksX2_appleHere_3 3 rfl rfl)
theorem dX2_appleHere_72 : decode cX2_appleHere 72 = .ok (.iload_n 1, 1) := dk_27 (dk_at dksX2_appleHere_3 4 rfl rfl)
theorem dX2_appleHere_73 : decode cX2_appleHere 73 = .ok (.ireturn, 1) := dk_172 (dk_at dksX2_appleHere_3 5 rfl rfl)
abbrev cX2_other : ByteArray := prog_27_method_25_code
def yX2_other : MethodName := ⟨RX2, "other", "()V"⟩
def dkwX2_other_2 : List UInt8 := [96, 181, 1, 12, 177]
abbrev dktX2_other_2 : List UInt8 := dkwX2_other_2 ++ []
def dkwX2_other_1 : List UInt8 := [4, 167, 0, 4, 3, 182, 0, 231, 183, 0, 251, 182, 0, 245, 87, 42, 180, 0, 176, 89, 180, 1, 12, 4]
abbrev dktX2_other_1 : List UInt8 := dkwX2_other_1 ++ dktX2_other_2
def dkwX2_other_0 : List UInt8 := [42, 180, 0, 176, 180, 0, 238, 187, 0, 249, 89, 42, 42, 180, 0, 176, 180, 1, 12, 16, 6, 160, 0, 7]
abbrev dktX2_other_0 : List UInt8 := dkwX2_other_0 ++ dktX2_other_1
theorem dksX2_other_0 : cX2_other.data.toList.drop 0 = dktX2_other_0 := by decide +kernel
theorem dksX2_other_1 : cX2_other.data.toList.drop 24 = dktX2_other_1 := dk_seg dksX2_other_0 24 rfl rfl
theorem dksX2_other_2 : cX2_other.data.toList.drop 48 = dktX2_other_2 := dk_seg dksX2_other_1 24 rfl rfl
theorem dX2_other_0 : decode cX2_other 0 = .ok (.aload_n 0, 1) := dk_42 (dk_at dksX2_other_0 0 rfl rfl)
theorem dX2_other_1 : decode cX2_other 1 = .ok (.getfield 176, 3) := dk_180 0 176 (dk_at dksX2_other_0 1 rfl rfl)
theorem dX2_other_4 : decode cX2_other 4 = .ok (.getfield 238, 3) := dk_180 0 238 (dk_at dksX2_other_0 4 rfl rfl)
theorem dX2_other_7 : decode cX2_other 7 = .ok (.new 249, 3) := dk_187 0 249 (dk_at dksX2_other_0 7 rfl rfl)
theorem dX2_other_10 : decode cX2_other 10 = .ok (.dup, 1) := dk_89 (dk_at dksX2_other_0 10 rfl rfl)
theorem dX2_other_11 : decode cX2_other 11 = .ok (.aload_n 0, 1) := dk_42 (dk_at dksX2_other_0 11 rfl rfl)
theorem dX2_other_12 : decode cX2_other 12 = .ok (.aload_n 0, 1) := dk_42 (dk_at dksX2_other_0 12 rfl rfl)
theorem dX2_other_13 : decode cX2_other 13 = .ok (.getfield 176, 3) := dk_180 0 176 (dk_at dksX2_other_0 13 rfl rfl)
theorem dX2_other_16 : decode cX2_other 16 = .ok (.getfield 268, 3) := dk_180 1 12 (dk_at dksX2_other_0 16 rfl rfl)
theorem dX2_other_19 : decode cX2_other 19 = .ok (.bipush 6, 2) := dk_16 6 (dk_at dksX2_other_0 19 rfl rfl)
theorem dX2_other_21 : decode cX2_other 21 = .ok (.if_icmp .ne 7, 3) := dk_160 0 7 (dk_at dksX2_other_0 21 rfl rfl)
theorem dX2_other_24 : decode cX2_other 24 = .ok (.iconst 1, 1) := dk_4 (dk_at dksX2_other_1 0 rfl rfl)
theorem dX2_other_25 : decode cX2_other 25 = .ok (.goto 4, 3) := dk_167 0 4 (dk_at dksX2_other_1 1 rfl rfl)
theorem dX2_other_28 : decode cX2_other 28 = .ok (.iconst 0, 1) := dk_3 (dk_at dksX2_other_1 4 rfl rfl)
theorem dX2_other_29 : decode cX2_other 29 = .ok (.invokevirtual 231, 3) := dk_182 0 231 (dk_at dksX2_other_1 5 rfl rfl)
theorem dX2_other_32 : decode cX2_other 32 = .ok (.invokespecial 251, 3) := dk_183 0 251 (dk_at dksX2_other_1 8 rfl rfl)
theorem dX2_other_35 : decode cX2_other 35 = .ok (.invokevirtual 245, 3) := dk_182 0 245 (dk_at dksX2_other_1 11 rfl rfl)
theorem dX2_other_38 : decode cX2_other 38 = .ok (.pop, 1) := dk_87 (dk_at dksX2_other_1 14 rfl rfl)
theorem dX2_other_39 : decode cX2_other 39 = .ok (.aload_n 0, 1) := dk_42 (dk_at dksX2_other_1 15 rfl rfl)
theorem dX2_other_40 : decode cX2_other 40 = .ok (.getfield 176, 3) := dk_180 0 176 (dk_at dksX2_other_1 16 rfl rfl)
theorem dX2_other_43 : decode cX2_other 43 = .ok (.dup, 1) := dk_89 (dk_at dksX2_other_1 19 rfl rfl)
theorem dX2_other_44 : decode cX2_other 44 = .ok (.getfield 268, 3) := dk_180 1 12 (dk_at dksX2_other_1 20 rfl rfl)
theorem dX2_other_47 : decode cX2_other 47 = .ok (.iconst 1, 1) := dk_4 (dk_at dksX2_other_1 23 rfl rfl)
theorem dX2_other_48 : decode cX2_other 48 = .ok (.iadd, 1) := dk_96 (dk_at dksX2_other_2 0 rfl rfl)
theorem dX2_other_49 : decode cX2_other 49 = .ok (.putfield 268, 3) := dk_181 1 12 (dk_at dksX2_other_2 1 rfl rfl)
theorem dX2_other_52 : decode cX2_other 52 = .ok (.return_, 1) := dk_177 (dk_at dksX2_other_2 4 rfl rfl)
abbrev cX2_person : ByteArray := prog_27_method_26_code
def yX2_person : MethodName := ⟨RX2, "person", "()V"⟩
def dkwX2_person_5 : List UInt8 := [177]
abbrev dktX2_person_5 : List UInt8 := dkwX2_person_5 ++ []
def dkwX2_person_4 : List UInt8 := [21, 5, 183, 1, 29, 182, 0, 245, 87, 42, 180, 0, 176, 180, 1, 32, 31, 184, 1, 35, 182, 0, 245, 87]
abbrev dktX2_person_4 : List UInt8 := dkwX2_person_4 ++ dktX2_person_5
def dkwX2_person_3 : List UInt8 := [182, 1, 24, 167, 0, 4, 2, 54, 5, 42, 180, 0, 176, 180, 1, 15, 187, 1, 27, 89, 29, 21, 4]
abbrev dktX2_person_3 : List UInt8 := dkwX2_person_3 ++ dktX2_person_4
def dkwX2_person_2 : List UInt8 := [182, 1, 18, 153, 0, 26, 42, 180, 0, 176, 180, 0, 238, 42, 182, 1, 21, 182, 1, 1, 192, 0, 249]
abbrev dktX2_person_2 : List UInt8 := dkwX2_person_2 ++ dktX2_person_3
def dkwX2_person_1 : List UInt8 := [42, 18, 57, 3, 16, 11, 182, 0, 235, 62, 42, 18, 59, 3, 16, 6, 182, 0, 235, 54, 4, 42, 18, 77]
abbrev dktX2_person_1 : List UInt8 := dkwX2_person_1 ++ dktX2_person_2
def dkwX2_person_0 : List UInt8 := [42, 42, 180, 0, 176, 180, 1, 15, 182, 0, 227, 8, 160, 0, 7, 4, 167, 0, 4, 3, 182, 0, 231, 64]
abbrev dktX2_person_0 : List UInt8 := dkwX2_person_0 ++ dktX2_person_1
theorem dksX2_person_0 : cX2_person.data.toList.drop 0 = dktX2_person_0 := by decide +kernel
theorem dksX2_person_1 : cX2_person.data.toList.drop 24 = dktX2_person_1 := dk_seg dksX2_person_0 24 rfl rfl
theorem dksX2_person_2 : cX2_person.data.toList.drop 48 = dktX2_person_2 := dk_seg dksX2_person_1 24 rfl rfl
theorem dksX2_person_3 : cX2_person.data.toList.drop 71 = dktX2_person_3 := dk_seg dksX2_person_2 23 rfl rfl
theorem dksX2_person_4 : cX2_person.data.toList.drop 94 = dktX2_person_4 := dk_seg dksX2_person_3 23 rfl rfl
theorem dksX2_person_5 : cX2_person.data.toList.drop 118 = dktX2_person_5 := dk_seg dksX2_person_4 24 rfl rfl
theorem dX2_person_0 : decode cX2_person 0 = .ok (.aload_n 0, 1) := dk_42 (dk_at dksX2_person_0 0 rfl rfl)
theorem dX2_person_1 : decode cX2_person 1 = .ok (.aload_n 0, 1) := dk_42 (dk_at dksX2_person_0 1 rfl rfl)
theorem dX2_person_2 : decode cX2_person 2 = .ok (.getfield 176, 3) := dk_180 0 176 (dk_at dksX2_person_0 2 rfl rfl)
theorem dX2_person_5 : decode cX2_person 5 = .ok (.getfield 271, 3) := dk_180 1 15 (dk_at dksX2_person_0 5 rfl rfl)
theorem dX2_person_8 : decode cX2_person 8 = .ok (.invokevirtual 227, 3) := dk_182 0 227 (dk_at dksX2_person_0 8 rfl rfl)
theorem dX2_person_11 : decode cX2_person 11 = .ok (.iconst 5, 1) := dk_8 (dk_at dksX2_person_0 11 rfl rfl)
theorem dX2_person_12 : decode cX2_person 12 = .ok (.if_icmp .ne 7, 3) := dk_160 0 7 (dk_at dksX2_person_0 12 rfl rfl)
theorem dX2_person_15 : decode cX2_person 15 = .ok (.iconst 1, 1) := dk_4 (dk_at dksX2_person_0 15 rfl rfl)
theorem dX2_person_16 : decode cX2_person 16 = .ok (.goto 4, 3) := dk_167 0 4 (dk_at dksX2_person_0 16 rfl rfl)
theorem dX2_person_19 : decode cX2_person 19 = .ok (.iconst 0, 1) := dk_3 (dk_at dksX2_person_0 19 rfl rfl)
theorem dX2_person_20 : decode cX2_person 20 = .ok (.invokevirtual 231, 3) := dk_182 0 231 (dk_at dksX2_person_0 20 rfl rfl)
theorem dX2_person_23 : decode cX2_person 23 = .ok (.lstore_n 1, 1) := dk_64 (dk_at dksX2_person_0 23 rfl rfl)
theorem dX2_person_24 : decode cX2_person 24 = .ok (.aload_n 0, 1) := dk_42 (dk_at dksX2_person_1 0 rfl rfl)
theorem dX2_person_25 : decode cX2_person 25 = .ok (.ldc 57, 2) := dk_18 57 (dk_at dksX2_person_1 1 rfl rfl)
theorem dX2_person_27 : decode cX2_person 27 = .ok (.iconst 0, 1) := dk_3 (dk_at dksX2_person_1 3 rfl rfl)
theorem dX2_person_28 : decode cX2_person 28 = .ok (.bipush 11, 2) := dk_16 11 (dk_at dksX2_person_1 4 rfl rfl)
theorem dX2_person_30 : decode cX2_person 30 = .ok (.invokevirtual 235, 3) := dk_182 0 235 (dk_at dksX2_person_1 6 rfl rfl)
theorem dX2_person_33 : decode cX2_person 33 = .ok (.istore_n 3, 1) := dk_62 (dk_at dksX2_person_1 9 rfl rfl)
theorem dX2_person_34 : decode cX2_person 34 = .ok (.aload_n 0, 1) := dk_42 (dk_at dksX2_person_1 10 rfl rfl)
theorem dX2_person_35 : decode cX2_person 35 = .ok (.ldc 59, 2) := dk_18 59 (dk_at dksX2_person_1 11 rfl rfl)
theorem dX2_person_37 : decode cX2_person 37 = .ok (.iconst 0, 1) := dk_3 (dk_at dksX2_person_1 13 rfl rfl)
theorem dX2_person_38 : decode cX2_person 38 = .ok (.bipush 6, 2) := dk_16 6 (dk_at dksX2_person_1 14 rfl rfl)
theorem dX2_person_40 : decode cX2_person 40 = .ok (.invokevirtual 235, 3) := dk_182 0 235 (dk_at dksX2_person_1 16 rfl rfl)
theorem dX2_person_43 : decode cX2_person 43 = .ok (.istore 4, 2) := dk_54 4 (dk_at dksX2_person_1 19 rfl rfl)
theorem dX2_person_45 : decode cX2_person 45 = .ok (.aload_n 0, 1) := dk_42 (dk_at dksX2_person_1 21 rfl rfl)
theorem dX2_person_46 : decode cX2_person 46 = .ok (.ldc 77, 2) := dk_18 77 (dk_at dksX2_person_1 22 rfl rfl)
theorem dX2_person_48 : decode cX2_person 48 = .ok (.invokevirtual 274, 3) := dk_182 1 18 (dk_at dksX2_person_2 0 rfl rfl)
theorem dX2_person_51 : decode cX2_person 51 = .ok (.ifCond .eq 26, 3) := dk_153 0 26 (dk_at dksX2_person_2 3 rfl rfl)
theorem dX2_person_54 : decode cX2_person 54 = .ok (.aload_n 0, 1) := dk_42 (dk_at dksX2_person_2 6 rfl rfl)
theorem dX2_person_55 : decode cX2_person 55 = .ok (.getfield 176, 3) := dk_180 0 176 (dk_at dksX2_person_2 7 rfl rfl)
theorem dX2_person_58 : decode cX2_person 58 = .ok (.getfield 238, 3) := dk_180 0 238 (dk_at dksX2_person_2 10 rfl rfl)
theorem dX2_person_61 : decode cX2_person 61 = .ok (.aload_n 0, 1) := dk_42 (dk_at dksX2_person_2 13 rfl rfl)
theorem dX2_person_62 : decode cX2_person 62 = .ok (.invokevirtual 277, 3) := dk_182 1 21 (dk_at dksX2_person_2 14 rfl rfl)
theorem dX2_person_65 : decode cX2_person 65 = .ok (.invokevirtual 257, 3) := dk_182 1 1 (dk_at dksX2_person_2 17 rfl rfl)
theorem dX2_person_68 : decode cX2_person 68 = .ok (.checkcast 249, 3) := dk_192 0 249 (dk_at dksX2_person_2 20 rfl rfl)
theorem dX2_person_71 : decode cX2_person 71 = .ok (.invokevirtual 280, 3) := dk_182 1 24 (dk_at dksX2_person_3 0 rfl rfl)
theorem dX2_person_74 : decode cX2_person 74 = .ok (.goto 4, 3) := dk_167 0 4 (dk_at dksX2_person_3 3 rfl rfl)
theorem dX2_person_77 : decode cX2_person 77 = .ok (.iconst (-1), 1) := dk_2 (dk_at dksX2_person_3 6 rfl rfl)
theorem dX2_person_78 : decode cX2_person 78 = .ok (.istore 5, 2) := dk_54 5 (dk_at dksX2_person_3 7 rfl rfl)
theorem dX2_person_80 : decode cX2_person 80 = .ok (.aload_n 0, 1) := dk_42 (dk_at dksX2_person_3 9 rfl rfl)
theorem dX2_person_81 : decode cX2_person 81 = .ok (.getfield 176, 3) := dk_180 0 176 (dk_at dksX2_person_3 10 rfl rfl)
theorem dX2_person_84 : decode cX2_person 84 = .ok (.getfield 271, 3) := dk_180 1 15 (dk_at dksX2_person_3 13 rfl rfl)
theorem dX2_person_87 : decode cX2_person 87 = .ok (.new 283, 3) := dk_187 1 27 (dk_at dksX2_person_3 16 rfl rfl)
theorem dX2_person_90 : decode cX2_person 90 = .ok (.dup, 1) := dk_89 (dk_at dksX2_person_3 19 rfl rfl)
theorem dX2_person_91 : decode cX2_person 91 = .ok (.iload_n 3, 1) := dk_29 (dk_at dksX2_person_3 20 rfl rfl)
theorem dX2_person_92 : decode cX2_person 92 = .ok (.iload 4, 2) := dk_21 4 (dk_at dksX2_person_3 21 rfl rfl)
theorem dX2_person_94 : decode cX2_person 94 = .ok (.iload 5, 2) := dk_21 5 (dk_at dksX2_person_4 0 rfl rfl)
theorem dX2_person_96 : decode cX2_person 96 = .ok (.invokespecial 285, 3) := dk_183 1 29 (dk_at dksX2_person_4 2 rfl rfl)
theorem dX2_person_99 : decode cX2_person 99 = .ok (.invokevirtual 245, 3) := dk_182 0 245 (dk_at dksX2_person_4 5 rfl rfl)
theorem dX2_person_102 : decode cX2_person 102 = .ok (.pop, 1) := dk_87 (dk_at dksX2_person_4 8 rfl rfl)
theorem dX2_person_103 : decode cX2_person 103 = .ok (.aload_n 0, 1) := dk_42 (dk_at dksX2_person_4 9 rfl rfl)
theorem dX2_person_104 : decode cX2_person 104 = .ok (.getfield 176, 3) := dk_180 0 176 (dk_at dksX2_person_4 10 rfl rfl)
theorem dX2_person_107 : decode cX2_person 107 = .ok (.getfield 288, 3) := dk_180 1 32 (dk_at dksX2_person_4 13 rfl rfl)
theorem dX2_person_110 : decode cX2_person 110 = .ok (.lload_n 1, 1) := dk_31 (dk_at dksX2_person_4 16 rfl rfl)
theorem dX2_person_111 : decode cX2_person 111 = .ok (.invokestatic 291, 3) := dk_184 1 35 (dk_at dksX2_person_4 17 rfl rfl)
theorem dX2_person_114 : decode cX2_person 114 = .ok (.invokevirtual 245, 3) := dk_182 0 245 (dk_at dksX2_person_4 20 rfl rfl)
theorem dX2_person_117 : decode cX2_person 117 = .ok (.pop, 1) := dk_87 (dk_at dksX2_person_4 23 rfl rfl)
theorem dX2_person_118 : decode cX2_person 118 = .ok (.return_, 1) := dk_177 (dk_at dksX2_person_5 0 rfl rfl)
abbrev cX2_takeSound : ByteArray := prog_27_method_20_code
def yX2_takeSound : MethodName := ⟨RX2, "takeSound", "()I"⟩
def dkwX2_takeSound_0 : List UInt8 := [42, 182, 0, 218, 60, 42, 89, 180, 0, 141, 4, 96, 181, 0, 141, 27, 172]
abbrev dktX2_takeSound_0 : List UInt8 := dkwX2_takeSound_0 ++ []
theorem dksX2_takeSound_0 : cX2_takeSound.data.toList.drop 0 = dktX2_takeSound_0 := by decide +kernel
theorem dX2_takeSound_0 : decode cX2_takeSound 0 = .ok (.aload_n 0, 1) := dk_42 (dk_at dksX2_takeSound_0 0 rfl rfl)
theorem dX2_takeSound_1 : decode cX2_takeSound 1 = .ok (.invokevirtual 218, 3) := dk_182 0 218 (dk_at dksX2_takeSound_0 1 rfl rfl)
theorem dX2_takeSound_4 : decode cX2_takeSound 4 = .ok (.istore_n 1, 1) := dk_60 (dk_at dksX2_takeSound_0 4 rfl rfl)
theorem dX2_takeSound_5 : decode cX2_takeSound 5 = .ok (.aload_n 0, 1) := dk_42 (dk_at dksX2_takeSound_0 5 rfl rfl)
theorem dX2_takeSound_6 : decode cX2_takeSound 6 = .ok (.dup, 1) := dk_89 (dk_at dksX2_takeSound_0 6 rfl rfl)
theorem dX2_takeSound_7 : decode cX2_takeSound 7 = .ok (.getfield 141, 3) := dk_180 0 141 (dk_at dksX2_takeSound_0 7 rfl rfl)
theorem dX2_takeSound_10 : decode cX2_takeSound 10 = .ok (.iconst 1, 1) := dk_4 (dk_at dksX2_takeSound_0 10 rfl rfl)
theorem dX2_takeSound_11 : decode cX2_takeSound 11 = .ok (.iadd, 1) := dk_96 (dk_at dksX2_takeSound_0 11 rfl rfl)
theorem dX2_takeSound_12 : decode cX2_takeSound 12 = .ok (.putfield 141, 3) := dk_181 0 141 (dk_at dksX2_takeSound_0 12 rfl rfl)
theorem dX2_takeSound_15 : decode cX2_takeSound 15 = .ok (.iload_n 1, 1) := dk_27 (dk_at dksX2_takeSound_0 15 rfl rfl)
theorem dX2_takeSound_16 : decode cX2_takeSound 16 = .ok (.ireturn, 1) := dk_172 (dk_at dksX2_takeSound_0 16 rfl rfl)
abbrev cX2_soundHere : ByteArray := prog_27_method_19_code
def yX2_soundHere : MethodName := ⟨RX2, "soundHere", "()I"⟩
def dkwX2_soundHere_1 : List UInt8 := [180, 0, 141, 47, 182, 0, 212, 60, 27, 2, 160, 0, 9, 42, 5, 182, 0, 162, 191, 27, 172]
abbrev dktX2_soundHere_1 : List UInt8 := dkwX2_soundHere_1 ++ []
def dkwX2_soundHere_0 : List UInt8 := [42, 182, 0, 208, 154, 0, 9, 42, 4, 182, 0, 162, 191, 42, 180, 0, 176, 42, 180, 0, 96, 42]
abbrev dktX2_soundHere_0 : List UInt8 := dkwX2_soundHere_0 ++ dktX2_soundHere_1
theorem dksX2_soundHere_0 : cX2_soundHere.data.toList.drop 0 = dktX2_soundHere_0 := by decide +kernel
theorem dksX2_soundHere_1 : cX2_soundHere.data.toList.drop 22 = dktX2_soundHere_1 := dk_seg dksX2_soundHere_0 22 rfl rfl
theorem dX2_soundHere_0 : decode cX2_soundHere 0 = .ok (.aload_n 0, 1) := dk_42 (dk_at dksX2_soundHere_0 0 rfl rfl)
theorem dX2_soundHere_1 : decode cX2_soundHere 1 = .ok (.invokevirtual 208, 3) := dk_182 0 208 (dk_at dksX2_soundHere_0 1 rfl rfl)
theorem dX2_soundHere_4 : decode cX2_soundHere 4 = .ok (.ifCond .ne 9, 3) := dk_154 0 9 (dk_at dksX2_soundHere_0 4 rfl rfl)
theorem dX2_soundHere_7 : decode cX2_soundHere 7 = .ok (.aload_n 0, 1) := dk_42 (dk_at dksX2_soundHere_0 7 rfl rfl)
theorem dX2_soundHere_8 : decode cX2_soundHere 8 = .ok (.iconst 1, 1) := dk_4 (dk_at dksX2_soundHere_0 8 rfl rfl)
theorem dX2_soundHere_9 : decode cX2_soundHere 9 = .ok (.invokevirtual 162, 3) := dk_182 0 162 (dk_at dksX2_soundHere_0 9 rfl rfl)
theorem dX2_soundHere_12 : decode cX2_soundHere 12 = .ok (.athrow, 1) := dk_191 (dk_at dksX2_soundHere_0 12 rfl rfl)
theorem dX2_soundHere_13 : decode cX2_soundHere 13 = .ok (.aload_n 0, 1) := dk_42 (dk_at dksX2_soundHere_0 13 rfl rfl)
theorem dX2_soundHere_14 : decode cX2_soundHere 14 = .ok (.getfield 176, 3) := dk_180 0 176 (dk_at dksX2_soundHere_0 14 rfl rfl)
theorem dX2_soundHere_17 : decode cX2_soundHere 17 = .ok (.aload_n 0, 1) := dk_42 (dk_at dksX2_soundHere_0 17 rfl rfl)
theorem dX2_soundHere_18 : decode cX2_soundHere 18 = .ok (.getfield 96, 3) := dk_180 0 96 (dk_at dksX2_soundHere_0 18 rfl rfl)
theorem dX2_soundHere_21 : decode cX2_soundHere 21 = .ok (.aload_n 0, 1) := dk_42 (dk_at dksX2_soundHere_0 21 rfl rfl)
theorem dX2_soundHere_22 : decode cX2_soundHere 22 = .ok (.getfield 141, 3) := dk_180 0 141 (dk_at dksX2_soundHere_1 0 rfl rfl)
theorem dX2_soundHere_25 : decode cX2_soundHere 25 = .ok (.laload, 1) := dk_47 (dk_at dksX2_soundHere_1 3 rfl rfl)
theorem dX2_soundHere_26 : decode cX2_soundHere 26 = .ok (.invokevirtual 212, 3) := dk_182 0 212 (dk_at dksX2_soundHere_1 4 rfl rfl)
theorem dX2_soundHere_29 : decode cX2_soundHere 29 = .ok (.istore_n 1, 1) := dk_60 (dk_at dksX2_soundHere_1 7 rfl rfl)
theorem dX2_soundHere_30 : decode cX2_soundHere 30 = .ok (.iload_n 1, 1) := dk_27 (dk_at dksX2_soundHere_1 8 rfl rfl)
theorem dX2_soundHere_31 : decode cX2_soundHere 31 = .ok (.iconst (-1), 1) := dk_2 (dk_at dksX2_soundHere_1 9 rfl rfl)
theorem dX2_soundHere_32 : decode cX2_soundHere 32 = .ok (.if_icmp .ne 9, 3) := dk_160 0 9 (dk_at dksX2_soundHere_1 10 rfl rfl)
theorem dX2_soundHere_35 : decode cX2_soundHere 35 = .ok (.aload_n 0, 1) := dk_42 (dk_at dksX2_soundHere_1 13 rfl rfl)
theorem dX2_soundHere_36 : decode cX2_soundHere 36 = .ok (.iconst 2, 1) := dk_5 (dk_at dksX2_soundHere_1 14 rfl rfl)
theorem dX2_soundHere_37 : decode cX2_soundHere 37 = .ok (.invokevirtual 162, 3) := dk_182 0 162 (dk_at dksX2_soundHere_1 15 rfl rfl)
theorem dX2_soundHere_40 : decode cX2_soundHere 40 = .ok (.athrow, 1) := dk_191 (dk_at dksX2_soundHere_1 18 rfl rfl)
theorem dX2_soundHere_41 : decode cX2_soundHere 41 = .ok (.iload_n 1, 1) := dk_27 (dk_at dksX2_soundHere_1 19 rfl rfl)
theorem dX2_soundHere_42 : decode cX2_soundHere 42 = .ok (.ireturn, 1) := dk_172 (dk_at dksX2_soundHere_1 20 rfl rfl)
abbrev cX2_stranger : ByteArray := prog_27_method_27_code
def yX2_stranger : MethodName := ⟨RX2, "stranger", "()V"⟩
def dkwX2_stranger_5 : List UInt8 := [182, 0, 204, 79, 182, 0, 245, 87, 177]
abbrev dktX2_stranger_5 : List UInt8 := dkwX2_stranger_5 ++ []
def dkwX2_stranger_4 : List UInt8 := [181, 0, 141, 42, 180, 0, 176, 180, 1, 41, 5, 188, 10, 89, 3, 27, 79, 89, 4, 42, 3, 16, 10]
abbrev dktX2_stranger_4 : List UInt8 := dkwX2_stranger_4 ++ dktX2_stranger_5
def dkwX2_stranger_3 : List UInt8 := [160, 0, 9, 42, 6, 182, 0, 162, 191, 132, 2, 1, 167, 255, 213, 42, 89, 180, 0, 141, 4, 96]
abbrev dktX2_stranger_3 : List UInt8 := dkwX2_stranger_3 ++ dktX2_stranger_4
def dkwX2_stranger_2 : List UInt8 := [182, 0, 227, 162, 0, 35, 42, 180, 0, 176, 180, 1, 41, 28, 182, 1, 1, 192, 1, 44, 3, 46, 27]
abbrev dktX2_stranger_2 : List UInt8 := dkwX2_stranger_2 ++ dktX2_stranger_3
def dkwX2_stranger_1 : List UInt8 := [180, 0, 141, 4, 96, 181, 0, 141, 42, 182, 0, 218, 60, 3, 61, 28, 42, 180, 0, 176, 180, 1, 41]
abbrev dktX2_stranger_1 : List UInt8 := dkwX2_stranger_1 ++ dktX2_stranger_2
def dkwX2_stranger_0 : List UInt8 := [42, 180, 0, 176, 180, 1, 41, 182, 0, 227, 16, 6, 160, 0, 9, 42, 8, 182, 0, 162, 191, 42, 89]
abbrev dktX2_stranger_0 : List UInt8 := dkwX2_stranger_0 ++ dktX2_stranger_1
theorem dksX2_stranger_0 : cX2_stranger.data.toList.drop 0 = dktX2_stranger_0 := by decide +kernel
theorem dksX2_stranger_1 : cX2_stranger.data.toList.drop 23 = dktX2_stranger_1 := dk_seg dksX2_stranger_0 23 rfl rfl
theorem dksX2_stranger_2 : cX2_stranger.data.toList.drop 46 = dktX2_stranger_2 := dk_seg dksX2_stranger_1 23 rfl rfl
theorem dksX2_stranger_3 : cX2_stranger.data.toList.drop 69 = dktX2_stranger_3 := dk_seg dksX2_stranger_2 23 rfl rfl
theorem dksX2_stranger_4 : cX2_stranger.data.toList.drop 91 = dktX2_stranger_4 := dk_seg dksX2_stranger_3 22 rfl rfl
theorem dksX2_stranger_5 : cX2_stranger.data.toList.drop 114 = dktX2_stranger_5 := dk_seg dksX2_stranger_4 23 rfl rfl
theorem dX2_stranger_0 : decode cX2_stranger 0 = .ok (.aload_n 0, 1) := dk_42 (dk_at dksX2_stranger_0 0 rfl rfl)
theorem dX2_stranger_1 : decode cX2_stranger 1 = .ok (.getfield 176, 3) := dk_180 0 176 (dk_at dksX2_stranger_0 1 rfl rfl)
theorem dX2_stranger_4 : decode cX2_stranger 4 = .ok (.getfield 297, 3) := dk_180 1 41 (dk_at dksX2_stranger_0 4 rfl rfl)
theorem dX2_stranger_7 : decode cX2_stranger 7 = .ok (.invokevirtual 227, 3) := dk_182 0 227 (dk_at dksX2_stranger_0 7 rfl rfl)
theorem dX2_stranger_10 : decode cX2_stranger 10 = .ok (.bipush 6, 2) := dk_16 6 (dk_at dksX2_stranger_0 10 rfl rfl)
theorem dX2_stranger_12 : decode cX2_stranger 12 = .ok (.if_icmp .ne 9, 3) := dk_160 0 9 (dk_at dksX2_stranger_0 12 rfl rfl)
theorem dX2_stranger_15 : decode cX2_stranger 15 = .ok (.aload_n 0, 1) := dk_42 (dk_at dksX2_stranger_0 15 rfl rfl)
theorem dX2_stranger_16 : decode cX2_stranger 16 = .ok (.iconst 5, 1) := dk_8 (dk_at dksX2_stranger_0 16 rfl rfl)
theorem dX2_stranger_17 : decode cX2_stranger 17 = .ok (.invokevirtual 162, 3) := dk_182 0 162 (dk_at dksX2_stranger_0 17 rfl rfl)
theorem dX2_stranger_20 : decode cX2_stranger 20 = .ok (.athrow, 1) := dk_191 (dk_at dksX2_stranger_0 20 rfl rfl)
theorem dX2_stranger_21 : decode cX2_stranger 21 = .ok (.aload_n 0, 1) := dk_42 (dk_at dksX2_stranger_0 21 rfl rfl)
theorem dX2_stranger_22 : decode cX2_stranger 22 = .ok (.dup, 1) := dk_89 (dk_at dksX2_stranger_0 22 rfl rfl)
theorem dX2_stranger_23 : decode cX2_stranger 23 = .ok (.getfield 141, 3) := dk_180 0 141 (dk_at dksX2_stranger_1 0 rfl rfl)
theorem dX2_stranger_26 : decode cX2_stranger 26 = .ok (.iconst 1, 1) := dk_4 (dk_at dksX2_stranger_1 3 rfl rfl)
theorem dX2_stranger_27 : decode cX2_stranger 27 = .ok (.iadd, 1) := dk_96 (dk_at dksX2_stranger_1 4 rfl rfl)
theorem dX2_stranger_28 : decode cX2_stranger 28 = .ok (.putfield 141, 3) := dk_181 0 141 (dk_at dksX2_stranger_1 5 rfl rfl)
theorem dX2_stranger_31 : decode cX2_stranger 31 = .ok (.aload_n 0, 1) := dk_42 (dk_at dksX2_stranger_1 8 rfl rfl)
theorem dX2_stranger_32 : decode cX2_stranger 32 = .ok (.invokevirtual 218, 3) := dk_182 0 218 (dk_at dksX2_stranger_1 9 rfl rfl)
theorem dX2_stranger_35 : decode cX2_stranger 35 = .ok (.istore_n 1, 1) := dk_60 (dk_at dksX2_stranger_1 12 rfl rfl)
theorem dX2_stranger_36 : decode cX2_stranger 36 = .ok (.iconst 0, 1) := dk_3 (dk_at dksX2_stranger_1 13 rfl rfl)
theorem dX2_stranger_37 : decode cX2_stranger 37 = .ok (.istore_n 2, 1) := dk_61 (dk_at dksX2_stranger_1 14 rfl rfl)
theorem dX2_stranger_38 : decode cX2_stranger 38 = .ok (.iload_n 2, 1) := dk_28 (dk_at dksX2_stranger_1 15 rfl rfl)
theorem dX2_stranger_39 : decode cX2_stranger 39 = .ok (.aload_n 0, 1) := dk_42 (dk_at dksX2_stranger_1 16 rfl rfl)
theorem dX2_stranger_40 : decode cX2_stranger 40 = .ok (.getfield 176, 3) := dk_180 0 176 (dk_at dksX2_stranger_1 17 rfl rfl)
theorem dX2_stranger_43 : decode cX2_stranger 43 = .ok (.getfield 297, 3) := dk_180 1 41 (dk_at dksX2_stranger_1 20 rfl rfl)
theorem dX2_stranger_46 : decode cX2_stranger 46 = .ok (.invokevirtual 227, 3) := dk_182 0 227 (dk_at dksX2_stranger_2 0 rfl rfl)
theorem dX2_stranger_49 : decode cX2_stranger 49 = .ok (.if_icmp .ge 35, 3) := dk_162 0 35 (dk_at dksX2_stranger_2 3 rfl rfl)
theorem dX2_stranger_52 : decode cX2_stranger 52 = .ok (.aload_n 0, 1) := dk_42 (dk_at dksX2_stranger_2 6 rfl rfl)
theorem dX2_stranger_53 : decode cX2_stranger 53 = .ok (.getfield 176, 3) := dk_180 0 176 (dk_at dksX2_stranger_2 7 rfl rfl)
theorem dX2_stranger_56 : decode cX2_stranger 56 = .ok (.getfield 297, 3) := dk_180 1 41 (dk_at dksX2_stranger_2 10 rfl rfl)
theorem dX2_stranger_59 : decode cX2_stranger 59 = .ok (.iload_n 2, 1) := dk_28 (dk_at dksX2_stranger_2 13 rfl rfl)
theorem dX2_stranger_60 : decode cX2_stranger 60 = .ok (.invokevirtual 257, 3) := dk_182 1 1 (dk_at dksX2_stranger_2 14 rfl rfl)
theorem dX2_stranger_63 : decode cX2_stranger 63 = .ok (.checkcast 300, 3) := dk_192 1 44 (dk_at dksX2_stranger_2 17 rfl rfl)
theorem dX2_stranger_66 : decode cX2_stranger 66 = .ok (.iconst 0, 1) := dk_3 (dk_at dksX2_stranger_2 20 rfl rfl)
theorem dX2_stranger_67 : decode cX2_stranger 67 = .ok (.iaload, 1) := dk_46 (dk_at dksX2_stranger_2 21 rfl rfl)
theorem dX2_stranger_68 : decode cX2_stranger 68 = .ok (.iload_n 1, 1) := dk_27 (dk_at dksX2_stranger_2 22 rfl rfl)
theorem dX2_stranger_69 : decode cX2_stranger 69 = .ok (.if_icmp .ne 9, 3) := dk_160 0 9 (dk_at dksX2_stranger_3 0 rfl rfl)
theorem dX2_stranger_72 : decode cX2_stranger 72 = .ok (.aload_n 0, 1) := dk_42 (dk_at dksX2_stranger_3 3 rfl rfl)
theorem dX2_stranger_73 : decode cX2_stranger 73 = .ok (.iconst 3, 1) := dk_6 (dk_at dksX2_stranger_3 4 rfl rfl)
theorem dX2_stranger_74 : decode cX2_stranger 74 = .ok (.invokevirtual 162, 3) := dk_182 0 162 (dk_at dksX2_stranger_3 5 rfl rfl)
theorem dX2_stranger_77 : decode cX2_stranger 77 = .ok (.athrow, 1) := dk_191 (dk_at dksX2_stranger_3 8 rfl rfl)
theorem dX2_stranger_78 : decode cX2_stranger 78 = .ok (.iinc 2 1, 3) := dk_132 2 1 (dk_at dksX2_stranger_3 9 rfl rfl)
theorem dX2_stranger_81 : decode cX2_stranger 81 = .ok (.goto (-43), 3) := dk_167 255 213 (dk_at dksX2_stranger_3 12 rfl rfl)
theorem dX2_stranger_84 : decode cX2_stranger 84 = .ok (.aload_n 0, 1) := dk_42 (dk_at dksX2_stranger_3 15 rfl rfl)
theorem dX2_stranger_85 : decode cX2_stranger 85 = .ok (.dup, 1) := dk_89 (dk_at dksX2_stranger_3 16 rfl rfl)
theorem dX2_stranger_86 : decode cX2_stranger 86 = .ok (.getfield 141, 3) := dk_180 0 141 (dk_at dksX2_stranger_3 17 rfl rfl)
theorem dX2_stranger_89 : decode cX2_stranger 89 = .ok (.iconst 1, 1) := dk_4 (dk_at dksX2_stranger_3 20 rfl rfl)
theorem dX2_stranger_90 : decode cX2_stranger 90 = .ok (.iadd, 1) := dk_96 (dk_at dksX2_stranger_3 21 rfl rfl)
theorem dX2_stranger_91 : decode cX2_stranger 91 = .ok (.putfield 141, 3) := dk_181 0 141 (dk_at dksX2_stranger_4 0 rfl rfl)
theorem dX2_stranger_94 : decode cX2_stranger 94 = .ok (.aload_n 0, 1) := dk_42 (dk_at dksX2_stranger_4 3 rfl rfl)
theorem dX2_stranger_95 : decode cX2_stranger 95 = .ok (.getfield 176, 3) := dk_180 0 176 (dk_at dksX2_stranger_4 4 rfl rfl)
theorem dX2_stranger_98 : decode cX2_stranger 98 = .ok (.getfield 297, 3) := dk_180 1 41 (dk_at dksX2_stranger_4 7 rfl rfl)
theorem dX2_stranger_101 : decode cX2_stranger 101 = .ok (.iconst 2, 1) := dk_5 (dk_at dksX2_stranger_4 10 rfl rfl)
theorem dX2_stranger_102 : decode cX2_stranger 102 = .ok (.newarray .int, 2) := dk_188_10 (dk_at dksX2_stranger_4 11 rfl rfl)
theorem dX2_stranger_104 : decode cX2_stranger 104 = .ok (.dup, 1) := dk_89 (dk_at dksX2_stranger_4 13 rfl rfl)
theorem dX2_stranger_105 : decode cX2_stranger 105 = .ok (.iconst 0, 1) := dk_3 (dk_at dksX2_stranger_4 14 rfl rfl)
theorem dX2_stranger_106 : decode cX2_stranger 106 = .ok (.iload_n 1, 1) := dk_27 (dk_at dksX2_stranger_4 15 rfl rfl)
theorem dX2_stranger_107 : decode cX2_stranger 107 = .ok (.iastore, 1) := dk_79 (dk_at dksX2_stranger_4 16 rfl rfl)
theorem dX2_stranger_108 : decode cX2_stranger 108 = .ok (.dup, 1) := dk_89 (dk_at dksX2_stranger_4 17 rfl rfl)
theorem dX2_stranger_109 : decode cX2_stranger 109 = .ok (.iconst 1, 1) := dk_4 (dk_at dksX2_stranger_4 18 rfl rfl)
theorem dX2_stranger_110 : decode cX2_stranger 110 = .ok (.aload_n 0, 1) := dk_42 (dk_at dksX2_stranger_4 19 rfl rfl)
theorem dX2_stranger_111 : decode cX2_stranger 111 = .ok (.iconst 0, 1) := dk_3 (dk_at dksX2_stranger_4 20 rfl rfl)
theorem dX2_stranger_112 : decode cX2_stranger 112 = .ok (.bipush 10, 2) := dk_16 10 (dk_at dksX2_stranger_4 21 rfl rfl)
theorem dX2_stranger_114 : decode cX2_stranger 114 = .ok (.invokevirtual 204, 3) := dk_182 0 204 (dk_at dksX2_stranger_5 0 rfl rfl)
theorem dX2_stranger_117 : decode cX2_stranger 117 = .ok (.iastore, 1) := dk_79 (dk_at dksX2_stranger_5 3 rfl rfl)
theorem dX2_stranger_118 : decode cX2_stranger 118 = .ok (.invokevirtual 245, 3) := dk_182 0 245 (dk_at dksX2_stranger_5 4 rfl rfl)
theorem dX2_stranger_121 : decode cX2_stranger 121 = .ok (.pop, 1) := dk_87 (dk_at dksX2_stranger_5 7 rfl rfl)
theorem dX2_stranger_122 : decode cX2_stranger 122 = .ok (.return_, 1) := dk_177 (dk_at dksX2_stranger_5 8 rfl rfl)
abbrev cX2_page : ByteArray := prog_27_method_28_code
def yX2_page : MethodName := ⟨RX2, "page", "()V"⟩
def dkwX2_page_5 : List UInt8 := [182, 0, 245, 87, 177]
abbrev dktX2_page_5 : List UInt8 := dkwX2_page_5 ++ []
def dkwX2_page_4 : List UInt8 := [188, 10, 58, 4, 43, 3, 25, 4, 3, 29, 184, 1, 52, 42, 180, 0, 176, 180, 1, 45, 25, 4]
abbrev dktX2_page_4 : List UInt8 := dkwX2_page_4 ++ dktX2_page_5
def dkwX2_page_3 : List UInt8 := [21, 4, 79, 132, 3, 1, 42, 89, 180, 0, 141, 4, 96, 181, 0, 141, 42, 182, 0, 208, 154, 255, 206, 29]
abbrev dktX2_page_3 : List UInt8 := dkwX2_page_3 ++ dktX2_page_4
def dkwX2_page_2 : List UInt8 := [21, 4, 184, 1, 48, 153, 0, 9, 42, 6, 182, 0, 162, 191, 28, 4, 21, 4, 120, 128, 61, 43, 29]
abbrev dktX2_page_2 : List UInt8 := dkwX2_page_2 ++ dktX2_page_3
def dkwX2_page_1 : List UInt8 := [180, 0, 141, 4, 96, 181, 0, 141, 16, 10, 188, 10, 76, 3, 61, 3, 62, 42, 182, 0, 254, 54, 4, 28]
abbrev dktX2_page_1 : List UInt8 := dkwX2_page_1 ++ dktX2_page_2
def dkwX2_page_0 : List UInt8 := [42, 180, 0, 176, 180, 1, 45, 182, 0, 227, 7, 160, 0, 9, 42, 8, 182, 0, 162, 191, 42, 89]
abbrev dktX2_page_0 : List UInt8 := dkwX2_page_0 ++ dktX2_page_1
theorem dksX2_page_0 : cX2_page.data.toList.drop 0 = dktX2_page_0 := by decide +kernel
theorem dksX2_page_1 : cX2_page.data.toList.drop 22 = dktX2_page_1 := dk_seg dksX2_page_0 22 rfl rfl
theorem dksX2_page_2 : cX2_page.data.toList.drop 46 = dktX2_page_2 := dk_seg dksX2_page_1 24 rfl rfl
theorem dksX2_page_3 : cX2_page.data.toList.drop 69 = dktX2_page_3 := dk_seg dksX2_page_2 23 rfl rfl
theorem dksX2_page_4 : cX2_page.data.toList.drop 93 = dktX2_page_4 := dk_seg dksX2_page_3 24 rfl rfl
theorem dksX2_page_5 : cX2_page.data.toList.drop 115 = dktX2_page_5 := dk_seg dksX2_page_4 22 rfl rfl
theorem dX2_page_0 : decode cX2_page 0 = .ok (.aload_n 0, 1) := dk_42 (dk_at dksX2_page_0 0 rfl rfl)
theorem dX2_page_1 : decode cX2_page 1 = .ok (.getfield 176, 3) := dk_180 0 176 (dk_at dksX2_page_0 1 rfl rfl)
theorem dX2_page_4 : decode cX2_page 4 = .ok (.getfield 301, 3) := dk_180 1 45 (dk_at dksX2_page_0 4 rfl rfl)
theorem dX2_page_7 : decode cX2_page 7 = .ok (.invokevirtual 227, 3) := dk_182 0 227 (dk_at dksX2_page_0 7 rfl rfl)
theorem dX2_page_10 : decode cX2_page 10 = .ok (.iconst 4, 1) := dk_7 (dk_at dksX2_page_0 10 rfl rfl)
theorem dX2_page_11 : decode cX2_page 11 = .ok (.if_icmp .ne 9, 3) := dk_160 0 9 (dk_at dksX2_page_0 11 rfl rfl)
theorem dX2_page_14 : decode cX2_page 14 = .ok (.aload_n 0, 1) := dk_42 (dk_at dksX2_page_0 14 rfl rfl)
theorem dX2_page_15 : decode cX2_page 15 = .ok (.iconst 5, 1) := dk_8 (dk_at dksX2_page_0 15 rfl rfl)
theorem dX2_page_16 : decode cX2_page 16 = .ok (.invokevirtual 162, 3) := dk_182 0 162 (dk_at dksX2_page_0 16 rfl rfl)
theorem dX2_page_19 : decode cX2_page 19 = .ok (.athrow, 1) := dk_191 (dk_at dksX2_page_0 19 rfl rfl)
theorem dX2_page_20 : decode cX2_page 20 = .ok (.aload_n 0, 1) := dk_42 (dk_at dksX2_page_0 20 rfl rfl)
theorem dX2_page_21 : decode cX2_page 21 = .ok (.dup, 1) := dk_89 (dk_at dksX2_page_0 21 rfl rfl)
theorem dX2_page_22 : decode cX2_page 22 = .ok (.getfield 141, 3) := dk_180 0 141 (dk_at dksX2_page_1 0 rfl rfl)
theorem dX2_page_25 : decode cX2_page 25 = .ok (.iconst 1, 1) := dk_4 (dk_at dksX2_page_1 3 rfl rfl)
theorem dX2_page_26 : decode cX2_page 26 = .ok (.iadd, 1) := dk_96 (dk_at dksX2_page_1 4 rfl rfl)
theorem dX2_page_27 : decode cX2_page 27 = .ok (.putfield 141, 3) := dk_181 0 141 (dk_at dksX2_page_1 5 rfl rfl)
theorem dX2_page_30 : decode cX2_page 30 = .ok (.bipush 10, 2) := dk_16 10 (dk_at dksX2_page_1 8 rfl rfl)
theorem dX2_page_32 : decode cX2_page 32 = .ok (.newarray .int, 2) := dk_188_10 (dk_at dksX2_page_1 10 rfl rfl)
theorem dX2_page_34 : decode cX2_page 34 = .ok (.astore_n 1, 1) := dk_76 (dk_at dksX2_page_1 12 rfl rfl)
theorem dX2_page_35 : decode cX2_page 35 = .ok (.iconst 0, 1) := dk_3 (dk_at dksX2_page_1 13 rfl rfl)
theorem dX2_page_36 : decode cX2_page 36 = .ok (.istore_n 2, 1) := dk_61 (dk_at dksX2_page_1 14 rfl rfl)
theorem dX2_page_37 : decode cX2_page 37 = .ok (.iconst 0, 1) := dk_3 (dk_at dksX2_page_1 15 rfl rfl)
theorem dX2_page_38 : decode cX2_page 38 = .ok (.istore_n 3, 1) := dk_62 (dk_at dksX2_page_1 16 rfl rfl)
theorem dX2_page_39 : decode cX2_page 39 = .ok (.aload_n 0, 1) := dk_42 (dk_at dksX2_page_1 17 rfl rfl)
theorem dX2_page_40 : decode cX2_page 40 = .ok (.invokevirtual 254, 3) := dk_182 0 254 (dk_at dksX2_page_1 18 rfl rfl)
theorem dX2_page_43 : decode cX2_page 43 = .ok (.istore 4, 2) := dk_54 4 (dk_at dksX2_page_1 21 rfl rfl)
theorem dX2_page_45 : decode cX2_page 45 = .ok (.iload_n 2, 1) := dk_28 (dk_at dksX2_page_1 23 rfl rfl)
theorem dX2_page_46 : decode cX2_page 46 = .ok (.iload 4, 2) := dk_21 4 (dk_at dksX2_page_2 0 rfl rfl)
theorem dX2_page_48 : decode cX2_page 48 = .ok (.invokestatic 304, 3) := dk_184 1 48 (dk_at dksX2_page_2 2 rfl rfl)
theorem dX2_page_51 : decode cX2_page 51 = .ok (.ifCond .eq 9, 3) := dk_153 0 9 (dk_at dksX2_page_2 5 rfl rfl)
theorem dX2_page_54 : decode cX2_page 54 = .ok (.aload_n 0, 1) := dk_42 (dk_at dksX2_page_2 8 rfl rfl)
theorem dX2_page_55 : decode cX2_page 55 = .ok (.iconst 3, 1) := dk_6 (dk_at dksX2_page_2 9 rfl rfl)
theorem dX2_page_56 : decode cX2_page 56 = .ok (.invokevirtual 162, 3) := dk_182 0 162 (dk_at dksX2_page_2 10 rfl rfl)
theorem dX2_page_59 : decode cX2_page 59 = .ok (.athrow, 1) := dk_191 (dk_at dksX2_page_2 13 rfl rfl)
theorem dX2_page_60 : decode cX2_page 60 = .ok (.iload_n 2, 1) := dk_28 (dk_at dksX2_page_2 14 rfl rfl)
theorem dX2_page_61 : decode cX2_page 61 = .ok (.iconst 1, 1) := dk_4 (dk_at dksX2_page_2 15 rfl rfl)
theorem dX2_page_62 : decode cX2_page 62 = .ok (.iload 4, 2) := dk_21 4 (dk_at dksX2_page_2 16 rfl rfl)
theorem dX2_page_64 : decode cX2_page 64 = .ok (.ishl, 1) := dk_120 (dk_at dksX2_page_2 18 rfl rfl)
theorem dX2_page_65 : decode cX2_page 65 = .ok (.ior, 1) := dk_128 (dk_at dksX2_page_2 19 rfl rfl)
theorem dX2_page_66 : decode cX2_page 66 = .ok (.istore_n 2, 1) := dk_61 (dk_at dksX2_page_2 20 rfl rfl)
theorem dX2_page_67 : decode cX2_page 67 = .ok (.aload_n 1, 1) := dk_43 (dk_at dksX2_page_2 21 rfl rfl)
theorem dX2_page_68 : decode cX2_page 68 = .ok (.iload_n 3, 1) := dk_29 (dk_at dksX2_page_2 22 rfl rfl)
theorem dX2_page_69 : decode cX2_page 69 = .ok (.iload 4, 2) := dk_21 4 (dk_at dksX2_page_3 0 rfl rfl)
theorem dX2_page_71 : decode cX2_page 71 = .ok (.iastore, 1) := dk_79 (dk_at dksX2_page_3 2 rfl rfl)
theorem dX2_page_72 : decode cX2_page 72 = .ok (.iinc 3 1, 3) := dk_132 3 1 (dk_at dksX2_page_3 3 rfl rfl)
theorem dX2_page_75 : decode cX2_page 75 = .ok (.aload_n 0, 1) := dk_42 (dk_at dksX2_page_3 6 rfl rfl)
theorem dX2_page_76 : decode cX2_page 76 = .ok (.dup, 1) := dk_89 (dk_at dksX2_page_3 7 rfl rfl)
theorem dX2_page_77 : decode cX2_page 77 = .ok (.getfield 141, 3) := dk_180 0 141 (dk_at dksX2_page_3 8 rfl rfl)
theorem dX2_page_80 : decode cX2_page 80 = .ok (.iconst 1, 1) := dk_4 (dk_at dksX2_page_3 11 rfl rfl)
theorem dX2_page_81 : decode cX2_page 81 = .ok (.iadd, 1) := dk_96 (dk_at dksX2_page_3 12 rfl rfl)
theorem dX2_page_82 : decode cX2_page 82 = .ok (.putfield 141, 3) := dk_181 0 141 (dk_at dksX2_page_3 13 rfl rfl)
theorem dX2_page_85 : decode cX2_page 85 = .ok (.aload_n 0, 1) := dk_42 (dk_at dksX2_page_3 16 rfl rfl)
theorem dX2_page_86 : decode cX2_page 86 = .ok (.invokevirtual 208, 3) := dk_182 0 208 (dk_at dksX2_page_3 17 rfl rfl)
theorem dX2_page_89 : decode cX2_page 89 = .ok (.ifCond .ne (-50), 3) := dk_154 255 206 (dk_at dksX2_page_3 20 rfl rfl)
theorem dX2_page_92 : decode cX2_page 92 = .ok (.iload_n 3, 1) := dk_29 (dk_at dksX2_page_3 23 rfl rfl)
theorem dX2_page_93 : decode cX2_page 93 = .ok (.newarray .int, 2) := dk_188_10 (dk_at dksX2_page_4 0 rfl rfl)
theorem dX2_page_95 : decode cX2_page 95 = .ok (.astore 4, 2) := dk_58 4 (dk_at dksX2_page_4 2 rfl rfl)
theorem dX2_page_97 : decode cX2_page 97 = .ok (.aload_n 1, 1) := dk_43 (dk_at dksX2_page_4 4 rfl rfl)
theorem dX2_page_98 : decode cX2_page 98 = .ok (.iconst 0, 1) := dk_3 (dk_at dksX2_page_4 5 rfl rfl)
theorem dX2_page_99 : decode cX2_page 99 = .ok (.aload 4, 2) := dk_25 4 (dk_at dksX2_page_4 6 rfl rfl)
theorem dX2_page_101 : decode cX2_page 101 = .ok (.iconst 0, 1) := dk_3 (dk_at dksX2_page_4 8 rfl rfl)
theorem dX2_page_102 : decode cX2_page 102 = .ok (.iload_n 3, 1) := dk_29 (dk_at dksX2_page_4 9 rfl rfl)
theorem dX2_page_103 : decode cX2_page 103 = .ok (.invokestatic 308, 3) := dk_184 1 52 (dk_at dksX2_page_4 10 rfl rfl)
theorem dX2_page_106 : decode cX2_page 106 = .ok (.aload_n 0, 1) := dk_42 (dk_at dksX2_page_4 13 rfl rfl)
theorem dX2_page_107 : decode cX2_page 107 = .ok (.getfield 176, 3) := dk_180 0 176 (dk_at dksX2_page_4 14 rfl rfl)
theorem dX2_page_110 : decode cX2_page 110 = .ok (.getfield 301, 3) := dk_180 1 45 (dk_at dksX2_page_4 17 rfl rfl)
theorem dX2_page_113 : decode cX2_page 113 = .ok (.aload 4, 2) := dk_25 4 (dk_at dksX2_page_4 20 rfl rfl)
theorem dX2_page_115 : decode cX2_page 115 = .ok (.invokevirtual 245, 3) := dk_182 0 245 (dk_at dksX2_page_5 0 rfl rfl)
theorem dX2_page_118 : decode cX2_page 118 = .ok (.pop, 1) := dk_87 (dk_at dksX2_page_5 3 rfl rfl)
theorem dX2_page_119 : decode cX2_page 119 = .ok (.return_, 1) := dk_177 (dk_at dksX2_page_5 4 rfl rfl)
abbrev cX2_bann : ByteArray := prog_27_method_29_code
def yX2_bann : MethodName := ⟨RX2, "bann", "()V"⟩
def dkwX2_bann_3 : List UInt8 := [188, 10, 89, 3, 27, 79, 89, 4, 28, 79, 182, 0, 245, 87, 177]
abbrev dktX2_bann_3 : List UInt8 := dkwX2_bann_3 ++ []
def dkwX2_bann_2 : List UInt8 := [6, 182, 0, 162, 191, 42, 89, 180, 0, 141, 4, 96, 181, 0, 141, 42, 180, 0, 176, 180, 1, 58, 5]
abbrev dktX2_bann_2 : List UInt8 := dkwX2_bann_2 ++ dktX2_bann_3
def dkwX2_bann_1 : List UInt8 := [180, 0, 141, 4, 96, 181, 0, 141, 42, 182, 1, 21, 60, 42, 182, 0, 218, 61, 27, 28, 160, 0, 9, 42]
abbrev dktX2_bann_1 : List UInt8 := dkwX2_bann_1 ++ dktX2_bann_2
def dkwX2_bann_0 : List UInt8 := [42, 180, 0, 176, 180, 1, 58, 182, 0, 227, 7, 160, 0, 9, 42, 8, 182, 0, 162, 191, 42, 89]
abbrev dktX2_bann_0 : List UInt8 := dkwX2_bann_0 ++ dktX2_bann_1
theorem dksX2_bann_0 : cX2_bann.data.toList.drop 0 = dktX2_bann_0 := by decide +kernel
theorem dksX2_bann_1 : cX2_bann.data.toList.drop 22 = dktX2_bann_1 := dk_seg dksX2_bann_0 22 rfl rfl
theorem dksX2_bann_2 : cX2_bann.data.toList.drop 46 = dktX2_bann_2 := dk_seg dksX2_bann_1 24 rfl rfl
theorem dksX2_bann_3 : cX2_bann.data.toList.drop 69 = dktX2_bann_3 := dk_seg dksX2_bann_2 23 rfl rfl
theorem dX2_bann_0 : decode cX2_bann 0 = .ok (.aload_n 0, 1) := dk_42 (dk_at dksX2_bann_0 0 rfl rfl)
theorem dX2_bann_1 : decode cX2_bann 1 = .ok (.getfield 176, 3) := dk_180 0 176 (dk_at dksX2_bann_0 1 rfl rfl)
theorem dX2_bann_4 : decode cX2_bann 4 = .ok (.getfield 314, 3) := dk_180 1 58 (dk_at dksX2_bann_0 4 rfl rfl)
theorem dX2_bann_7 : decode cX2_bann 7 = .ok (.invokevirtual 227, 3) := dk_182 0 227 (dk_at dksX2_bann_0 7 rfl rfl)
theorem dX2_bann_10 : decode cX2_bann 10 = .ok (.iconst 4, 1) := dk_7 (dk_at dksX2_bann_0 10 rfl rfl)
theorem dX2_bann_11 : decode cX2_bann 11 = .ok (.if_icmp .ne 9, 3) := dk_160 0 9 (dk_at dksX2_bann_0 11 rfl rfl)
theorem dX2_bann_14 : decode cX2_bann 14 = .ok (.aload_n 0, 1) := dk_42 (dk_at dksX2_bann_0 14 rfl rfl)
theorem dX2_bann_15 : decode cX2_bann 15 = .ok (.iconst 5, 1) := dk_8 (dk_at dksX2_bann_0 15 rfl rfl)
theorem dX2_bann_16 : decode cX2_bann 16 = .ok (.invokevirtual 162, 3) := dk_182 0 162 (dk_at dksX2_bann_0 16 rfl rfl)
theorem dX2_bann_19 : decode cX2_bann 19 = .ok (.athrow, 1) := dk_191 (dk_at dksX2_bann_0 19 rfl rfl)
theorem dX2_bann_20 : decode cX2_bann 20 = .ok (.aload_n 0, 1) := dk_42 (dk_at dksX2_bann_0 20 rfl rfl)
theorem dX2_bann_21 : decode cX2_bann 21 = .ok (.dup, 1) := dk_89 (dk_at dksX2_bann_0 21 rfl rfl)
theorem dX2_bann_22 : decode cX2_bann 22 = .ok (.getfield 141, 3) := dk_180 0 141 (dk_at dksX2_bann_1 0 rfl rfl)
theorem dX2_bann_25 : decode cX2_bann 25 = .ok (.iconst 1, 1) := dk_4 (dk_at dksX2_bann_1 3 rfl rfl)
theorem dX2_bann_26 : decode cX2_bann 26 = .ok (.iadd, 1) := dk_96 (dk_at dksX2_bann_1 4 rfl rfl)
theorem dX2_bann_27 : decode cX2_bann 27 = .ok (.putfield 141, 3) := dk_181 0 141 (dk_at dksX2_bann_1 5 rfl rfl)
theorem dX2_bann_30 : decode cX2_bann 30 = .ok (.aload_n 0, 1) := dk_42 (dk_at dksX2_bann_1 8 rfl rfl)
theorem dX2_bann_31 : decode cX2_bann 31 = .ok (.invokevirtual 277, 3) := dk_182 1 21 (dk_at dksX2_bann_1 9 rfl rfl)
theorem dX2_bann_34 : decode cX2_bann 34 = .ok (.istore_n 1, 1) := dk_60 (dk_at dksX2_bann_1 12 rfl rfl)
theorem dX2_bann_35 : decode cX2_bann 35 = .ok (.aload_n 0, 1) := dk_42 (dk_at dksX2_bann_1 13 rfl rfl)
theorem dX2_bann_36 : decode cX2_bann 36 = .ok (.invokevirtual 218, 3) := dk_182 0 218 (dk_at dksX2_bann_1 14 rfl rfl)
theorem dX2_bann_39 : decode cX2_bann 39 = .ok (.istore_n 2, 1) := dk_61 (dk_at dksX2_bann_1 17 rfl rfl)
theorem dX2_bann_40 : decode cX2_bann 40 = .ok (.iload_n 1, 1) := dk_27 (dk_at dksX2_bann_1 18 rfl rfl)
theorem dX2_bann_41 : decode cX2_bann 41 = .ok (.iload_n 2, 1) := dk_28 (dk_at dksX2_bann_1 19 rfl rfl)
theorem dX2_bann_42 : decode cX2_bann 42 = .ok (.if_icmp .ne 9, 3) := dk_160 0 9 (dk_at dksX2_bann_1 20 rfl rfl)
theorem dX2_bann_45 : decode cX2_bann 45 = .ok (.aload_n 0, 1) := dk_42 (dk_at dksX2_bann_1 23 rfl rfl)
theorem dX2_bann_46 : decode cX2_bann 46 = .ok (.iconst 3, 1) := dk_6 (dk_at dksX2_bann_2 0 rfl rfl)
theorem dX2_bann_47 : decode cX2_bann 47 = .ok (.invokevirtual 162, 3) := dk_182 0 162 (dk_at dksX2_bann_2 1 rfl rfl)
theorem dX2_bann_50 : decode cX2_bann 50 = .ok (.athrow, 1) := dk_191 (dk_at dksX2_bann_2 4 rfl rfl)
theorem dX2_bann_51 : decode cX2_bann 51 = .ok (.aload_n 0, 1) := dk_42 (dk_at dksX2_bann_2 5 rfl rfl)
theorem dX2_bann_52 : decode cX2_bann 52 = .ok (.dup, 1) := dk_89 (dk_at dksX2_bann_2 6 rfl rfl)
theorem dX2_bann_53 : decode cX2_bann 53 = .ok (.getfield 141, 3) := dk_180 0 141 (dk_at dksX2_bann_2 7 rfl rfl)
theorem dX2_bann_56 : decode cX2_bann 56 = .ok (.iconst 1, 1) := dk_4 (dk_at dksX2_bann_2 10 rfl rfl)
theorem dX2_bann_57 : decode cX2_bann 57 = .ok (.iadd, 1) := dk_96 (dk_at dksX2_bann_2 11 rfl rfl)
theorem dX2_bann_58 : decode cX2_bann 58 = .ok (.putfield 141, 3) := dk_181 0 141 (dk_at dksX2_bann_2 12 rfl rfl)
theorem dX2_bann_61 : decode cX2_bann 61 = .ok (.aload_n 0, 1) := dk_42 (dk_at dksX2_bann_2 15 rfl rfl)
theorem dX2_bann_62 : decode cX2_bann 62 = .ok (.getfield 176, 3) := dk_180 0 176 (dk_at dksX2_bann_2 16 rfl rfl)
theorem dX2_bann_65 : decode cX2_bann 65 = .ok (.getfield 314, 3) := dk_180 1 58 (dk_at dksX2_bann_2 19 rfl rfl)
theorem dX2_bann_68 : decode cX2_bann 68 = .ok (.iconst 2, 1) := dk_5 (dk_at dksX2_bann_2 22 rfl rfl)
theorem dX2_bann_69 : decode cX2_bann 69 = .ok (.newarray .int, 2) := dk_188_10 (dk_at dksX2_bann_3 0 rfl rfl)
theorem dX2_bann_71 : decode cX2_bann 71 = .ok (.dup, 1) := dk_89 (dk_at dksX2_bann_3 2 rfl rfl)
theorem dX2_bann_72 : decode cX2_bann 72 = .ok (.iconst 0, 1) := dk_3 (dk_at dksX2_bann_3 3 rfl rfl)
theorem dX2_bann_73 : decode cX2_bann 73 = .ok (.iload_n 1, 1) := dk_27 (dk_at dksX2_bann_3 4 rfl rfl)
theorem dX2_bann_74 : decode cX2_bann 74 = .ok (.iastore, 1) := dk_79 (dk_at dksX2_bann_3 5 rfl rfl)
theorem dX2_bann_75 : decode cX2_bann 75 = .ok (.dup, 1) := dk_89 (dk_at dksX2_bann_3 6 rfl rfl)
theorem dX2_bann_76 : decode cX2_bann 76 = .ok (.iconst 1, 1) := dk_4 (dk_at dksX2_bann_3 7 rfl rfl)
theorem dX2_bann_77 : decode cX2_bann 77 = .ok (.iload_n 2, 1) := dk_28 (dk_at dksX2_bann_3 8 rfl rfl)
theorem dX2_bann_78 : decode cX2_bann 78 = .ok (.iastore, 1) := dk_79 (dk_at dksX2_bann_3 9 rfl rfl)
theorem dX2_bann_79 : decode cX2_bann 79 = .ok (.invokevirtual 245, 3) := dk_182 0 245 (dk_at dksX2_bann_3 10 rfl rfl)
theorem dX2_bann_82 : decode cX2_bann 82 = .ok (.pop, 1) := dk_87 (dk_at dksX2_bann_3 13 rfl rfl)
theorem dX2_bann_83 : decode cX2_bann 83 = .ok (.return_, 1) := dk_177 (dk_at dksX2_bann_3 14 rfl rfl)
abbrev cX2_law : ByteArray := prog_27_method_30_code
def yX2_law : MethodName := ⟨RX2, "law", "()V"⟩
def dkwX2_law_5 : List UInt8 := [181, 1, 64, 177]
abbrev dktX2_law_5 : List UInt8 := dkwX2_law_5 ++ []
def dkwX2_law_4 : List UInt8 := [182, 1, 66, 77, 27, 153, 0, 14, 42, 180, 0, 176, 44, 181, 1, 61, 167, 0, 11, 42, 180, 0, 176, 44]
abbrev dktX2_law_4 : List UInt8 := dkwX2_law_4 ++ dktX2_law_5
def dkwX2_law_3 : List UInt8 := [181, 0, 141, 42, 27, 153, 0, 10, 42, 180, 0, 19, 167, 0, 7, 42, 180, 0, 29, 181, 0, 86, 42]
abbrev dktX2_law_3 : List UInt8 := dkwX2_law_3 ++ dktX2_law_4
def dkwX2_law_2 : List UInt8 := [180, 0, 176, 180, 1, 64, 198, 0, 9, 42, 6, 182, 0, 162, 191, 42, 89, 180, 0, 141, 4, 96]
abbrev dktX2_law_2 : List UInt8 := dkwX2_law_2 ++ dktX2_law_3
def dkwX2_law_1 : List UInt8 := [182, 0, 162, 191, 27, 153, 0, 16, 42, 180, 0, 176, 180, 1, 61, 198, 0, 22, 167, 0, 13, 42]
abbrev dktX2_law_1 : List UInt8 := dkwX2_law_1 ++ dktX2_law_2
def dkwX2_law_0 : List UInt8 := [42, 18, 67, 182, 0, 152, 60, 27, 154, 0, 18, 42, 18, 69, 182, 0, 152, 154, 0, 9, 42, 4]
abbrev dktX2_law_0 : List UInt8 := dkwX2_law_0 ++ dktX2_law_1
theorem dksX2_law_0 : cX2_law.data.toList.drop 0 = dktX2_law_0 := by decide +kernel
theorem dksX2_law_1 : cX2_law.data.toList.drop 22 = dktX2_law_1 := dk_seg dksX2_law_0 22 rfl rfl
theorem dksX2_law_2 : cX2_law.data.toList.drop 44 = dktX2_law_2 := dk_seg dksX2_law_1 22 rfl rfl
theorem dksX2_law_3 : cX2_law.data.toList.drop 66 = dktX2_law_3 := dk_seg dksX2_law_2 22 rfl rfl
theorem dksX2_law_4 : cX2_law.data.toList.drop 89 = dktX2_law_4 := dk_seg dksX2_law_3 23 rfl rfl
theorem dksX2_law_5 : cX2_law.data.toList.drop 113 = dktX2_law_5 := dk_seg dksX2_law_4 24 rfl rfl
theorem dX2_law_0 : decode cX2_law 0 = .ok (.aload_n 0, 1) := dk_42 (dk_at dksX2_law_0 0 rfl rfl)
theorem dX2_law_1 : decode cX2_law 1 = .ok (.ldc 67, 2) := dk_18 67 (dk_at dksX2_law_0 1 rfl rfl)
theorem dX2_law_3 : decode cX2_law 3 = .ok (.invokevirtual 152, 3) := dk_182 0 152 (dk_at dksX2_law_0 3 rfl rfl)
theorem dX2_law_6 : decode cX2_law 6 = .ok (.istore_n 1, 1) := dk_60 (dk_at dksX2_law_0 6 rfl rfl)
theorem dX2_law_7 : decode cX2_law 7 = .ok (.iload_n 1, 1) := dk_27 (dk_at dksX2_law_0 7 rfl rfl)
theorem dX2_law_8 : decode cX2_law 8 = .ok (.ifCond .ne 18, 3) := dk_154 0 18 (dk_at dksX2_law_0 8 rfl rfl)
theorem dX2_law_11 : decode cX2_law 11 = .ok (.aload_n 0, 1) := dk_42 (dk_at dksX2_law_0 11 rfl rfl)
theorem dX2_law_12 : decode cX2_law 12 = .ok (.ldc 69, 2) := dk_18 69 (dk_at dksX2_law_0 12 rfl rfl)
theorem dX2_law_14 : decode cX2_law 14 = .ok (.invokevirtual 152, 3) := dk_182 0 152 (dk_at dksX2_law_0 14 rfl rfl)
theorem dX2_law_17 : decode cX2_law 17 = .ok (.ifCond .ne 9, 3) := dk_154 0 9 (dk_at dksX2_law_0 17 rfl rfl)
theorem dX2_law_20 : decode cX2_law 20 = .ok (.aload_n 0, 1) := dk_42 (dk_at dksX2_law_0 20 rfl rfl)
theorem dX2_law_21 : decode cX2_law 21 = .ok (.iconst 1, 1) := dk_4 (dk_at dksX2_law_0 21 rfl rfl)
theorem dX2_law_22 : decode cX2_law 22 = .ok (.invokevirtual 162, 3) := dk_182 0 162 (dk_at dksX2_law_1 0 rfl rfl)
theorem dX2_law_25 : decode cX2_law 25 = .ok (.athrow, 1) := dk_191 (dk_at dksX2_law_1 3 rfl rfl)
theorem dX2_law_26 : decode cX2_law 26 = .ok (.iload_n 1, 1) := dk_27 (dk_at dksX2_law_1 4 rfl rfl)
theorem dX2_law_27 : decode cX2_law 27 = .ok (.ifCond .eq 16, 3) := dk_153 0 16 (dk_at dksX2_law_1 5 rfl rfl)
theorem dX2_law_30 : decode cX2_law 30 = .ok (.aload_n 0, 1) := dk_42 (dk_at dksX2_law_1 8 rfl rfl)
theorem dX2_law_31 : decode cX2_law 31 = .ok (.getfield 176, 3) := dk_180 0 176 (dk_at dksX2_law_1 9 rfl rfl)
theorem dX2_law_34 : decode cX2_law 34 = .ok (.getfield 317, 3) := dk_180 1 61 (dk_at dksX2_law_1 12 rfl rfl)
theorem dX2_law_37 : decode cX2_law 37 = .ok (.ifnull 22, 3) := dk_198 0 22 (dk_at dksX2_law_1 15 rfl rfl)
theorem dX2_law_40 : decode cX2_law 40 = .ok (.goto 13, 3) := dk_167 0 13 (dk_at dksX2_law_1 18 rfl rfl)
theorem dX2_law_43 : decode cX2_law 43 = .ok (.aload_n 0, 1) := dk_42 (dk_at dksX2_law_1 21 rfl rfl)
theorem dX2_law_44 : decode cX2_law 44 = .ok (.getfield 176, 3) := dk_180 0 176 (dk_at dksX2_law_2 0 rfl rfl)
theorem dX2_law_47 : decode cX2_law 47 = .ok (.getfield 320, 3) := dk_180 1 64 (dk_at dksX2_law_2 3 rfl rfl)
theorem dX2_law_50 : decode cX2_law 50 = .ok (.ifnull 9, 3) := dk_198 0 9 (dk_at dksX2_law_2 6 rfl rfl)
theorem dX2_law_53 : decode cX2_law 53 = .ok (.aload_n 0, 1) := dk_42 (dk_at dksX2_law_2 9 rfl rfl)
theorem dX2_law_54 : decode cX2_law 54 = .ok (.iconst 3, 1) := dk_6 (dk_at dksX2_law_2 10 rfl rfl)
theorem dX2_law_55 : decode cX2_law 55 = .ok (.invokevirtual 162, 3) := dk_182 0 162 (dk_at dksX2_law_2 11 rfl rfl)
theorem dX2_law_58 : decode cX2_law 58 = .ok (.athrow, 1) := dk_191 (dk_at dksX2_law_2 14 rfl rfl)
theorem dX2_law_59 : decode cX2_law 59 = .ok (.aload_n 0, 1) := dk_42 (dk_at dksX2_law_2 15 rfl rfl)
theorem dX2_law_60 : decode cX2_law 60 = .ok (.dup, 1) := dk_89 (dk_at dksX2_law_2 16 rfl rfl)
theorem dX2_law_61 : decode cX2_law 61 = .ok (.getfield 141, 3) := dk_180 0 141 (dk_at dksX2_law_2 17 rfl rfl)
theorem dX2_law_64 : decode cX2_law 64 = .ok (.iconst 1, 1) := dk_4 (dk_at dksX2_law_2 20 rfl rfl)
theorem dX2_law_65 : decode cX2_law 65 = .ok (.iadd, 1) := dk_96 (dk_at dksX2_law_2 21 rfl rfl)
theorem dX2_law_66 : decode cX2_law 66 = .ok (.putfield 141, 3) := dk_181 0 141 (dk_at dksX2_law_3 0 rfl rfl)
theorem dX2_law_69 : decode cX2_law 69 = .ok (.aload_n 0, 1) := dk_42 (dk_at dksX2_law_3 3 rfl rfl)
theorem dX2_law_70 : decode cX2_law 70 = .ok (.iload_n 1, 1) := dk_27 (dk_at dksX2_law_3 4 rfl rfl)
theorem dX2_law_71 : decode cX2_law 71 = .ok (.ifCond .eq 10, 3) := dk_153 0 10 (dk_at dksX2_law_3 5 rfl rfl)
theorem dX2_law_74 : decode cX2_law 74 = .ok (.aload_n 0, 1) := dk_42 (dk_at dksX2_law_3 8 rfl rfl)
theorem dX2_law_75 : decode cX2_law 75 = .ok (.getfield 19, 3) := dk_180 0 19 (dk_at dksX2_law_3 9 rfl rfl)
theorem dX2_law_78 : decode cX2_law 78 = .ok (.goto 7, 3) := dk_167 0 7 (dk_at dksX2_law_3 12 rfl rfl)
theorem dX2_law_81 : decode cX2_law 81 = .ok (.aload_n 0, 1) := dk_42 (dk_at dksX2_law_3 15 rfl rfl)
theorem dX2_law_82 : decode cX2_law 82 = .ok (.getfield 29, 3) := dk_180 0 29 (dk_at dksX2_law_3 16 rfl rfl)
theorem dX2_law_85 : decode cX2_law 85 = .ok (.putfield 86, 3) := dk_181 0 86 (dk_at dksX2_law_3 19 rfl rfl)
theorem dX2_law_88 : decode cX2_law 88 = .ok (.aload_n 0, 1) := dk_42 (dk_at dksX2_law_3 22 rfl rfl)
theorem dX2_law_89 : decode cX2_law 89 = .ok (.invokevirtual 322, 3) := dk_182 1 66 (dk_at dksX2_law_4 0 rfl rfl)
theorem dX2_law_92 : decode cX2_law 92 = .ok (.astore_n 2, 1) := dk_77 (dk_at dksX2_law_4 3 rfl rfl)
theorem dX2_law_93 : decode cX2_law 93 = .ok (.iload_n 1, 1) := dk_27 (dk_at dksX2_law_4 4 rfl rfl)
theorem dX2_law_94 : decode cX2_law 94 = .ok (.ifCond .eq 14, 3) := dk_153 0 14 (dk_at dksX2_law_4 5 rfl rfl)
theorem dX2_law_97 : decode cX2_law 97 = .ok (.aload_n 0, 1) := dk_42 (dk_at dksX2_law_4 8 rfl rfl)
theorem dX2_law_98 : decode cX2_law 98 = .ok (.getfield 176, 3) := dk_180 0 176 (dk_at dksX2_law_4 9 rfl rfl)
theorem dX2_law_101 : decode cX2_law 101 = .ok (.aload_n 2, 1) := dk_44 (dk_at dksX2_law_4 12 rfl rfl)
theorem dX2_law_102 : decode cX2_law 102 = .ok (.putfield 317, 3) := dk_181 1 61 (dk_at dksX2_law_4 13 rfl rfl)
theorem dX2_law_105 : decode cX2_law 105 = .ok (.goto 11, 3) := dk_167 0 11 (dk_at dksX2_law_4 16 rfl rfl)
theorem dX2_law_108 : decode cX2_law 108 = .ok (.aload_n 0, 1) := dk_42 (dk_at dksX2_law_4 19 rfl rfl)
theorem dX2_law_109 : decode cX2_law 109 = .ok (.getfield 176, 3) := dk_180 0 176 (dk_at dksX2_law_4 20 rfl rfl)
theorem dX2_law_112 : decode cX2_law 112 = .ok (.aload_n 2, 1) := dk_44 (dk_at dksX2_law_4 23 rfl rfl)
theorem dX2_law_113 : decode cX2_law 113 = .ok (.putfield 320, 3) := dk_181 1 64 (dk_at dksX2_law_5 0 rfl rfl)
theorem dX2_law_116 : decode cX2_law 116 = .ok (.return_, 1) := dk_177 (dk_at dksX2_law_5 3 rfl rfl)
abbrev cX2_whole : ByteArray := prog_27_method_35_code
def yX2_whole : MethodName := ⟨RX2, "whole", "()LNameOrchard$Expression;"⟩
def dkwX2_whole_0 : List UInt8 := [42, 3, 181, 1, 89, 42, 182, 1, 92, 176]
abbrev dktX2_whole_0 : List UInt8 := dkwX2_whole_0 ++ []
theorem dksX2_whole_0 : cX2_whole.data.toList.drop 0 = dktX2_whole_0 := by decide +kernel
theorem dX2_whole_0 : decode cX2_whole 0 = .ok (.aload_n 0, 1) := dk_42 (dk_at dksX2_whole_0 0 rfl rfl)
theorem dX2_whole_1 : decode cX2_whole 1 = .ok (.iconst 0, 1) := dk_3 (dk_at dksX2_whole_0 1 rfl rfl)
theorem dX2_whole_2 : decode cX2_whole 2 = .ok (.putfield 345, 3) := dk_181 1 89 (dk_at dksX2_whole_0 2 rfl rfl)
theorem dX2_whole_5 : decode cX2_whole 5 = .ok (.aload_n 0, 1) := dk_42 (dk_at dksX2_whole_0 5 rfl rfl)
theorem dX2_whole_6 : decode cX2_whole 6 = .ok (.invokevirtual 348, 3) := dk_182 1 92 (dk_at dksX2_whole_0 6 rfl rfl)
theorem dX2_whole_9 : decode cX2_whole 9 = .ok (.areturn, 1) := dk_176 (dk_at dksX2_whole_0 9 rfl rfl)
abbrev cX2_all : ByteArray := prog_27_method_37_code
def yX2_all : MethodName := ⟨RX2, "all", "()LNameOrchard$Expression;"⟩
def dkwX2_all_4 : List UInt8 := [199, 0, 7, 43, 167, 0, 4, 44, 176]
abbrev dktX2_all_4 : List UInt8 := dkwX2_all_4 ++ []
def dkwX2_all_3 : List UInt8 := [183, 1, 112, 167, 0, 12, 187, 1, 113, 89, 25, 4, 183, 1, 115, 182, 0, 245, 87, 167, 255, 176, 44]
abbrev dktX2_all_3 : List UInt8 := dkwX2_all_3 ++ dktX2_all_4
def dkwX2_all_2 : List UInt8 := [58, 4, 43, 44, 184, 1, 103, 77, 44, 180, 1, 107, 29, 153, 0, 15, 187, 1, 110, 89, 25, 4]
abbrev dktX2_all_2 : List UInt8 := dkwX2_all_2 ++ dktX2_all_3
def dkwX2_all_1 : List UInt8 := [153, 0, 68, 42, 18, 79, 182, 0, 152, 62, 42, 89, 180, 0, 141, 4, 96, 181, 0, 141, 42, 182, 1, 100]
abbrev dktX2_all_1 : List UInt8 := dkwX2_all_1 ++ dktX2_all_2
def dkwX2_all_0 : List UInt8 := [42, 182, 1, 100, 76, 1, 77, 42, 18, 79, 182, 0, 152, 154, 0, 12, 42, 18, 81, 182, 0, 152]
abbrev dktX2_all_0 : List UInt8 := dkwX2_all_0 ++ dktX2_all_1
theorem dksX2_all_0 : cX2_all.data.toList.drop 0 = dktX2_all_0 := by decide +kernel
theorem dksX2_all_1 : cX2_all.data.toList.drop 22 = dktX2_all_1 := dk_seg dksX2_all_0 22 rfl rfl
theorem dksX2_all_2 : cX2_all.data.toList.drop 46 = dktX2_all_2 := dk_seg dksX2_all_1 24 rfl rfl
theorem dksX2_all_3 : cX2_all.data.toList.drop 68 = dktX2_all_3 := dk_seg dksX2_all_2 22 rfl rfl
theorem dksX2_all_4 : cX2_all.data.toList.drop 91 = dktX2_all_4 := dk_seg dksX2_all_3 23 rfl rfl
theorem dX2_all_0 : decode cX2_all 0 = .ok (.aload_n 0, 1) := dk_42 (dk_at dksX2_all_0 0 rfl rfl)
theorem dX2_all_1 : decode cX2_all 1 = .ok (.invokevirtual 356, 3) := dk_182 1 100 (dk_at dksX2_all_0 1 rfl rfl)
theorem dX2_all_4 : decode cX2_all 4 = .ok (.astore_n 1, 1) := dk_76 (dk_at dksX2_all_0 4 rfl rfl)
theorem dX2_all_5 : decode cX2_all 5 = .ok (.aconst_null, 1) := dk_1 (dk_at dksX2_all_0 5 rfl rfl)
theorem dX2_all_6 : decode cX2_all 6 = .ok (.astore_n 2, 1) := dk_77 (dk_at dksX2_all_0 6 rfl rfl)
theorem dX2_all_7 : decode cX2_all 7 = .ok (.aload_n 0, 1) := dk_42 (dk_at dksX2_all_0 7 rfl rfl)
theorem dX2_all_8 : decode cX2_all 8 = .ok (.ldc 79, 2) := dk_18 79 (dk_at dksX2_all_0 8 rfl rfl)
theorem dX2_all_10 : decode cX2_all 10 = .ok (.invokevirtual 152, 3) := dk_182 0 152 (dk_at dksX2_all_0 10 rfl rfl)
theorem dX2_all_13 : decode cX2_all 13 = .ok (.ifCond .ne 12, 3) := dk_154 0 12 (dk_at dksX2_all_0 13 rfl rfl)
theorem dX2_all_16 : decode cX2_all 16 = .ok (.aload_n 0, 1) := dk_42 (dk_at dksX2_all_0 16 rfl rfl)
theorem dX2_all_17 : decode cX2_all 17 = .ok (.ldc 81, 2) := dk_18 81 (dk_at dksX2_all_0 17 rfl rfl)
theorem dX2_all_19 : decode cX2_all 19 = .ok (.invokevirtual 152, 3) := dk_182 0 152 (dk_at dksX2_all_0 19 rfl rfl)
theorem dX2_all_22 : decode cX2_all 22 = .ok (.ifCond .eq 68, 3) := dk_153 0 68 (dk_at dksX2_all_1 0 rfl rfl)
theorem dX2_all_25 : decode cX2_all 25 = .ok (.aload_n 0, 1) := dk_42 (dk_at dksX2_all_1 3 rfl rfl)
theorem dX2_all_26 : decode cX2_all 26 = .ok (.ldc 79, 2) := dk_18 79 (dk_at dksX2_all_1 4 rfl rfl)
theorem dX2_all_28 : decode cX2_all 28 = .ok (.invokevirtual 152, 3) := dk_182 0 152 (dk_at dksX2_all_1 6 rfl rfl)
theorem dX2_all_31 : decode cX2_all 31 = .ok (.istore_n 3, 1) := dk_62 (dk_at dksX2_all_1 9 rfl rfl)
theorem dX2_all_32 : decode cX2_all 32 = .ok (.aload_n 0, 1) := dk_42 (dk_at dksX2_all_1 10 rfl rfl)
theorem dX2_all_33 : decode cX2_all 33 = .ok (.dup, 1) := dk_89 (dk_at dksX2_all_1 11 rfl rfl)
theorem dX2_all_34 : decode cX2_all 34 = .ok (.getfield 141, 3) := dk_180 0 141 (dk_at dksX2_all_1 12 rfl rfl)
theorem dX2_all_37 : decode cX2_all 37 = .ok (.iconst 1, 1) := dk_4 (dk_at dksX2_all_1 15 rfl rfl)
theorem dX2_all_38 : decode cX2_all 38 = .ok (.iadd, 1) := dk_96 (dk_at dksX2_all_1 16 rfl rfl)
theorem dX2_all_39 : decode cX2_all 39 = .ok (.putfield 141, 3) := dk_181 0 141 (dk_at dksX2_all_1 17 rfl rfl)
theorem dX2_all_42 : decode cX2_all 42 = .ok (.aload_n 0, 1) := dk_42 (dk_at dksX2_all_1 20 rfl rfl)
theorem dX2_all_43 : decode cX2_all 43 = .ok (.invokevirtual 356, 3) := dk_182 1 100 (dk_at dksX2_all_1 21 rfl rfl)
theorem dX2_all_46 : decode cX2_all 46 = .ok (.astore 4, 2) := dk_58 4 (dk_at dksX2_all_2 0 rfl rfl)
theorem dX2_all_48 : decode cX2_all 48 = .ok (.aload_n 1, 1) := dk_43 (dk_at dksX2_all_2 2 rfl rfl)
theorem dX2_all_49 : decode cX2_all 49 = .ok (.aload_n 2, 1) := dk_44 (dk_at dksX2_all_2 3 rfl rfl)
theorem dX2_all_50 : decode cX2_all 50 = .ok (.invokestatic 359, 3) := dk_184 1 103 (dk_at dksX2_all_2 4 rfl rfl)
theorem dX2_all_53 : decode cX2_all 53 = .ok (.astore_n 2, 1) := dk_77 (dk_at dksX2_all_2 7 rfl rfl)
theorem dX2_all_54 : decode cX2_all 54 = .ok (.aload_n 2, 1) := dk_44 (dk_at dksX2_all_2 8 rfl rfl)
theorem dX2_all_55 : decode cX2_all 55 = .ok (.getfield 363, 3) := dk_180 1 107 (dk_at dksX2_all_2 9 rfl rfl)
theorem dX2_all_58 : decode cX2_all 58 = .ok (.iload_n 3, 1) := dk_29 (dk_at dksX2_all_2 12 rfl rfl)
theorem dX2_all_59 : decode cX2_all 59 = .ok (.ifCond .eq 15, 3) := dk_153 0 15 (dk_at dksX2_all_2 13 rfl rfl)
theorem dX2_all_62 : decode cX2_all 62 = .ok (.new 366, 3) := dk_187 1 110 (dk_at dksX2_all_2 16 rfl rfl)
theorem dX2_all_65 : decode cX2_all 65 = .ok (.dup, 1) := dk_89 (dk_at dksX2_all_2 19 rfl rfl)
theorem dX2_all_66 : decode cX2_all 66 = .ok (.aload 4, 2) := dk_25 4 (dk_at dksX2_all_2 20 rfl rfl)
theorem dX2_all_68 : decode cX2_all 68 = .ok (.invokespecial 368, 3) := dk_183 1 112 (dk_at dksX2_all_3 0 rfl rfl)
theorem dX2_all_71 : decode cX2_all 71 = .ok (.goto 12, 3) := dk_167 0 12 (dk_at dksX2_all_3 3 rfl rfl)
theorem dX2_all_74 : decode cX2_all 74 = .ok (.new 369, 3) := dk_187 1 113 (dk_at dksX2_all_3 6 rfl rfl)
theorem dX2_all_77 : decode cX2_all 77 = .ok (.dup, 1) := dk_89 (dk_at dksX2_all_3 9 rfl rfl)
theorem dX2_all_78 : decode cX2_all 78 = .ok (.aload 4, 2) := dk_25 4 (dk_at dksX2_all_3 10 rfl rfl)
theorem dX2_all_80 : decode cX2_all 80 = .ok (.invokespecial 371, 3) := dk_183 1 115 (dk_at dksX2_all_3 12 rfl rfl)
theorem dX2_all_83 : decode cX2_all 83 = .ok (.invokevirtual 245, 3) := dk_182 0 245 (dk_at dksX2_all_3 15 rfl rfl)
theorem dX2_all_86 : decode cX2_all 86 = .ok (.pop, 1) := dk_87 (dk_at dksX2_all_3 18 rfl rfl)
theorem dX2_all_87 : decode cX2_all 87 = .ok (.goto (-80), 3) := dk_167 255 176 (dk_at dksX2_all_3 19 rfl rfl)
theorem dX2_all_90 : decode cX2_all 90 = .ok (.aload_n 2, 1) := dk_44 (dk_at dksX2_all_3 22 rfl rfl)
theorem dX2_all_91 : decode cX2_all 91 = .ok (.ifnonnull 7, 3) := dk_199 0 7 (dk_at dksX2_all_4 0 rfl rfl)
theorem dX2_all_94 : decode cX2_all 94 = .ok (.aload_n 1, 1) := dk_43 (dk_at dksX2_all_4 3 rfl rfl)
theorem dX2_all_95 : decode cX2_all 95 = .ok (.goto 4, 3) := dk_167 0 4 (dk_at dksX2_all_4 4 rfl rfl)
theorem dX2_all_98 : decode cX2_all 98 = .ok (.aload_n 2, 1) := dk_44 (dk_at dksX2_all_4 7 rfl rfl)
theorem dX2_all_99 : decode cX2_all 99 = .ok (.areturn, 1) := dk_176 (dk_at dksX2_all_4 8 rfl rfl)
abbrev cX2_test : ByteArray := prog_27_method_38_code
def yX2_test : MethodName := ⟨RX2, "test", "()LNameOrchard$Expression;"⟩
def dkwX2_test_3 : List UInt8 := [183, 1, 121, 167, 0, 11, 187, 1, 122, 89, 45, 183, 1, 124, 182, 0, 245, 87, 25, 4, 176]
abbrev dktX2_test_3 : List UInt8 := dkwX2_test_3 ++ []
def dkwX2_test_2 : List UInt8 := [187, 1, 95, 89, 43, 183, 1, 97, 58, 4, 25, 4, 180, 1, 107, 28, 153, 0, 14, 187, 1, 119, 89, 45]
abbrev dktX2_test_2 : List UInt8 := dkwX2_test_2 ++ dktX2_test_3
def dkwX2_test_1 : List UInt8 := [176, 42, 16, 60, 182, 0, 156, 61, 42, 89, 180, 0, 141, 4, 96, 181, 0, 141, 42, 182, 1, 116, 78]
abbrev dktX2_test_1 : List UInt8 := dkwX2_test_1 ++ dktX2_test_2
def dkwX2_test_0 : List UInt8 := [42, 182, 1, 116, 76, 42, 16, 60, 182, 0, 156, 154, 0, 14, 42, 16, 61, 182, 0, 156, 154, 0, 5, 43]
abbrev dktX2_test_0 : List UInt8 := dkwX2_test_0 ++ dktX2_test_1
theorem dksX2_test_0 : cX2_test.data.toList.drop 0 = dktX2_test_0 := by decide +kernel
theorem dksX2_test_1 : cX2_test.data.toList.drop 24 = dktX2_test_1 := dk_seg dksX2_test_0 24 rfl rfl
theorem dksX2_test_2 : cX2_test.data.toList.drop 47 = dktX2_test_2 := dk_seg dksX2_test_1 23 rfl rfl
theorem dksX2_test_3 : cX2_test.data.toList.drop 71 = dktX2_test_3 := dk_seg dksX2_test_2 24 rfl rfl
theorem dX2_test_0 : decode cX2_test 0 = .ok (.aload_n 0, 1) := dk_42 (dk_at dksX2_test_0 0 rfl rfl)
theorem dX2_test_1 : decode cX2_test 1 = .ok (.invokevirtual 372, 3) := dk_182 1 116 (dk_at dksX2_test_0 1 rfl rfl)
theorem dX2_test_4 : decode cX2_test 4 = .ok (.astore_n 1, 1) := dk_76 (dk_at dksX2_test_0 4 rfl rfl)
theorem dX2_test_5 : decode cX2_test 5 = .ok (.aload_n 0, 1) := dk_42 (dk_at dksX2_test_0 5 rfl rfl)
theorem dX2_test_6 : decode cX2_test 6 = .ok (.bipush 60, 2) := dk_16 60 (dk_at dksX2_test_0 6 rfl rfl)
theorem dX2_test_8 : decode cX2_test 8 = .ok (.invokevirtual 156, 3) := dk_182 0 156 (dk_at dksX2_test_0 8 rfl rfl)
theorem dX2_test_11 : decode cX2_test 11 = .ok (.ifCond .ne 14, 3) := dk_154 0 14 (dk_at dksX2_test_0 11 rfl rfl)
theorem dX2_test_14 : decode cX2_test 14 = .ok (.aload_n 0, 1) := dk_42 (dk_at dksX2_test_0 14 rfl rfl)
theorem dX2_test_15 : decode cX2_test 15 = .ok (.bipush 61, 2) := dk_16 61 (dk_at dksX2_test_0 15 rfl rfl)
theorem dX2_test_17 : decode cX2_test 17 = .ok (.invokevirtual 156, 3) := dk_182 0 156 (dk_at dksX2_test_0 17 rfl rfl)
theorem dX2_test_20 : decode cX2_test 20 = .ok (.ifCond .ne 5, 3) := dk_154 0 5 (dk_at dksX2_test_0 20 rfl rfl)
theorem dX2_test_23 : decode cX2_test 23 = .ok (.aload_n 1, 1) := dk_43 (dk_at dksX2_test_0 23 rfl rfl)
theorem dX2_test_24 : decode cX2_test 24 = .ok (.areturn, 1) := dk_176 (dk_at dksX2_test_1 0 rfl rfl)
theorem dX2_test_25 : decode cX2_test 25 = .ok (.aload_n 0, 1) := dk_42 (dk_at dksX2_test_1 1 rfl rfl)
theorem dX2_test_26 : decode cX2_test 26 = .ok (.bipush 60, 2) := dk_16 60 (dk_at dksX2_test_1 2 rfl rfl)
theorem dX2_test_28 : decode cX2_test 28 = .ok (.invokevirtual 156, 3) := dk_182 0 156 (dk_at dksX2_test_1 4 rfl rfl)
theorem dX2_test_31 : decode cX2_test 31 = .ok (.istore_n 2, 1) := dk_61 (dk_at dksX2_test_1 7 rfl rfl)
theorem dX2_test_32 : decode cX2_test 32 = .ok (.aload_n 0, 1) := dk_42 (dk_at dksX2_test_1 8 rfl rfl)
theorem dX2_test_33 : decode cX2_test 33 = .ok (.dup, 1) := dk_89 (dk_at dksX2_test_1 9 rfl rfl)
theorem dX2_test_34 : decode cX2_test 34 = .ok (.getfield 141, 3) := dk_180 0 141 (dk_at dksX2_test_1 10 rfl rfl)
theorem dX2_test_37 : decode cX2_test 37 = .ok (.iconst 1, 1) := dk_4 (dk_at dksX2_test_1 13 rfl rfl)
theorem dX2_test_38 : decode cX2_test 38 = .ok (.iadd, 1) := dk_96 (dk_at dksX2_test_1 14 rfl rfl)
theorem dX2_test_39 : decode cX2_test 39 = .ok (.putfield 141, 3) := dk_181 0 141 (dk_at dksX2_test_1 15 rfl rfl)
theorem dX2_test_42 : decode cX2_test 42 = .ok (.aload_n 0, 1) := dk_42 (dk_at dksX2_test_1 18 rfl rfl)
theorem dX2_test_43 : decode cX2_test 43 = .ok (.invokevirtual 372, 3) := dk_182 1 116 (dk_at dksX2_test_1 19 rfl rfl)
theorem dX2_test_46 : decode cX2_test 46 = .ok (.astore_n 3, 1) := dk_78 (dk_at dksX2_test_1 22 rfl rfl)
theorem dX2_test_47 : decode cX2_test 47 = .ok (.new 351, 3) := dk_187 1 95 (dk_at dksX2_test_2 0 rfl rfl)
theorem dX2_test_50 : decode cX2_test 50 = .ok (.dup, 1) := dk_89 (dk_at dksX2_test_2 3 rfl rfl)
theorem dX2_test_51 : decode cX2_test 51 = .ok (.aload_n 1, 1) := dk_43 (dk_at dksX2_test_2 4 rfl rfl)
theorem dX2_test_52 : decode cX2_test 52 = .ok (.invokespecial 353, 3) := dk_183 1 97 (dk_at dksX2_test_2 5 rfl rfl)
theorem dX2_test_55 : decode cX2_test 55 = .ok (.astore 4, 2) := dk_58 4 (dk_at dksX2_test_2 8 rfl rfl)
theorem dX2_test_57 : decode cX2_test 57 = .ok (.aload 4, 2) := dk_25 4 (dk_at dksX2_test_2 10 rfl rfl)
theorem dX2_test_59 : decode cX2_test 59 = .ok (.getfield 363, 3) := dk_180 1 107 (dk_at dksX2_test_2 12 rfl rfl)
theorem dX2_test_62 : decode cX2_test 62 = .ok (.iload_n 2, 1) := dk_28 (dk_at dksX2_test_2 15 rfl rfl)
theorem dX2_test_63 : decode cX2_test 63 = .ok (.ifCond .eq 14, 3) := dk_153 0 14 (dk_at dksX2_test_2 16 rfl rfl)
theorem dX2_test_66 : decode cX2_test 66 = .ok (.new 375, 3) := dk_187 1 119 (dk_at dksX2_test_2 19 rfl rfl)
theorem dX2_test_69 : decode cX2_test 69 = .ok (.dup, 1) := dk_89 (dk_at dksX2_test_2 22 rfl rfl)
theorem dX2_test_70 : decode cX2_test 70 = .ok (.aload_n 3, 1) := dk_45 (dk_at dksX2_test_2 23 rfl rfl)
theorem dX2_test_71 : decode cX2_test 71 = .ok (.invokespecial 377, 3) := dk_183 1 121 (dk_at dksX2_test_3 0 rfl rfl)
theorem dX2_test_74 : decode cX2_test 74 = .ok (.goto 11, 3) := dk_167 0 11 (dk_at dksX2_test_3 3 rfl rfl)
theorem dX2_test_77 : decode cX2_test 77 = .ok (.new 378, 3) := dk_187 1 122 (dk_at dksX2_test_3 6 rfl rfl)
theorem dX2_test_80 : decode cX2_test 80 = .ok (.dup, 1) := dk_89 (dk_at dksX2_test_3 9 rfl rfl)
theorem dX2_test_81 : decode cX2_test 81 = .ok (.aload_n 3, 1) := dk_45 (dk_at dksX2_test_3 10 rfl rfl)
theorem dX2_test_82 : decode cX2_test 82 = .ok (.invokespecial 380, 3) := dk_183 1 124 (dk_at dksX2_test_3 11 rfl rfl)
theorem dX2_test_85 : decode cX2_test 85 = .ok (.invokevirtual 245, 3) := dk_182 0 245 (dk_at dksX2_test_3 14 rfl rfl)
theorem dX2_test_88 : decode cX2_test 88 = .ok (.pop, 1) := dk_87 (dk_at dksX2_test_3 17 rfl rfl)
theorem dX2_test_89 : decode cX2_test 89 = .ok (.aload 4, 2) := dk_25 4 (dk_at dksX2_test_3 18 rfl rfl)
theorem dX2_test_91 : decode cX2_test 91 = .ok (.areturn, 1) := dk_176 (dk_at dksX2_test_3 20 rfl rfl)
abbrev cX2_sum : ByteArray := prog_27_method_39_code
def yX2_sum : MethodName := ⟨RX2, "sum", "()LNameOrchard$Expression;"⟩
def dkwX2_sum_4 : List UInt8 := [199, 0, 7, 43, 167, 0, 4, 44, 176]
abbrev dktX2_sum_4 : List UInt8 := dkwX2_sum_4 ++ []
def dkwX2_sum_3 : List UInt8 := [183, 1, 130, 167, 0, 12, 187, 1, 131, 89, 25, 4, 183, 1, 133, 182, 0, 245, 87, 167, 255, 176, 44]
abbrev dktX2_sum_3 : List UInt8 := dkwX2_sum_3 ++ dktX2_sum_4
def dkwX2_sum_2 : List UInt8 := [58, 4, 43, 44, 184, 1, 103, 77, 44, 180, 1, 107, 29, 153, 0, 15, 187, 1, 128, 89, 25, 4]
abbrev dktX2_sum_2 : List UInt8 := dkwX2_sum_2 ++ dktX2_sum_3
def dkwX2_sum_1 : List UInt8 := [153, 0, 68, 42, 16, 43, 182, 0, 156, 62, 42, 89, 180, 0, 141, 4, 96, 181, 0, 141, 42, 182, 1, 125]
abbrev dktX2_sum_1 : List UInt8 := dkwX2_sum_1 ++ dktX2_sum_2
def dkwX2_sum_0 : List UInt8 := [42, 182, 1, 125, 76, 1, 77, 42, 16, 43, 182, 0, 156, 154, 0, 12, 42, 16, 45, 182, 0, 156]
abbrev dktX2_sum_0 : List UInt8 := dkwX2_sum_0 ++ dktX2_sum_1
theorem dksX2_sum_0 : cX2_sum.data.toList.drop 0 = dktX2_sum_0 := by decide +kernel
theorem dksX2_sum_1 : cX2_sum.data.toList.drop 22 = dktX2_sum_1 := dk_seg dksX2_sum_0 22 rfl rfl
theorem dksX2_sum_2 : cX2_sum.data.toList.drop 46 = dktX2_sum_2 := dk_seg dksX2_sum_1 24 rfl rfl
theorem dksX2_sum_3 : cX2_sum.data.toList.drop 68 = dktX2_sum_3 := dk_seg dksX2_sum_2 22 rfl rfl
theorem dksX2_sum_4 : cX2_sum.data.toList.drop 91 = dktX2_sum_4 := dk_seg dksX2_sum_3 23 rfl rfl
theorem dX2_sum_0 : decode cX2_sum 0 = .ok (.aload_n 0, 1) := dk_42 (dk_at dksX2_sum_0 0 rfl rfl)
theorem dX2_sum_1 : decode cX2_sum 1 = .ok (.invokevirtual 381, 3) := dk_182 1 125 (dk_at dksX2_sum_0 1 rfl rfl)
theorem dX2_sum_4 : decode cX2_sum 4 = .ok (.astore_n 1, 1) := dk_76 (dk_at dksX2_sum_0 4 rfl rfl)
theorem dX2_sum_5 : decode cX2_sum 5 = .ok (.aconst_null, 1) := dk_1 (dk_at dksX2_sum_0 5 rfl rfl)
theorem dX2_sum_6 : decode cX2_sum 6 = .ok (.astore_n 2, 1) := dk_77 (dk_at dksX2_sum_0 6 rfl rfl)
theorem dX2_sum_7 : decode cX2_sum 7 = .ok (.aload_n 0, 1) := dk_42 (dk_at dksX2_sum_0 7 rfl rfl)
theorem dX2_sum_8 : decode cX2_sum 8 = .ok (.bipush 43, 2) := dk_16 43 (dk_at dksX2_sum_0 8 rfl rfl)
theorem dX2_sum_10 : decode cX2_sum 10 = .ok (.invokevirtual 156, 3) := dk_182 0 156 (dk_at dksX2_sum_0 10 rfl rfl)
theorem dX2_sum_13 : decode cX2_sum 13 = .ok (.ifCond .ne 12, 3) := dk_154 0 12 (dk_at dksX2_sum_0 13 rfl rfl)
theorem dX2_sum_16 : decode cX2_sum 16 = .ok (.aload_n 0, 1) := dk_42 (dk_at dksX2_sum_0 16 rfl rfl)
theorem dX2_sum_17 : decode cX2_sum 17 = .ok (.bipush 45, 2) := dk_16 45 (dk_at dksX2_sum_0 17 rfl rfl)
theorem dX2_sum_19 : decode cX2_sum 19 = .ok (.invokevirtual 156, 3) := dk_182 0 156 (dk_at dksX2_sum_0 19 rfl rfl)
theorem dX2_sum_22 : decode cX2_sum 22 = .ok (.ifCond .eq 68, 3) := dk_153 0 68 (dk_at dksX2_sum_1 0 rfl rfl)
theorem dX2_sum_25 : decode cX2_sum 25 = .ok (.aload_n 0, 1) := dk_42 (dk_at dksX2_sum_1 3 rfl rfl)
theorem dX2_sum_26 : decode cX2_sum 26 = .ok (.bipush 43, 2) := dk_16 43 (dk_at dksX2_sum_1 4 rfl rfl)
theorem dX2_sum_28 : decode cX2_sum 28 = .ok (.invokevirtual 156, 3) := dk_182 0 156 (dk_at dksX2_sum_1 6 rfl rfl)
theorem dX2_sum_31 : decode cX2_sum 31 = .ok (.istore_n 3, 1) := dk_62 (dk_at dksX2_sum_1 9 rfl rfl)
theorem dX2_sum_32 : decode cX2_sum 32 = .ok (.aload_n 0, 1) := dk_42 (dk_at dksX2_sum_1 10 rfl rfl)
theorem dX2_sum_33 : decode cX2_sum 33 = .ok (.dup, 1) := dk_89 (dk_at dksX2_sum_1 11 rfl rfl)
theorem dX2_sum_34 : decode cX2_sum 34 = .ok (.getfield 141, 3) := dk_180 0 141 (dk_at dksX2_sum_1 12 rfl rfl)
theorem dX2_sum_37 : decode cX2_sum 37 = .ok (.iconst 1, 1) := dk_4 (dk_at dksX2_sum_1 15 rfl rfl)
theorem dX2_sum_38 : decode cX2_sum 38 = .ok (.iadd, 1) := dk_96 (dk_at dksX2_sum_1 16 rfl rfl)
theorem dX2_sum_39 : decode cX2_sum 39 = .ok (.putfield 141, 3) := dk_181 0 141 (dk_at dksX2_sum_1 17 rfl rfl)
theorem dX2_sum_42 : decode cX2_sum 42 = .ok (.aload_n 0, 1) := dk_42 (dk_at dksX2_sum_1 20 rfl rfl)
theorem dX2_sum_43 : decode cX2_sum 43 = .ok (.invokevirtual 381, 3) := dk_182 1 125 (dk_at dksX2_sum_1 21 rfl rfl)
theorem dX2_sum_46 : decode cX2_sum 46 = .ok (.astore 4, 2) := dk_58 4 (dk_at dksX2_sum_2 0 rfl rfl)
theorem dX2_sum_48 : decode cX2_sum 48 = .ok (.aload_n 1, 1) := dk_43 (dk_at dksX2_sum_2 2 rfl rfl)
theorem dX2_sum_49 : decode cX2_sum 49 = .ok (.aload_n 2, 1) := dk_44 (dk_at dksX2_sum_2 3 rfl rfl)
theorem dX2_sum_50 : decode cX2_sum 50 = .ok (.invokestatic 359, 3) := dk_184 1 103 (dk_at dksX2_sum_2 4 rfl rfl)
theorem dX2_sum_53 : decode cX2_sum 53 = .ok (.astore_n 2, 1) := dk_77 (dk_at dksX2_sum_2 7 rfl rfl)
theorem dX2_sum_54 : decode cX2_sum 54 = .ok (.aload_n 2, 1) := dk_44 (dk_at dksX2_sum_2 8 rfl rfl)
theorem dX2_sum_55 : decode cX2_sum 55 = .ok (.getfield 363, 3) := dk_180 1 107 (dk_at dksX2_sum_2 9 rfl rfl)
theorem dX2_sum_58 : decode cX2_sum 58 = .ok (.iload_n 3, 1) := dk_29 (dk_at dksX2_sum_2 12 rfl rfl)
theorem dX2_sum_59 : decode cX2_sum 59 = .ok (.ifCond .eq 15, 3) := dk_153 0 15 (dk_at dksX2_sum_2 13 rfl rfl)
theorem dX2_sum_62 : decode cX2_sum 62 = .ok (.new 384, 3) := dk_187 1 128 (dk_at dksX2_sum_2 16 rfl rfl)
theorem dX2_sum_65 : decode cX2_sum 65 = .ok (.dup, 1) := dk_89 (dk_at dksX2_sum_2 19 rfl rfl)
theorem dX2_sum_66 : decode cX2_sum 66 = .ok (.aload 4, 2) := dk_25 4 (dk_at dksX2_sum_2 20 rfl rfl)
theorem dX2_sum_68 : decode cX2_sum 68 = .ok (.invokespecial 386, 3) := dk_183 1 130 (dk_at dksX2_sum_3 0 rfl rfl)
theorem dX2_sum_71 : decode cX2_sum 71 = .ok (.goto 12, 3) := dk_167 0 12 (dk_at dksX2_sum_3 3 rfl rfl)
theorem dX2_sum_74 : decode cX2_sum 74 = .ok (.new 387, 3) := dk_187 1 131 (dk_at dksX2_sum_3 6 rfl rfl)
theorem dX2_sum_77 : decode cX2_sum 77 = .ok (.dup, 1) := dk_89 (dk_at dksX2_sum_3 9 rfl rfl)
theorem dX2_sum_78 : decode cX2_sum 78 = .ok (.aload 4, 2) := dk_25 4 (dk_at dksX2_sum_3 10 rfl rfl)
theorem dX2_sum_80 : decode cX2_sum 80 = .ok (.invokespecial 389, 3) := dk_183 1 133 (dk_at dksX2_sum_3 12 rfl rfl)
theorem dX2_sum_83 : decode cX2_sum 83 = .ok (.invokevirtual 245, 3) := dk_182 0 245 (dk_at dksX2_sum_3 15 rfl rfl)
theorem dX2_sum_86 : decode cX2_sum 86 = .ok (.pop, 1) := dk_87 (dk_at dksX2_sum_3 18 rfl rfl)
theorem dX2_sum_87 : decode cX2_sum 87 = .ok (.goto (-80), 3) := dk_167 255 176 (dk_at dksX2_sum_3 19 rfl rfl)
theorem dX2_sum_90 : decode cX2_sum 90 = .ok (.aload_n 2, 1) := dk_44 (dk_at dksX2_sum_3 22 rfl rfl)
theorem dX2_sum_91 : decode cX2_sum 91 = .ok (.ifnonnull 7, 3) := dk_199 0 7 (dk_at dksX2_sum_4 0 rfl rfl)
theorem dX2_sum_94 : decode cX2_sum 94 = .ok (.aload_n 1, 1) := dk_43 (dk_at dksX2_sum_4 3 rfl rfl)
theorem dX2_sum_95 : decode cX2_sum 95 = .ok (.goto 4, 3) := dk_167 0 4 (dk_at dksX2_sum_4 4 rfl rfl)
theorem dX2_sum_98 : decode cX2_sum 98 = .ok (.aload_n 2, 1) := dk_44 (dk_at dksX2_sum_4 7 rfl rfl)
theorem dX2_sum_99 : decode cX2_sum 99 = .ok (.areturn, 1) := dk_176 (dk_at dksX2_sum_4 8 rfl rfl)
abbrev cX2_term : ByteArray := prog_27_method_40_code
def yX2_term : MethodName := ⟨RX2, "term", "()LNameOrchard$Expression;"⟩
def dkwX2_term_2 : List UInt8 := [199, 0, 7, 43, 167, 0, 4, 44, 176]
abbrev dktX2_term_2 : List UInt8 := dkwX2_term_2 ++ []
def dkwX2_term_1 : List UInt8 := [184, 1, 103, 77, 44, 180, 1, 107, 187, 1, 137, 89, 45, 183, 1, 139, 182, 0, 245, 87, 167, 255, 220, 44]
abbrev dktX2_term_1 : List UInt8 := dkwX2_term_1 ++ dktX2_term_2
def dkwX2_term_0 : List UInt8 := [42, 182, 1, 134, 76, 1, 77, 42, 16, 42, 182, 0, 159, 153, 0, 33, 42, 182, 1, 134, 78, 43, 44]
abbrev dktX2_term_0 : List UInt8 := dkwX2_term_0 ++ dktX2_term_1
theorem dksX2_term_0 : cX2_term.data.toList.drop 0 = dktX2_term_0 := by decide +kernel
theorem dksX2_term_1 : cX2_term.data.toList.drop 23 = dktX2_term_1 := dk_seg dksX2_term_0 23 rfl rfl
theorem dksX2_term_2 : cX2_term.data.toList.drop 47 = dktX2_term_2 := dk_seg dksX2_term_1 24 rfl rfl
theorem dX2_term_0 : decode cX2_term 0 = .ok (.aload_n 0, 1) := dk_42 (dk_at dksX2_term_0 0 rfl rfl)
theorem dX2_term_1 : decode cX2_term 1 = .ok (.invokevirtual 390, 3) := dk_182 1 134 (dk_at dksX2_term_0 1 rfl rfl)
theorem dX2_term_4 : decode cX2_term 4 = .ok (.astore_n 1, 1) := dk_76 (dk_at dksX2_term_0 4 rfl rfl)
theorem dX2_term_5 : decode cX2_term 5 = .ok (.aconst_null, 1) := dk_1 (dk_at dksX2_term_0 5 rfl rfl)
theorem dX2_term_6 : decode cX2_term 6 = .ok (.astore_n 2, 1) := dk_77 (dk_at dksX2_term_0 6 rfl rfl)
theorem dX2_term_7 : decode cX2_term 7 = .ok (.aload_n 0, 1) := dk_42 (dk_at dksX2_term_0 7 rfl rfl)
theorem dX2_term_8 : decode cX2_term 8 = .ok (.bipush 42, 2) := dk_16 42 (dk_at dksX2_term_0 8 rfl rfl)
theorem dX2_term_10 : decode cX2_term 10 = .ok (.invokevirtual 159, 3) := dk_182 0 159 (dk_at dksX2_term_0 10 rfl rfl)
theorem dX2_term_13 : decode cX2_term 13 = .ok (.ifCond .eq 33, 3) := dk_153 0 33 (dk_at dksX2_term_0 13 rfl rfl)
theorem dX2_term_16 : decode cX2_term 16 = .ok (.aload_n 0, 1) := dk_42 (dk_at dksX2_term_0 16 rfl rfl)
theorem dX2_term_17 : decode cX2_term 17 = .ok (.invokevirtual 390, 3) := dk_182 1 134 (dk_at dksX2_term_0 17 rfl rfl)
theorem dX2_term_20 : decode cX2_term 20 = .ok (.astore_n 3, 1) := dk_78 (dk_at dksX2_term_0 20 rfl rfl)
theorem dX2_term_21 : decode cX2_term 21 = .ok (.aload_n 1, 1) := dk_43 (dk_at dksX2_term_0 21 rfl rfl)
theorem dX2_term_22 : decode cX2_term 22 = .ok (.aload_n 2, 1) := dk_44 (dk_at dksX2_term_0 22 rfl rfl)
theorem dX2_term_23 : decode cX2_term 23 = .ok (.invokestatic 359, 3) := dk_184 1 103 (dk_at dksX2_term_1 0 rfl rfl)
theorem dX2_term_26 : decode cX2_term 26 = .ok (.astore_n 2, 1) := dk_77 (dk_at dksX2_term_1 3 rfl rfl)
theorem dX2_term_27 : decode cX2_term 27 = .ok (.aload_n 2, 1) := dk_44 (dk_at dksX2_term_1 4 rfl rfl)
theorem dX2_term_28 : decode cX2_term 28 = .ok (.getfield 363, 3) := dk_180 1 107 (dk_at dksX2_term_1 5 rfl rfl)
theorem dX2_term_31 : decode cX2_term 31 = .ok (.new 393, 3) := dk_187 1 137 (dk_at dksX2_term_1 8 rfl rfl)
theorem dX2_term_34 : decode cX2_term 34 = .ok (.dup, 1) := dk_89 (dk_at dksX2_term_1 11 rfl rfl)
theorem dX2_term_35 : decode cX2_term 35 = .ok (.aload_n 3, 1) := dk_45 (dk_at dksX2_term_1 12 rfl rfl)
theorem dX2_term_36 : decode cX2_term 36 = .ok (.invokespecial 395, 3) := dk_183 1 139 (dk_at dksX2_term_1 13 rfl rfl)
theorem dX2_term_39 : decode cX2_term 39 = .ok (.invokevirtual 245, 3) := dk_182 0 245 (dk_at dksX2_term_1 16 rfl rfl)
theorem dX2_term_42 : decode cX2_term 42 = .ok (.pop, 1) := dk_87 (dk_at dksX2_term_1 19 rfl rfl)
theorem dX2_term_43 : decode cX2_term 43 = .ok (.goto (-36), 3) := dk_167 255 220 (dk_at dksX2_term_1 20 rfl rfl)
theorem dX2_term_46 : decode cX2_term 46 = .ok (.aload_n 2, 1) := dk_44 (dk_at dksX2_term_1 23 rfl rfl)
theorem dX2_term_47 : decode cX2_term 47 = .ok (.ifnonnull 7, 3) := dk_199 0 7 (dk_at dksX2_term_2 0 rfl rfl)
theorem dX2_term_50 : decode cX2_term 50 = .ok (.aload_n 1, 1) := dk_43 (dk_at dksX2_term_2 3 rfl rfl)
theorem dX2_term_51 : decode cX2_term 51 = .ok (.goto 4, 3) := dk_167 0 4 (dk_at dksX2_term_2 4 rfl rfl)
theorem dX2_term_54 : decode cX2_term 54 = .ok (.aload_n 2, 1) := dk_44 (dk_at dksX2_term_2 7 rfl rfl)
theorem dX2_term_55 : decode cX2_term 55 = .ok (.areturn, 1) := dk_176 (dk_at dksX2_term_2 8 rfl rfl)
abbrev cX2_part : ByteArray := prog_27_method_41_code
def yX2_part : MethodName := ⟨RX2, "part", "()LNameOrchard$Expression;"⟩
def dkwX2_part_8 : List UInt8 := [45, 176]
abbrev dktX2_part_8 : List UInt8 := dkwX2_part_8 ++ []
def dkwX2_part_7 : List UInt8 := [182, 1, 92, 78, 28, 154, 0, 9, 42, 16, 41, 182, 0, 197, 42, 89, 180, 1, 89, 4, 100, 181, 1, 89]
abbrev dktX2_part_7 : List UInt8 := dkwX2_part_7 ++ dktX2_part_8
def dkwX2_part_6 : List UInt8 := [181, 1, 89, 28, 153, 0, 17, 187, 1, 146, 89, 42, 182, 1, 134, 183, 1, 148, 167, 0, 7, 42]
abbrev dktX2_part_6 : List UInt8 := dkwX2_part_6 ++ dktX2_part_7
def dkwX2_part_5 : List UInt8 := [180, 0, 96, 42, 180, 0, 141, 4, 100, 47, 136, 183, 1, 145, 176, 42, 89, 180, 1, 89, 4, 96]
abbrev dktX2_part_5 : List UInt8 := dkwX2_part_5 ++ dktX2_part_6
def dkwX2_part_4 : List UInt8 := [154, 0, 38, 42, 180, 0, 93, 42, 180, 0, 141, 4, 100, 46, 5, 160, 0, 23, 187, 1, 143, 89, 42]
abbrev dktX2_part_4 : List UInt8 := dkwX2_part_4 ++ dktX2_part_5
def dkwX2_part_3 : List UInt8 := [89, 180, 0, 141, 4, 96, 181, 0, 141, 27, 2, 159, 0, 12, 187, 1, 140, 89, 27, 183, 1, 142, 176, 28]
abbrev dktX2_part_3 : List UInt8 := dkwX2_part_3 ++ dktX2_part_4
def dkwX2_part_2 : List UInt8 := [154, 0, 9, 42, 4, 182, 0, 162, 191, 42, 180, 1, 89, 8, 160, 0, 9, 42, 8, 182, 0, 162, 191, 42]
abbrev dktX2_part_2 : List UInt8 := dkwX2_part_2 ++ dktX2_part_3
def dkwX2_part_1 : List UInt8 := [154, 0, 31, 42, 180, 0, 93, 42, 180, 0, 141, 46, 5, 159, 0, 18, 42, 16, 40, 182, 0, 156]
abbrev dktX2_part_1 : List UInt8 := dkwX2_part_1 ++ dktX2_part_2
def dkwX2_part_0 : List UInt8 := [42, 42, 180, 0, 86, 182, 0, 166, 60, 42, 18, 77, 182, 0, 152, 61, 27, 2, 160, 0, 35, 28]
abbrev dktX2_part_0 : List UInt8 := dkwX2_part_0 ++ dktX2_part_1
theorem dksX2_part_0 : cX2_part.data.toList.drop 0 = dktX2_part_0 := by decide +kernel
theorem dksX2_part_1 : cX2_part.data.toList.drop 22 = dktX2_part_1 := dk_seg dksX2_part_0 22 rfl rfl
theorem dksX2_part_2 : cX2_part.data.toList.drop 44 = dktX2_part_2 := dk_seg dksX2_part_1 22 rfl rfl
theorem dksX2_part_3 : cX2_part.data.toList.drop 68 = dktX2_part_3 := dk_seg dksX2_part_2 24 rfl rfl
theorem dksX2_part_4 : cX2_part.data.toList.drop 92 = dktX2_part_4 := dk_seg dksX2_part_3 24 rfl rfl
theorem dksX2_part_5 : cX2_part.data.toList.drop 115 = dktX2_part_5 := dk_seg dksX2_part_4 23 rfl rfl
theorem dksX2_part_6 : cX2_part.data.toList.drop 137 = dktX2_part_6 := dk_seg dksX2_part_5 22 rfl rfl
theorem dksX2_part_7 : cX2_part.data.toList.drop 159 = dktX2_part_7 := dk_seg dksX2_part_6 22 rfl rfl
theorem dksX2_part_8 : cX2_part.data.toList.drop 183 = dktX2_part_8 := dk_seg dksX2_part_7 24 rfl rfl
theorem dX2_part_0 : decode cX2_part 0 = .ok (.aload_n 0, 1) := dk_42 (dk_at dksX2_part_0 0 rfl rfl)
theorem dX2_part_1 : decode cX2_part 1 = .ok (.aload_n 0, 1) := dk_42 (dk_at dksX2_part_0 1 rfl rfl)
theorem dX2_part_2 : decode cX2_part 2 = .ok (.getfield 86, 3) := dk_180 0 86 (dk_at dksX2_part_0 2 rfl rfl)
theorem dX2_part_5 : decode cX2_part 5 = .ok (.invokevirtual 166, 3) := dk_182 0 166 (dk_at dksX2_part_0 5 rfl rfl)
theorem dX2_part_8 : decode cX2_part 8 = .ok (.istore_n 1, 1) := dk_60 (dk_at dksX2_part_0 8 rfl rfl)
theorem dX2_part_9 : decode cX2_part 9 = .ok (.aload_n 0, 1) := dk_42 (dk_at dksX2_part_0 9 rfl rfl)
theorem dX2_part_10 : decode cX2_part 10 = .ok (.ldc 77, 2) := dk_18 77 (dk_at dksX2_part_0 10 rfl rfl)
theorem dX2_part_12 : decode cX2_part 12 = .ok (.invokevirtual 152, 3) := dk_182 0 152 (dk_at dksX2_part_0 12 rfl rfl)
theorem dX2_part_15 : decode cX2_part 15 = .ok (.istore_n 2, 1) := dk_61 (dk_at dksX2_part_0 15 rfl rfl)
theorem dX2_part_16 : decode cX2_part 16 = .ok (.iload_n 1, 1) := dk_27 (dk_at dksX2_part_0 16 rfl rfl)
theorem dX2_part_17 : decode cX2_part 17 = .ok (.iconst (-1), 1) := dk_2 (dk_at dksX2_part_0 17 rfl rfl)
theorem dX2_part_18 : decode cX2_part 18 = .ok (.if_icmp .ne 35, 3) := dk_160 0 35 (dk_at dksX2_part_0 18 rfl rfl)
theorem dX2_part_21 : decode cX2_part 21 = .ok (.iload_n 2, 1) := dk_28 (dk_at dksX2_part_0 21 rfl rfl)
theorem dX2_part_22 : decode cX2_part 22 = .ok (.ifCond .ne 31, 3) := dk_154 0 31 (dk_at dksX2_part_1 0 rfl rfl)
theorem dX2_part_25 : decode cX2_part 25 = .ok (.aload_n 0, 1) := dk_42 (dk_at dksX2_part_1 3 rfl rfl)
theorem dX2_part_26 : decode cX2_part 26 = .ok (.getfield 93, 3) := dk_180 0 93 (dk_at dksX2_part_1 4 rfl rfl)
theorem dX2_part_29 : decode cX2_part 29 = .ok (.aload_n 0, 1) := dk_42 (dk_at dksX2_part_1 7 rfl rfl)
theorem dX2_part_30 : decode cX2_part 30 = .ok (.getfield 141, 3) := dk_180 0 141 (dk_at dksX2_part_1 8 rfl rfl)
theorem dX2_part_33 : decode cX2_part 33 = .ok (.iaload, 1) := dk_46 (dk_at dksX2_part_1 11 rfl rfl)
theorem dX2_part_34 : decode cX2_part 34 = .ok (.iconst 2, 1) := dk_5 (dk_at dksX2_part_1 12 rfl rfl)
theorem dX2_part_35 : decode cX2_part 35 = .ok (.if_icmp .eq 18, 3) := dk_159 0 18 (dk_at dksX2_part_1 13 rfl rfl)
theorem dX2_part_38 : decode cX2_part 38 = .ok (.aload_n 0, 1) := dk_42 (dk_at dksX2_part_1 16 rfl rfl)
theorem dX2_part_39 : decode cX2_part 39 = .ok (.bipush 40, 2) := dk_16 40 (dk_at dksX2_part_1 17 rfl rfl)
theorem dX2_part_41 : decode cX2_part 41 = .ok (.invokevirtual 156, 3) := dk_182 0 156 (dk_at dksX2_part_1 19 rfl rfl)
theorem dX2_part_44 : decode cX2_part 44 = .ok (.ifCond .ne 9, 3) := dk_154 0 9 (dk_at dksX2_part_2 0 rfl rfl)
theorem dX2_part_47 : decode cX2_part 47 = .ok (.aload_n 0, 1) := dk_42 (dk_at dksX2_part_2 3 rfl rfl)
theorem dX2_part_48 : decode cX2_part 48 = .ok (.iconst 1, 1) := dk_4 (dk_at dksX2_part_2 4 rfl rfl)
theorem dX2_part_49 : decode cX2_part 49 = .ok (.invokevirtual 162, 3) := dk_182 0 162 (dk_at dksX2_part_2 5 rfl rfl)
theorem dX2_part_52 : decode cX2_part 52 = .ok (.athrow, 1) := dk_191 (dk_at dksX2_part_2 8 rfl rfl)
theorem dX2_part_53 : decode cX2_part 53 = .ok (.aload_n 0, 1) := dk_42 (dk_at dksX2_part_2 9 rfl rfl)
theorem dX2_part_54 : decode cX2_part 54 = .ok (.getfield 345, 3) := dk_180 1 89 (dk_at dksX2_part_2 10 rfl rfl)
theorem dX2_part_57 : decode cX2_part 57 = .ok (.iconst 5, 1) := dk_8 (dk_at dksX2_part_2 13 rfl rfl)
theorem dX2_part_58 : decode cX2_part 58 = .ok (.if_icmp .ne 9, 3) := dk_160 0 9 (dk_at dksX2_part_2 14 rfl rfl)
theorem dX2_part_61 : decode cX2_part 61 = .ok (.aload_n 0, 1) := dk_42 (dk_at dksX2_part_2 17 rfl rfl)
theorem dX2_part_62 : decode cX2_part 62 = .ok (.iconst 5, 1) := dk_8 (dk_at dksX2_part_2 18 rfl rfl)
theorem dX2_part_63 : decode cX2_part 63 = .ok (.invokevirtual 162, 3) := dk_182 0 162 (dk_at dksX2_part_2 19 rfl rfl)
theorem dX2_part_66 : decode cX2_part 66 = .ok (.athrow, 1) := dk_191 (dk_at dksX2_part_2 22 rfl rfl)
theorem dX2_part_67 : decode cX2_part 67 = .ok (.aload_n 0, 1) := dk_42 (dk_at dksX2_part_2 23 rfl rfl)
theorem dX2_part_68 : decode cX2_part 68 = .ok (.dup, 1) := dk_89 (dk_at dksX2_part_3 0 rfl rfl)
theorem dX2_part_69 : decode cX2_part 69 = .ok (.getfield 141, 3) := dk_180 0 141 (dk_at dksX2_part_3 1 rfl rfl)
theorem dX2_part_72 : decode cX2_part 72 = .ok (.iconst 1, 1) := dk_4 (dk_at dksX2_part_3 4 rfl rfl)
theorem dX2_part_73 : decode cX2_part 73 = .ok (.iadd, 1) := dk_96 (dk_at dksX2_part_3 5 rfl rfl)
theorem dX2_part_74 : decode cX2_part 74 = .ok (.putfield 141, 3) := dk_181 0 141 (dk_at dksX2_part_3 6 rfl rfl)
theorem dX2_part_77 : decode cX2_part 77 = .ok (.iload_n 1, 1) := dk_27 (dk_at dksX2_part_3 9 rfl rfl)
theorem dX2_part_78 : decode cX2_part 78 = .ok (.iconst (-1), 1) := dk_2 (dk_at dksX2_part_3 10 rfl rfl)
theorem dX2_part_79 : decode cX2_part 79 = .ok (.if_icmp .eq 12, 3) := dk_159 0 12 (dk_at dksX2_part_3 11 rfl rfl)
theorem dX2_part_82 : decode cX2_part 82 = .ok (.new 396, 3) := dk_187 1 140 (dk_at dksX2_part_3 14 rfl rfl)
theorem dX2_part_85 : decode cX2_part 85 = .ok (.dup, 1) := dk_89 (dk_at dksX2_part_3 17 rfl rfl)
theorem dX2_part_86 : decode cX2_part 86 = .ok (.iload_n 1, 1) := dk_27 (dk_at dksX2_part_3 18 rfl rfl)
theorem dX2_part_87 : decode cX2_part 87 = .ok (.invokespecial 398, 3) := dk_183 1 142 (dk_at dksX2_part_3 19 rfl rfl)
theorem dX2_part_90 : decode cX2_part 90 = .ok (.areturn, 1) := dk_176 (dk_at dksX2_part_3 22 rfl rfl)
theorem dX2_part_91 : decode cX2_part 91 = .ok (.iload_n 2, 1) := dk_28 (dk_at dksX2_part_3 23 rfl rfl)
theorem dX2_part_92 : decode cX2_part 92 = .ok (.ifCond .ne 38, 3) := dk_154 0 38 (dk_at dksX2_part_4 0 rfl rfl)
theorem dX2_part_95 : decode cX2_part 95 = .ok (.aload_n 0, 1) := dk_42 (dk_at dksX2_part_4 3 rfl rfl)
theorem dX2_part_96 : decode cX2_part 96 = .ok (.getfield 93, 3) := dk_180 0 93 (dk_at dksX2_part_4 4 rfl rfl)
theorem dX2_part_99 : decode cX2_part 99 = .ok (.aload_n 0, 1) := dk_42 (dk_at dksX2_part_4 7 rfl rfl)
theorem dX2_part_100 : decode cX2_part 100 = .ok (.getfield 141, 3) := dk_180 0 141 (dk_at dksX2_part_4 8 rfl rfl)
theorem dX2_part_103 : decode cX2_part 103 = .ok (.iconst 1, 1) := dk_4 (dk_at dksX2_part_4 11 rfl rfl)
theorem dX2_part_104 : decode cX2_part 104 = .ok (.isub, 1) := dk_100 (dk_at dksX2_part_4 12 rfl rfl)
theorem dX2_part_105 : decode cX2_part 105 = .ok (.iaload, 1) := dk_46 (dk_at dksX2_part_4 13 rfl rfl)
theorem dX2_part_106 : decode cX2_part 106 = .ok (.iconst 2, 1) := dk_5 (dk_at dksX2_part_4 14 rfl rfl)
theorem dX2_part_107 : decode cX2_part 107 = .ok (.if_icmp .ne 23, 3) := dk_160 0 23 (dk_at dksX2_part_4 15 rfl rfl)
theorem dX2_part_110 : decode cX2_part 110 = .ok (.new 399, 3) := dk_187 1 143 (dk_at dksX2_part_4 18 rfl rfl)
theorem dX2_part_113 : decode cX2_part 113 = .ok (.dup, 1) := dk_89 (dk_at dksX2_part_4 21 rfl rfl)
theorem dX2_part_114 : decode cX2_part 114 = .ok (.aload_n 0, 1) := dk_42 (dk_at dksX2_part_4 22 rfl rfl)
theorem dX2_part_115 : decode cX2_part 115 = .ok (.getfield 96, 3) := dk_180 0 96 (dk_at dksX2_part_5 0 rfl rfl)
theorem dX2_part_118 : decode cX2_part 118 = .ok (.aload_n 0, 1) := dk_42 (dk_at dksX2_part_5 3 rfl rfl)
theorem dX2_part_119 : decode cX2_part 119 = .ok (.getfield 141, 3) := dk_180 0 141 (dk_at dksX2_part_5 4 rfl rfl)
theorem dX2_part_122 : decode cX2_part 122 = .ok (.iconst 1, 1) := dk_4 (dk_at dksX2_part_5 7 rfl rfl)
theorem dX2_part_123 : decode cX2_part 123 = .ok (.isub, 1) := dk_100 (dk_at dksX2_part_5 8 rfl rfl)
theorem dX2_part_124 : decode cX2_part 124 = .ok (.laload, 1) := dk_47 (dk_at dksX2_part_5 9 rfl rfl)
theorem dX2_part_125 : decode cX2_part 125 = .ok (.l2i, 1) := dk_136 (dk_at dksX2_part_5 10 rfl rfl)
theorem dX2_part_126 : decode cX2_part 126 = .ok (.invokespecial 401, 3) := dk_183 1 145 (dk_at dksX2_part_5 11 rfl rfl)
theorem dX2_part_129 : decode cX2_part 129 = .ok (.areturn, 1) := dk_176 (dk_at dksX2_part_5 14 rfl rfl)
theorem dX2_part_130 : decode cX2_part 130 = .ok (.aload_n 0, 1) := dk_42 (dk_at dksX2_part_5 15 rfl rfl)
theorem dX2_part_131 : decode cX2_part 131 = .ok (.dup, 1) := dk_89 (dk_at dksX2_part_5 16 rfl rfl)
theorem dX2_part_132 : decode cX2_part 132 = .ok (.getfield 345, 3) := dk_180 1 89 (dk_at dksX2_part_5 17 rfl rfl)
theorem dX2_part_135 : decode cX2_part 135 = .ok (.iconst 1, 1) := dk_4 (dk_at dksX2_part_5 20 rfl rfl)
theorem dX2_part_136 : decode cX2_part 136 = .ok (.iadd, 1) := dk_96 (dk_at dksX2_part_5 21 rfl rfl)
theorem dX2_part_137 : decode cX2_part 137 = .ok (.putfield 345, 3) := dk_181 1 89 (dk_at dksX2_part_6 0 rfl rfl)
theorem dX2_part_140 : decode cX2_part 140 = .ok (.iload_n 2, 1) := dk_28 (dk_at dksX2_part_6 3 rfl rfl)
theorem dX2_part_141 : decode cX2_part 141 = .ok (.ifCond .eq 17, 3) := dk_153 0 17 (dk_at dksX2_part_6 4 rfl rfl)
theorem dX2_part_144 : decode cX2_part 144 = .ok (.new 402, 3) := dk_187 1 146 (dk_at dksX2_part_6 7 rfl rfl)
theorem dX2_part_147 : decode cX2_part 147 = .ok (.dup, 1) := dk_89 (dk_at dksX2_part_6 10 rfl rfl)
theorem dX2_part_148 : decode cX2_part 148 = .ok (.aload_n 0, 1) := dk_42 (dk_at dksX2_part_6 11 rfl rfl)
theorem dX2_part_149 : decode cX2_part 149 = .ok (.invokevirtual 390, 3) := dk_182 1 134 (dk_at dksX2_part_6 12 rfl rfl)
theorem dX2_part_152 : decode cX2_part 152 = .ok (.invokespecial 404, 3) := dk_183 1 148 (dk_at dksX2_part_6 15 rfl rfl)
theorem dX2_part_155 : decode cX2_part 155 = .ok (.goto 7, 3) := dk_167 0 7 (dk_at dksX2_part_6 18 rfl rfl)
theorem dX2_part_158 : decode cX2_part 158 = .ok (.aload_n 0, 1) := dk_42 (dk_at dksX2_part_6 21 rfl rfl)
theorem dX2_part_159 : decode cX2_part 159 = .ok (.invokevirtual 348, 3) := dk_182 1 92 (dk_at dksX2_part_7 0 rfl rfl)
theorem dX2_part_162 : decode cX2_part 162 = .ok (.astore_n 3, 1) := dk_78 (dk_at dksX2_part_7 3 rfl rfl)
theorem dX2_part_163 : decode cX2_part 163 = .ok (.iload_n 2, 1) := dk_28 (dk_at dksX2_part_7 4 rfl rfl)
theorem dX2_part_164 : decode cX2_part 164 = .ok (.ifCond .ne 9, 3) := dk_154 0 9 (dk_at dksX2_part_7 5 rfl rfl)
theorem dX2_part_167 : decode cX2_part 167 = .ok (.aload_n 0, 1) := dk_42 (dk_at dksX2_part_7 8 rfl rfl)
theorem dX2_part_168 : decode cX2_part 168 = .ok (.bipush 41, 2) := dk_16 41 (dk_at dksX2_part_7 9 rfl rfl)
theorem dX2_part_170 : decode cX2_part 170 = .ok (.invokevirtual 197, 3) := dk_182 0 197 (dk_at dksX2_part_7 11 rfl rfl)
theorem dX2_part_173 : decode cX2_part 173 = .ok (.aload_n 0, 1) := dk_42 (dk_at dksX2_part_7 14 rfl rfl)
theorem dX2_part_174 : decode cX2_part 174 = .ok (.dup, 1) := dk_89 (dk_at dksX2_part_7 15 rfl rfl)
theorem dX2_part_175 : decode cX2_part 175 = .ok (.getfield 345, 3) := dk_180 1 89 (dk_at dksX2_part_7 16 rfl rfl)
theorem dX2_part_178 : decode cX2_part 178 = .ok (.iconst 1, 1) := dk_4 (dk_at dksX2_part_7 19 rfl rfl)
theorem dX2_part_179 : decode cX2_part 179 = .ok (.isub, 1) := dk_100 (dk_at dksX2_part_7 20 rfl rfl)
theorem dX2_part_180 : decode cX2_part 180 = .ok (.putfield 345, 3) := dk_181 1 89 (dk_at dksX2_part_7 21 rfl rfl)
theorem dX2_part_183 : decode cX2_part 183 = .ok (.aload_n 3, 1) := dk_45 (dk_at dksX2_part_8 0 rfl rfl)
theorem dX2_part_184 : decode cX2_part 184 = .ok (.areturn, 1) := dk_176 (dk_at dksX2_part_8 1 rfl rfl)
abbrev cX2_isSign : ByteArray := prog_27_method_11_code
def yX2_isSign : MethodName := ⟨RX2, "isSign", "(I)Z"⟩
def dkwX2_isSign_1 : List UInt8 := [148, 154, 0, 7, 4, 167, 0, 4, 3, 172]
abbrev dktX2_isSign_1 : List UInt8 := dkwX2_isSign_1 ++ []
def dkwX2_isSign_0 : List UInt8 := [42, 180, 0, 93, 42, 180, 0, 141, 46, 6, 160, 0, 22, 42, 180, 0, 96, 42, 180, 0, 141, 47, 27, 133]
abbrev dktX2_isSign_0 : List UInt8 := dkwX2_isSign_0 ++ dktX2_isSign_1
theorem dksX2_isSign_0 : cX2_isSign.data.toList.drop 0 = dktX2_isSign_0 := by decide +kernel
theorem dksX2_isSign_1 : cX2_isSign.data.toList.drop 24 = dktX2_isSign_1 := dk_seg dksX2_isSign_0 24 rfl rfl
theorem dX2_isSign_0 : decode cX2_isSign 0 = .ok (.aload_n 0, 1) := dk_42 (dk_at dksX2_isSign_0 0 rfl rfl)
theorem dX2_isSign_1 : decode cX2_isSign 1 = .ok (.getfield 93, 3) := dk_180 0 93 (dk_at dksX2_isSign_0 1 rfl rfl)
theorem dX2_isSign_4 : decode cX2_isSign 4 = .ok (.aload_n 0, 1) := dk_42 (dk_at dksX2_isSign_0 4 rfl rfl)
theorem dX2_isSign_5 : decode cX2_isSign 5 = .ok (.getfield 141, 3) := dk_180 0 141 (dk_at dksX2_isSign_0 5 rfl rfl)
theorem dX2_isSign_8 : decode cX2_isSign 8 = .ok (.iaload, 1) := dk_46 (dk_at dksX2_isSign_0 8 rfl rfl)
theorem dX2_isSign_9 : decode cX2_isSign 9 = .ok (.iconst 3, 1) := dk_6 (dk_at dksX2_isSign_0 9 rfl rfl)
theorem dX2_isSign_10 : decode cX2_isSign 10 = .ok (.if_icmp .ne 22, 3) := dk_160 0 22 (dk_at dksX2_isSign_0 10 rfl rfl)
theorem dX2_isSign_13 : decode cX2_isSign 13 = .ok (.aload_n 0, 1) := dk_42 (dk_at dksX2_isSign_0 13 rfl rfl)
theorem dX2_isSign_14 : decode cX2_isSign 14 = .ok (.getfield 96, 3) := dk_180 0 96 (dk_at dksX2_isSign_0 14 rfl rfl)
theorem dX2_isSign_17 : decode cX2_isSign 17 = .ok (.aload_n 0, 1) := dk_42 (dk_at dksX2_isSign_0 17 rfl rfl)
theorem dX2_isSign_18 : decode cX2_isSign 18 = .ok (.getfield 141, 3) := dk_180 0 141 (dk_at dksX2_isSign_0 18 rfl rfl)
theorem dX2_isSign_21 : decode cX2_isSign 21 = .ok (.laload, 1) := dk_47 (dk_at dksX2_isSign_0 21 rfl rfl)
theorem dX2_isSign_22 : decode cX2_isSign 22 = .ok (.iload_n 1, 1) := dk_27 (dk_at dksX2_isSign_0 22 rfl rfl)
theorem dX2_isSign_23 : decode cX2_isSign 23 = .ok (.i2l, 1) := dk_133 (dk_at dksX2_isSign_0 23 rfl rfl)
theorem dX2_isSign_24 : decode cX2_isSign 24 = .ok (.lcmp, 1) := dk_148 (dk_at dksX2_isSign_1 0 rfl rfl)
theorem dX2_isSign_25 : decode cX2_isSign 25 = .ok (.ifCond .ne 7, 3) := dk_154 0 7 (dk_at dksX2_isSign_1 1 rfl rfl)
theorem dX2_isSign_28 : decode cX2_isSign 28 = .ok (.iconst 1, 1) := dk_4 (dk_at dksX2_isSign_1 4 rfl rfl)
theorem dX2_isSign_29 : decode cX2_isSign 29 = .ok (.goto 4, 3) := dk_167 0 4 (dk_at dksX2_isSign_1 5 rfl rfl)
theorem dX2_isSign_32 : decode cX2_isSign 32 = .ok (.iconst 0, 1) := dk_3 (dk_at dksX2_isSign_1 8 rfl rfl)
theorem dX2_isSign_33 : decode cX2_isSign 33 = .ok (.ireturn, 1) := dk_172 (dk_at dksX2_isSign_1 9 rfl rfl)
abbrev cX2_sign : ByteArray := prog_27_method_13_code
def yX2_sign : MethodName := ⟨RX2, "sign", "(I)V"⟩
def dkwX2_sign_0 : List UInt8 := [42, 27, 182, 0, 159, 154, 0, 9, 42, 4, 182, 0, 162, 191, 177]
abbrev dktX2_sign_0 : List UInt8 := dkwX2_sign_0 ++ []
theorem dksX2_sign_0 : cX2_sign.data.toList.drop 0 = dktX2_sign_0 := by decide +kernel
theorem dX2_sign_0 : decode cX2_sign 0 = .ok (.aload_n 0, 1) := dk_42 (dk_at dksX2_sign_0 0 rfl rfl)
theorem dX2_sign_1 : decode cX2_sign 1 = .ok (.iload_n 1, 1) := dk_27 (dk_at dksX2_sign_0 1 rfl rfl)
theorem dX2_sign_2 : decode cX2_sign 2 = .ok (.invokevirtual 159, 3) := dk_182 0 159 (dk_at dksX2_sign_0 2 rfl rfl)
theorem dX2_sign_5 : decode cX2_sign 5 = .ok (.ifCond .ne 9, 3) := dk_154 0 9 (dk_at dksX2_sign_0 5 rfl rfl)
theorem dX2_sign_8 : decode cX2_sign 8 = .ok (.aload_n 0, 1) := dk_42 (dk_at dksX2_sign_0 8 rfl rfl)
theorem dX2_sign_9 : decode cX2_sign 9 = .ok (.iconst 1, 1) := dk_4 (dk_at dksX2_sign_0 9 rfl rfl)
theorem dX2_sign_10 : decode cX2_sign 10 = .ok (.invokevirtual 162, 3) := dk_182 0 162 (dk_at dksX2_sign_0 10 rfl rfl)
theorem dX2_sign_13 : decode cX2_sign 13 = .ok (.athrow, 1) := dk_191 (dk_at dksX2_sign_0 13 rfl rfl)
theorem dX2_sign_14 : decode cX2_sign 14 = .ok (.return_, 1) := dk_177 (dk_at dksX2_sign_0 14 rfl rfl)
abbrev cX2_hasSign : ByteArray := prog_27_method_12_code
def yX2_hasSign : MethodName := ⟨RX2, "hasSign", "(I)Z"⟩
def dkwX2_hasSign_0 : List UInt8 := [42, 27, 182, 0, 156, 61, 28, 153, 0, 13, 42, 89, 180, 0, 141, 4, 96, 181, 0, 141, 28, 172]
abbrev dktX2_hasSign_0 : List UInt8 := dkwX2_hasSign_0 ++ []
theorem dksX2_hasSign_0 : cX2_hasSign.data.toList.drop 0 = dktX2_hasSign_0 := by decide +kernel
theorem dX2_hasSign_0 : decode cX2_hasSign 0 = .ok (.aload_n 0, 1) := dk_42 (dk_at dksX2_hasSign_0 0 rfl rfl)
theorem dX2_hasSign_1 : decode cX2_hasSign 1 = .ok (.iload_n 1, 1) := dk_27 (dk_at dksX2_hasSign_0 1 rfl rfl)
theorem dX2_hasSign_2 : decode cX2_hasSign 2 = .ok (.invokevirtual 156, 3) := dk_182 0 156 (dk_at dksX2_hasSign_0 2 rfl rfl)
theorem dX2_hasSign_5 : decode cX2_hasSign 5 = .ok (.istore_n 2, 1) := dk_61 (dk_at dksX2_hasSign_0 5 rfl rfl)
theorem dX2_hasSign_6 : decode cX2_hasSign 6 = .ok (.iload_n 2, 1) := dk_28 (dk_at dksX2_hasSign_0 6 rfl rfl)
theorem dX2_hasSign_7 : decode cX2_hasSign 7 = .ok (.ifCond .eq 13, 3) := dk_153 0 13 (dk_at dksX2_hasSign_0 7 rfl rfl)
theorem dX2_hasSign_10 : decode cX2_hasSign 10 = .ok (.aload_n 0, 1) := dk_42 (dk_at dksX2_hasSign_0 10 rfl rfl)
theorem dX2_hasSign_11 : decode cX2_hasSign 11 = .ok (.dup, 1) := dk_89 (dk_at dksX2_hasSign_0 11 rfl rfl)
theorem dX2_hasSign_12 : decode cX2_hasSign 12 = .ok (.getfield 141, 3) := dk_180 0 141 (dk_at dksX2_hasSign_0 12 rfl rfl)
theorem dX2_hasSign_15 : decode cX2_hasSign 15 = .ok (.iconst 1, 1) := dk_4 (dk_at dksX2_hasSign_0 15 rfl rfl)
theorem dX2_hasSign_16 : decode cX2_hasSign 16 = .ok (.iadd, 1) := dk_96 (dk_at dksX2_hasSign_0 16 rfl rfl)
theorem dX2_hasSign_17 : decode cX2_hasSign 17 = .ok (.putfield 141, 3) := dk_181 0 141 (dk_at dksX2_hasSign_0 17 rfl rfl)
theorem dX2_hasSign_20 : decode cX2_hasSign 20 = .ok (.iload_n 2, 1) := dk_28 (dk_at dksX2_hasSign_0 20 rfl rfl)
theorem dX2_hasSign_21 : decode cX2_hasSign 21 = .ok (.ireturn, 1) := dk_172 (dk_at dksX2_hasSign_0 21 rfl rfl)
abbrev cX2_chain : ByteArray := prog_27_method_36_code
def yX2_chain : MethodName := ⟨RX2, "chain", "(LNameOrchard$Expression;LNameOrchard$Chain;)LNameOrchard$Chain;"⟩
def dkwX2_chain_0 : List UInt8 := [43, 199, 0, 14, 187, 1, 95, 89, 42, 183, 1, 97, 167, 0, 4, 43, 176]
abbrev dktX2_chain_0 : List UInt8 := dkwX2_chain_0 ++ []
theorem dksX2_chain_0 : cX2_chain.data.toList.drop 0 = dktX2_chain_0 := by decide +kernel
theorem dX2_chain_0 : decode cX2_chain 0 = .ok (.aload_n 1, 1) := dk_43 (dk_at dksX2_chain_0 0 rfl rfl)
theorem dX2_chain_1 : decode cX2_chain 1 = .ok (.ifnonnull 14, 3) := dk_199 0 14 (dk_at dksX2_chain_0 1 rfl rfl)
theorem dX2_chain_4 : decode cX2_chain 4 = .ok (.new 351, 3) := dk_187 1 95 (dk_at dksX2_chain_0 4 rfl rfl)
theorem dX2_chain_7 : decode cX2_chain 7 = .ok (.dup, 1) := dk_89 (dk_at dksX2_chain_0 7 rfl rfl)
theorem dX2_chain_8 : decode cX2_chain 8 = .ok (.aload_n 0, 1) := dk_42 (dk_at dksX2_chain_0 8 rfl rfl)
theorem dX2_chain_9 : decode cX2_chain 9 = .ok (.invokespecial 353, 3) := dk_183 1 97 (dk_at dksX2_chain_0 9 rfl rfl)
theorem dX2_chain_12 : decode cX2_chain 12 = .ok (.goto 4, 3) := dk_167 0 4 (dk_at dksX2_chain_0 12 rfl rfl)
theorem dX2_chain_15 : decode cX2_chain 15 = .ok (.aload_n 1, 1) := dk_43 (dk_at dksX2_chain_0 15 rfl rfl)
theorem dX2_chain_16 : decode cX2_chain 16 = .ok (.areturn, 1) := dk_176 (dk_at dksX2_chain_0 16 rfl rfl)
abbrev cX2_days : ByteArray := prog_27_method_31_code
def yX2_days : MethodName := ⟨RX2, "days", "(LNameOrchard$Orchard;)Ljava/util/ArrayList;"⟩
def dkwX2_days_4 : List UInt8 := [167, 255, 181, 44, 176]
abbrev dktX2_days_4 : List UInt8 := dkwX2_days_4 ++ []
def dkwX2_days_3 : List UInt8 := [160, 0, 9, 42, 8, 182, 0, 162, 191, 44, 42, 182, 1, 71, 182, 0, 245, 87, 42, 16, 59, 182, 0, 197]
abbrev dktX2_days_3 : List UInt8 := dkwX2_days_3 ++ dktX2_days_4
def dkwX2_days_2 : List UInt8 := [154, 0, 18, 42, 18, 75, 182, 0, 152, 154, 0, 9, 42, 4, 182, 0, 162, 191, 44, 182, 0, 227, 16, 40]
abbrev dktX2_days_2 : List UInt8 := dkwX2_days_2 ++ dktX2_days_3
def dkwX2_days_1 : List UInt8 := [180, 0, 141, 46, 153, 0, 69, 42, 18, 71, 182, 0, 152, 154, 0, 27, 42, 18, 73, 182, 0, 152]
abbrev dktX2_days_1 : List UInt8 := dkwX2_days_1 ++ dktX2_days_2
def dkwX2_days_0 : List UInt8 := [42, 182, 0, 170, 42, 43, 181, 0, 176, 187, 0, 228, 89, 5, 183, 1, 70, 77, 42, 180, 0, 93, 42]
abbrev dktX2_days_0 : List UInt8 := dkwX2_days_0 ++ dktX2_days_1
theorem dksX2_days_0 : cX2_days.data.toList.drop 0 = dktX2_days_0 := by decide +kernel
theorem dksX2_days_1 : cX2_days.data.toList.drop 23 = dktX2_days_1 := dk_seg dksX2_days_0 23 rfl rfl
theorem dksX2_days_2 : cX2_days.data.toList.drop 45 = dktX2_days_2 := dk_seg dksX2_days_1 22 rfl rfl
theorem dksX2_days_3 : cX2_days.data.toList.drop 69 = dktX2_days_3 := dk_seg dksX2_days_2 24 rfl rfl
theorem dksX2_days_4 : cX2_days.data.toList.drop 93 = dktX2_days_4 := dk_seg dksX2_days_3 24 rfl rfl
theorem dX2_days_0 : decode cX2_days 0 = .ok (.aload_n 0, 1) := dk_42 (dk_at dksX2_days_0 0 rfl rfl)
theorem dX2_days_1 : decode cX2_days 1 = .ok (.invokevirtual 170, 3) := dk_182 0 170 (dk_at dksX2_days_0 1 rfl rfl)
theorem dX2_days_4 : decode cX2_days 4 = .ok (.aload_n 0, 1) := dk_42 (dk_at dksX2_days_0 4 rfl rfl)
theorem dX2_days_5 : decode cX2_days 5 = .ok (.aload_n 1, 1) := dk_43 (dk_at dksX2_days_0 5 rfl rfl)
theorem dX2_days_6 : decode cX2_days 6 = .ok (.putfield 176, 3) := dk_181 0 176 (dk_at dksX2_days_0 6 rfl rfl)
theorem dX2_days_9 : decode cX2_days 9 = .ok (.new 228, 3) := dk_187 0 228 (dk_at dksX2_days_0 9 rfl rfl)
theorem dX2_days_12 : decode cX2_days 12 = .ok (.dup, 1) := dk_89 (dk_at dksX2_days_0 12 rfl rfl)
theorem dX2_days_13 : decode cX2_days 13 = .ok (.iconst 2, 1) := dk_5 (dk_at dksX2_days_0 13 rfl rfl)
theorem dX2_days_14 : decode cX2_days 14 = .ok (.invokespecial 326, 3) := dk_183 1 70 (dk_at dksX2_days_0 14 rfl rfl)
theorem dX2_days_17 : decode cX2_days 17 = .ok (.astore_n 2, 1) := dk_77 (dk_at dksX2_days_0 17 rfl rfl)
theorem dX2_days_18 : decode cX2_days 18 = .ok (.aload_n 0, 1) := dk_42 (dk_at dksX2_days_0 18 rfl rfl)
theorem dX2_days_19 : decode cX2_days 19 = .ok (.getfield 93, 3) := dk_180 0 93 (dk_at dksX2_days_0 19 rfl rfl)
theorem dX2_days_22 : decode cX2_days 22 = .ok (.aload_n 0, 1) := dk_42 (dk_at dksX2_days_0 22 rfl rfl)
theorem dX2_days_23 : decode cX2_days 23 = .ok (.getfield 141, 3) := dk_180 0 141 (dk_at dksX2_days_1 0 rfl rfl)
theorem dX2_days_26 : decode cX2_days 26 = .ok (.iaload, 1) := dk_46 (dk_at dksX2_days_1 3 rfl rfl)
theorem dX2_days_27 : decode cX2_days 27 = .ok (.ifCond .eq 69, 3) := dk_153 0 69 (dk_at dksX2_days_1 4 rfl rfl)
theorem dX2_days_30 : decode cX2_days 30 = .ok (.aload_n 0, 1) := dk_42 (dk_at dksX2_days_1 7 rfl rfl)
theorem dX2_days_31 : decode cX2_days 31 = .ok (.ldc 71, 2) := dk_18 71 (dk_at dksX2_days_1 8 rfl rfl)
theorem dX2_days_33 : decode cX2_days 33 = .ok (.invokevirtual 152, 3) := dk_182 0 152 (dk_at dksX2_days_1 10 rfl rfl)
theorem dX2_days_36 : decode cX2_days 36 = .ok (.ifCond .ne 27, 3) := dk_154 0 27 (dk_at dksX2_days_1 13 rfl rfl)
theorem dX2_days_39 : decode cX2_days 39 = .ok (.aload_n 0, 1) := dk_42 (dk_at dksX2_days_1 16 rfl rfl)
theorem dX2_days_40 : decode cX2_days 40 = .ok (.ldc 73, 2) := dk_18 73 (dk_at dksX2_days_1 17 rfl rfl)
theorem dX2_days_42 : decode cX2_days 42 = .ok (.invokevirtual 152, 3) := dk_182 0 152 (dk_at dksX2_days_1 19 rfl rfl)
theorem dX2_days_45 : decode cX2_days 45 = .ok (.ifCond .ne 18, 3) := dk_154 0 18 (dk_at dksX2_days_2 0 rfl rfl)
theorem dX2_days_48 : decode cX2_days 48 = .ok (.aload_n 0, 1) := dk_42 (dk_at dksX2_days_2 3 rfl rfl)
theorem dX2_days_49 : decode cX2_days 49 = .ok (.ldc 75, 2) := dk_18 75 (dk_at dksX2_days_2 4 rfl rfl)
theorem dX2_days_51 : decode cX2_days 51 = .ok (.invokevirtual 152, 3) := dk_182 0 152 (dk_at dksX2_days_2 6 rfl rfl)
theorem dX2_days_54 : decode cX2_days 54 = .ok (.ifCond .ne 9, 3) := dk_154 0 9 (dk_at dksX2_days_2 9 rfl rfl)
theorem dX2_days_57 : decode cX2_days 57 = .ok (.aload_n 0, 1) := dk_42 (dk_at dksX2_days_2 12 rfl rfl)
theorem dX2_days_58 : decode cX2_days 58 = .ok (.iconst 1, 1) := dk_4 (dk_at dksX2_days_2 13 rfl rfl)
theorem dX2_days_59 : decode cX2_days 59 = .ok (.invokevirtual 162, 3) := dk_182 0 162 (dk_at dksX2_days_2 14 rfl rfl)
theorem dX2_days_62 : decode cX2_days 62 = .ok (.athrow, 1) := dk_191 (dk_at dksX2_days_2 17 rfl rfl)
theorem dX2_days_63 : decode cX2_days 63 = .ok (.aload_n 2, 1) := dk_44 (dk_at dksX2_days_2 18 rfl rfl)
theorem dX2_days_64 : decode cX2_days 64 = .ok (.invokevirtual 227, 3) := dk_182 0 227 (dk_at dksX2_days_2 19 rfl rfl)
theorem dX2_days_67 : decode cX2_days 67 = .ok (.bipush 40, 2) := dk_16 40 (dk_at dksX2_days_2 22 rfl rfl)
theorem dX2_days_69 : decode cX2_days 69 = .ok (.if_icmp .ne 9, 3) := dk_160 0 9 (dk_at dksX2_days_3 0 rfl rfl)
theorem dX2_days_72 : decode cX2_days 72 = .ok (.aload_n 0, 1) := dk_42 (dk_at dksX2_days_3 3 rfl rfl)
theorem dX2_days_73 : decode cX2_days 73 = .ok (.iconst 5, 1) := dk_8 (dk_at dksX2_days_3 4 rfl rfl)
theorem dX2_days_74 : decode cX2_days 74 = .ok (.invokevirtual 162, 3) := dk_182 0 162 (dk_at dksX2_days_3 5 rfl rfl)
theorem dX2_days_77 : decode cX2_days 77 = .ok (.athrow, 1) := dk_191 (dk_at dksX2_days_3 8 rfl rfl)
theorem dX2_days_78 : decode cX2_days 78 = .ok (.aload_n 2, 1) := dk_44 (dk_at dksX2_days_3 9 rfl rfl)
theorem dX2_days_79 : decode cX2_days 79 = .ok (.aload_n 0, 1) := dk_42 (dk_at dksX2_days_3 10 rfl rfl)
theorem dX2_days_80 : decode cX2_days 80 = .ok (.invokevirtual 327, 3) := dk_182 1 71 (dk_at dksX2_days_3 11 rfl rfl)
theorem dX2_days_83 : decode cX2_days 83 = .ok (.invokevirtual 245, 3) := dk_182 0 245 (dk_at dksX2_days_3 14 rfl rfl)
theorem dX2_days_86 : decode cX2_days 86 = .ok (.pop, 1) := dk_87 (dk_at dksX2_days_3 17 rfl rfl)
theorem dX2_days_87 : decode cX2_days 87 = .ok (.aload_n 0, 1) := dk_42 (dk_at dksX2_days_3 18 rfl rfl)
theorem dX2_days_88 : decode cX2_days 88 = .ok (.bipush 59, 2) := dk_16 59 (dk_at dksX2_days_3 19 rfl rfl)
theorem dX2_days_90 : decode cX2_days 90 = .ok (.invokevirtual 197, 3) := dk_182 0 197 (dk_at dksX2_days_3 21 rfl rfl)
theorem dX2_days_93 : decode cX2_days 93 = .ok (.goto (-75), 3) := dk_167 255 181 (dk_at dksX2_days_4 0 rfl rfl)
theorem dX2_days_96 : decode cX2_days 96 = .ok (.aload_n 2, 1) := dk_44 (dk_at dksX2_days_4 3 rfl rfl)
theorem dX2_days_97 : decode cX2_days 97 = .ok (.areturn, 1) := dk_176 (dk_at dksX2_days_4 4 rfl rfl)
abbrev cX2_line : ByteArray := prog_27_method_32_code
def yX2_line : MethodName := ⟨RX2, "line", "()LNameOrchard$Line;"⟩
def dkwX2_line_2 : List UInt8 := [89, 180, 0, 141, 4, 96, 181, 0, 141, 187, 1, 81, 89, 183, 1, 83, 176]
abbrev dktX2_line_2 : List UInt8 := dkwX2_line_2 ++ []
def dkwX2_line_1 : List UInt8 := [182, 0, 254, 60, 42, 89, 180, 0, 141, 4, 96, 181, 0, 141, 187, 1, 78, 89, 27, 183, 1, 80, 176, 42]
abbrev dktX2_line_1 : List UInt8 := dkwX2_line_1 ++ dktX2_line_2
def dkwX2_line_0 : List UInt8 := [42, 18, 71, 182, 1, 18, 153, 0, 8, 42, 182, 1, 75, 176, 42, 18, 73, 182, 1, 18, 153, 0, 27, 42]
abbrev dktX2_line_0 : List UInt8 := dkwX2_line_0 ++ dktX2_line_1
theorem dksX2_line_0 : cX2_line.data.toList.drop 0 = dktX2_line_0 := by decide +kernel
theorem dksX2_line_1 : cX2_line.data.toList.drop 24 = dktX2_line_1 := dk_seg dksX2_line_0 24 rfl rfl
theorem dksX2_line_2 : cX2_line.data.toList.drop 48 = dktX2_line_2 := dk_seg dksX2_line_1 24 rfl rfl
theorem dX2_line_0 : decode cX2_line 0 = .ok (.aload_n 0, 1) := dk_42 (dk_at dksX2_line_0 0 rfl rfl)
theorem dX2_line_1 : decode cX2_line 1 = .ok (.ldc 71, 2) := dk_18 71 (dk_at dksX2_line_0 1 rfl rfl)
theorem dX2_line_3 : decode cX2_line 3 = .ok (.invokevirtual 274, 3) := dk_182 1 18 (dk_at dksX2_line_0 3 rfl rfl)
theorem dX2_line_6 : decode cX2_line 6 = .ok (.ifCond .eq 8, 3) := dk_153 0 8 (dk_at dksX2_line_0 6 rfl rfl)
theorem dX2_line_9 : decode cX2_line 9 = .ok (.aload_n 0, 1) := dk_42 (dk_at dksX2_line_0 9 rfl rfl)
theorem dX2_line_10 : decode cX2_line 10 = .ok (.invokevirtual 331, 3) := dk_182 1 75 (dk_at dksX2_line_0 10 rfl rfl)
theorem dX2_line_13 : decode cX2_line 13 = .ok (.areturn, 1) := dk_176 (dk_at dksX2_line_0 13 rfl rfl)
theorem dX2_line_14 : decode cX2_line 14 = .ok (.aload_n 0, 1) := dk_42 (dk_at dksX2_line_0 14 rfl rfl)
theorem dX2_line_15 : decode cX2_line 15 = .ok (.ldc 73, 2) := dk_18 73 (dk_at dksX2_line_0 15 rfl rfl)
theorem dX2_line_17 : decode cX2_line 17 = .ok (.invokevirtual 274, 3) := dk_182 1 18 (dk_at dksX2_line_0 17 rfl rfl)
theorem dX2_line_20 : decode cX2_line 20 = .ok (.ifCond .eq 27, 3) := dk_153 0 27 (dk_at dksX2_line_0 20 rfl rfl)
theorem dX2_line_23 : decode cX2_line 23 = .ok (.aload_n 0, 1) := dk_42 (dk_at dksX2_line_0 23 rfl rfl)
theorem dX2_line_24 : decode cX2_line 24 = .ok (.invokevirtual 254, 3) := dk_182 0 254 (dk_at dksX2_line_1 0 rfl rfl)
theorem dX2_line_27 : decode cX2_line 27 = .ok (.istore_n 1, 1) := dk_60 (dk_at dksX2_line_1 3 rfl rfl)
theorem dX2_line_28 : decode cX2_line 28 = .ok (.aload_n 0, 1) := dk_42 (dk_at dksX2_line_1 4 rfl rfl)
theorem dX2_line_29 : decode cX2_line 29 = .ok (.dup, 1) := dk_89 (dk_at dksX2_line_1 5 rfl rfl)
theorem dX2_line_30 : decode cX2_line 30 = .ok (.getfield 141, 3) := dk_180 0 141 (dk_at dksX2_line_1 6 rfl rfl)
theorem dX2_line_33 : decode cX2_line 33 = .ok (.iconst 1, 1) := dk_4 (dk_at dksX2_line_1 9 rfl rfl)
theorem dX2_line_34 : decode cX2_line 34 = .ok (.iadd, 1) := dk_96 (dk_at dksX2_line_1 10 rfl rfl)
theorem dX2_line_35 : decode cX2_line 35 = .ok (.putfield 141, 3) := dk_181 0 141 (dk_at dksX2_line_1 11 rfl rfl)
theorem dX2_line_38 : decode cX2_line 38 = .ok (.new 334, 3) := dk_187 1 78 (dk_at dksX2_line_1 14 rfl rfl)
theorem dX2_line_41 : decode cX2_line 41 = .ok (.dup, 1) := dk_89 (dk_at dksX2_line_1 17 rfl rfl)
theorem dX2_line_42 : decode cX2_line 42 = .ok (.iload_n 1, 1) := dk_27 (dk_at dksX2_line_1 18 rfl rfl)
theorem dX2_line_43 : decode cX2_line 43 = .ok (.invokespecial 336, 3) := dk_183 1 80 (dk_at dksX2_line_1 19 rfl rfl)
theorem dX2_line_46 : decode cX2_line 46 = .ok (.areturn, 1) := dk_176 (dk_at dksX2_line_1 22 rfl rfl)
theorem dX2_line_47 : decode cX2_line 47 = .ok (.aload_n 0, 1) := dk_42 (dk_at dksX2_line_1 23 rfl rfl)
theorem dX2_line_48 : decode cX2_line 48 = .ok (.dup, 1) := dk_89 (dk_at dksX2_line_2 0 rfl rfl)
theorem dX2_line_49 : decode cX2_line 49 = .ok (.getfield 141, 3) := dk_180 0 141 (dk_at dksX2_line_2 1 rfl rfl)
theorem dX2_line_52 : decode cX2_line 52 = .ok (.iconst 1, 1) := dk_4 (dk_at dksX2_line_2 4 rfl rfl)
theorem dX2_line_53 : decode cX2_line 53 = .ok (.iadd, 1) := dk_96 (dk_at dksX2_line_2 5 rfl rfl)
theorem dX2_line_54 : decode cX2_line 54 = .ok (.putfield 141, 3) := dk_181 0 141 (dk_at dksX2_line_2 6 rfl rfl)
theorem dX2_line_57 : decode cX2_line 57 = .ok (.new 337, 3) := dk_187 1 81 (dk_at dksX2_line_2 9 rfl rfl)
theorem dX2_line_60 : decode cX2_line 60 = .ok (.dup, 1) := dk_89 (dk_at dksX2_line_2 12 rfl rfl)
theorem dX2_line_61 : decode cX2_line 61 = .ok (.invokespecial 339, 3) := dk_183 1 83 (dk_at dksX2_line_2 13 rfl rfl)
theorem dX2_line_64 : decode cX2_line 64 = .ok (.areturn, 1) := dk_176 (dk_at dksX2_line_2 16 rfl rfl)
abbrev cX2_calls : ByteArray := prog_27_method_33_code
def yX2_calls : MethodName := ⟨RX2, "calls", "()LNameOrchard$Line;"⟩
def dkwX2_calls_2 : List UInt8 := [4, 96, 181, 0, 141, 187, 1, 84, 89, 27, 42, 182, 1, 21, 183, 1, 86, 176]
abbrev dktX2_calls_2 : List UInt8 := dkwX2_calls_2 ++ []
def dkwX2_calls_1 : List UInt8 := [180, 0, 141, 47, 182, 0, 216, 60, 27, 2, 160, 0, 9, 42, 5, 182, 0, 162, 191, 42, 89, 180, 0, 141]
abbrev dktX2_calls_1 : List UInt8 := dkwX2_calls_1 ++ dktX2_calls_2
def dkwX2_calls_0 : List UInt8 := [42, 182, 0, 208, 154, 0, 9, 42, 4, 182, 0, 162, 191, 42, 180, 0, 176, 42, 180, 0, 96, 42]
abbrev dktX2_calls_0 : List UInt8 := dkwX2_calls_0 ++ dktX2_calls_1
theorem dksX2_calls_0 : cX2_calls.data.toList.drop 0 = dktX2_calls_0 := by decide +kernel
theorem dksX2_calls_1 : cX2_calls.data.toList.drop 22 = dktX2_calls_1 := dk_seg dksX2_calls_0 22 rfl rfl
theorem dksX2_calls_2 : cX2_calls.data.toList.drop 46 = dktX2_calls_2 := dk_seg dksX2_calls_1 24 rfl rfl
theorem dX2_calls_0 : decode cX2_calls 0 = .ok (.aload_n 0, 1) := dk_42 (dk_at dksX2_calls_0 0 rfl rfl)
theorem dX2_calls_1 : decode cX2_calls 1 = .ok (.invokevirtual 208, 3) := dk_182 0 208 (dk_at dksX2_calls_0 1 rfl rfl)
theorem dX2_calls_4 : decode cX2_calls 4 = .ok (.ifCond .ne 9, 3) := dk_154 0 9 (dk_at dksX2_calls_0 4 rfl rfl)
theorem dX2_calls_7 : decode cX2_calls 7 = .ok (.aload_n 0, 1) := dk_42 (dk_at dksX2_calls_0 7 rfl rfl)
theorem dX2_calls_8 : decode cX2_calls 8 = .ok (.iconst 1, 1) := dk_4 (dk_at dksX2_calls_0 8 rfl rfl)
theorem dX2_calls_9 : decode cX2_calls 9 = .ok (.invokevirtual 162, 3) := dk_182 0 162 (dk_at dksX2_calls_0 9 rfl rfl)
theorem dX2_calls_12 : decode cX2_calls 12 = .ok (.athrow, 1) := dk_191 (dk_at dksX2_calls_0 12 rfl rfl)
theorem dX2_calls_13 : decode cX2_calls 13 = .ok (.aload_n 0, 1) := dk_42 (dk_at dksX2_calls_0 13 rfl rfl)
theorem dX2_calls_14 : decode cX2_calls 14 = .ok (.getfield 176, 3) := dk_180 0 176 (dk_at dksX2_calls_0 14 rfl rfl)
theorem dX2_calls_17 : decode cX2_calls 17 = .ok (.aload_n 0, 1) := dk_42 (dk_at dksX2_calls_0 17 rfl rfl)
theorem dX2_calls_18 : decode cX2_calls 18 = .ok (.getfield 96, 3) := dk_180 0 96 (dk_at dksX2_calls_0 18 rfl rfl)
theorem dX2_calls_21 : decode cX2_calls 21 = .ok (.aload_n 0, 1) := dk_42 (dk_at dksX2_calls_0 21 rfl rfl)
theorem dX2_calls_22 : decode cX2_calls 22 = .ok (.getfield 141, 3) := dk_180 0 141 (dk_at dksX2_calls_1 0 rfl rfl)
theorem dX2_calls_25 : decode cX2_calls 25 = .ok (.laload, 1) := dk_47 (dk_at dksX2_calls_1 3 rfl rfl)
theorem dX2_calls_26 : decode cX2_calls 26 = .ok (.invokevirtual 216, 3) := dk_182 0 216 (dk_at dksX2_calls_1 4 rfl rfl)
theorem dX2_calls_29 : decode cX2_calls 29 = .ok (.istore_n 1, 1) := dk_60 (dk_at dksX2_calls_1 7 rfl rfl)
theorem dX2_calls_30 : decode cX2_calls 30 = .ok (.iload_n 1, 1) := dk_27 (dk_at dksX2_calls_1 8 rfl rfl)
theorem dX2_calls_31 : decode cX2_calls 31 = .ok (.iconst (-1), 1) := dk_2 (dk_at dksX2_calls_1 9 rfl rfl)
theorem dX2_calls_32 : decode cX2_calls 32 = .ok (.if_icmp .ne 9, 3) := dk_160 0 9 (dk_at dksX2_calls_1 10 rfl rfl)
theorem dX2_calls_35 : decode cX2_calls 35 = .ok (.aload_n 0, 1) := dk_42 (dk_at dksX2_calls_1 13 rfl rfl)
theorem dX2_calls_36 : decode cX2_calls 36 = .ok (.iconst 2, 1) := dk_5 (dk_at dksX2_calls_1 14 rfl rfl)
theorem dX2_calls_37 : decode cX2_calls 37 = .ok (.invokevirtual 162, 3) := dk_182 0 162 (dk_at dksX2_calls_1 15 rfl rfl)
theorem dX2_calls_40 : decode cX2_calls 40 = .ok (.athrow, 1) := dk_191 (dk_at dksX2_calls_1 18 rfl rfl)
theorem dX2_calls_41 : decode cX2_calls 41 = .ok (.aload_n 0, 1) := dk_42 (dk_at dksX2_calls_1 19 rfl rfl)
theorem dX2_calls_42 : decode cX2_calls 42 = .ok (.dup, 1) := dk_89 (dk_at dksX2_calls_1 20 rfl rfl)
theorem dX2_calls_43 : decode cX2_calls 43 = .ok (.getfield 141, 3) := dk_180 0 141 (dk_at dksX2_calls_1 21 rfl rfl)
theorem dX2_calls_46 : decode cX2_calls 46 = .ok (.iconst 1, 1) := dk_4 (dk_at dksX2_calls_2 0 rfl rfl)
theorem dX2_calls_47 : decode cX2_calls 47 = .ok (.iadd, 1) := dk_96 (dk_at dksX2_calls_2 1 rfl rfl)
theorem dX2_calls_48 : decode cX2_calls 48 = .ok (.putfield 141, 3) := dk_181 0 141 (dk_at dksX2_calls_2 2 rfl rfl)
theorem dX2_calls_51 : decode cX2_calls 51 = .ok (.new 340, 3) := dk_187 1 84 (dk_at dksX2_calls_2 5 rfl rfl)
theorem dX2_calls_54 : decode cX2_calls 54 = .ok (.dup, 1) := dk_89 (dk_at dksX2_calls_2 8 rfl rfl)
theorem dX2_calls_55 : decode cX2_calls 55 = .ok (.iload_n 1, 1) := dk_27 (dk_at dksX2_calls_2 9 rfl rfl)
theorem dX2_calls_56 : decode cX2_calls 56 = .ok (.aload_n 0, 1) := dk_42 (dk_at dksX2_calls_2 10 rfl rfl)
theorem dX2_calls_57 : decode cX2_calls 57 = .ok (.invokevirtual 277, 3) := dk_182 1 21 (dk_at dksX2_calls_2 11 rfl rfl)
theorem dX2_calls_60 : decode cX2_calls 60 = .ok (.invokespecial 342, 3) := dk_183 1 86 (dk_at dksX2_calls_2 14 rfl rfl)
theorem dX2_calls_63 : decode cX2_calls 63 = .ok (.areturn, 1) := dk_176 (dk_at dksX2_calls_2 17 rfl rfl)
theorem q125 : (Jvm.Cond.initialized "NameOrchard$Reader") ∈ lw_all := lw_g (lw_at lw_m1 2 rfl) rfl
theorem q187 : (Jvm.Cond.instantiable "NameOrchard$Reader" (13 : Nat)) ∈ lw_all := lw_g (lw_at lw_m1 64 rfl) rfl
theorem q189 : (Jvm.Cond.instanceMethod ({ cls := "NameOrchard$Reader", name := "<init>", desc := "()V" } : Jvm.MethodName)) ∈ lw_all := lw_g (lw_at lw_m1 66 rfl) rfl
theorem q190 : (Jvm.Cond.code ({ cls := "NameOrchard$Reader", name := "<init>", desc := "()V" } : Jvm.MethodName) prog_27_method_1_code (1 : Nat) (Option.none : Option Jvm.ClassFile.FieldType)) ∈ lw_all := lw_g (lw_at lw_m1 67 rfl) rfl
theorem q191 : (Jvm.Cond.methodLink "NameOrchard$Reader" (3 : Nat) ({ cls := "java/lang/Object", name := "<init>", desc := "()V" } : Jvm.MethodName)) ∈ lw_all := lw_g (lw_at lw_m1 68 rfl) rfl
theorem q192 : (Jvm.Cond.classLink "NameOrchard$Reader" (9 : Nat) "java/lang/String") ∈ lw_all := lw_g (lw_at lw_m1 69 rfl) rfl
theorem q194 : (Jvm.Cond.stringRef "NameOrchard$Reader" (11 : Nat) "edits") ∈ lw_tbl := lw_at lw_m1 71 rfl
theorem q195 : (Jvm.Cond.stringRef "NameOrchard$Reader" (13 : Nat) "start") ∈ lw_tbl := lw_at lw_m1 72 rfl
theorem q196 : (Jvm.Cond.stringRef "NameOrchard$Reader" (15 : Nat) "rhyme") ∈ lw_tbl := lw_at lw_m1 73 rfl
theorem q197 : (Jvm.Cond.stringRef "NameOrchard$Reader" (17 : Nat) "size") ∈ lw_tbl := lw_at lw_m1 74 rfl
theorem q198 : (Jvm.Cond.stringRef "NameOrchard$Reader" (25 : Nat) "base") ∈ lw_tbl := lw_at lw_m1 75 rfl
theorem q199 : (Jvm.Cond.stringRef "NameOrchard$Reader" (27 : Nat) "age") ∈ lw_tbl := lw_at lw_m1 76 rfl
theorem q200 : (Jvm.Cond.stringRef "NameOrchard$Reader" (32 : Nat) "plain") ∈ lw_tbl := lw_at lw_m1 77 rfl
theorem q201 : (Jvm.Cond.stringRef "NameOrchard$Reader" (34 : Nat) "alias") ∈ lw_tbl := lw_at lw_m1 78 rfl
theorem q202 : (Jvm.Cond.stringRef "NameOrchard$Reader" (36 : Nat) "welsh") ∈ lw_tbl := lw_at lw_m1 79 rfl
theorem q203 : (Jvm.Cond.stringRef "NameOrchard$Reader" (38 : Nat) "deaf") ∈ lw_tbl := lw_at lw_m1 80 rfl
theorem q204 : (Jvm.Cond.stringRef "NameOrchard$Reader" (43 : Nat) "apple") ∈ lw_tbl := lw_at lw_m1 81 rfl
theorem q205 : (Jvm.Cond.stringRef "NameOrchard$Reader" (45 : Nat) "at") ∈ lw_tbl := lw_at lw_m1 82 rfl
theorem q206 : (Jvm.Cond.stringRef "NameOrchard$Reader" (47 : Nat) "ripe") ∈ lw_tbl := lw_at lw_m1 83 rfl
theorem q207 : (Jvm.Cond.stringRef "NameOrchard$Reader" (49 : Nat) "worth") ∈ lw_tbl := lw_at lw_m1 84 rfl
theorem q208 : (Jvm.Cond.stringRef "NameOrchard$Reader" (51 : Nat) "twin") ∈ lw_tbl := lw_at lw_m1 85 rfl
theorem q209 : (Jvm.Cond.stringRef "NameOrchard$Reader" (53 : Nat) "other") ∈ lw_tbl := lw_at lw_m1 86 rfl
theorem q210 : (Jvm.Cond.stringRef "NameOrchard$Reader" (55 : Nat) "person") ∈ lw_tbl := lw_at lw_m1 87 rfl
theorem q211 : (Jvm.Cond.stringRef "NameOrchard$Reader" (57 : Nat) "lane") ∈ lw_tbl := lw_at lw_m1 88 rfl
theorem q212 : (Jvm.Cond.stringRef "NameOrchard$Reader" (59 : Nat) "loud") ∈ lw_tbl := lw_at lw_m1 89 rfl
theorem q213 : (Jvm.Cond.stringRef "NameOrchard$Reader" (61 : Nat) "stranger") ∈ lw_tbl := lw_at lw_m1 90 rfl
theorem q214 : (Jvm.Cond.stringRef "NameOrchard$Reader" (63 : Nat) "page") ∈ lw_tbl := lw_at lw_m1 91 rfl
theorem q215 : (Jvm.Cond.stringRef "NameOrchard$Reader" (65 : Nat) "bann") ∈ lw_tbl := lw_at lw_m1 92 rfl
theorem q216 : (Jvm.Cond.stringRef "NameOrchard$Reader" (67 : Nat) "near") ∈ lw_tbl := lw_at lw_m1 93 rfl
theorem q217 : (Jvm.Cond.stringRef "NameOrchard$Reader" (69 : Nat) "value") ∈ lw_tbl := lw_at lw_m1 94 rfl
theorem q218 : (Jvm.Cond.stringRef "NameOrchard$Reader" (71 : Nat) "call") ∈ lw_tbl := lw_at lw_m1 95 rfl
theorem q219 : (Jvm.Cond.stringRef "NameOrchard$Reader" (73 : Nat) "pick") ∈ lw_tbl := lw_at lw_m1 96 rfl
theorem q220 : (Jvm.Cond.stringRef "NameOrchard$Reader" (75 : Nat) "day") ∈ lw_tbl := lw_at lw_m1 97 rfl
theorem q221 : (Jvm.Cond.stringRef "NameOrchard$Reader" (77 : Nat) "not") ∈ lw_tbl := lw_at lw_m1 98 rfl
theorem q222 : (Jvm.Cond.stringRef "NameOrchard$Reader" (79 : Nat) "and") ∈ lw_tbl := lw_at lw_m1 99 rfl
theorem q223 : (Jvm.Cond.stringRef "NameOrchard$Reader" (81 : Nat) "or") ∈ lw_tbl := lw_at lw_m1 100 rfl
theorem q224 : (Jvm.Cond.fieldLink "NameOrchard$Reader" (19 : Nat) "NameOrchard$Reader" "nearFacts" "[Ljava/lang/String;") ∈ lw_all := lw_g (lw_at lw_m1 101 rfl) rfl
theorem q225 : (Jvm.Cond.fieldLink "NameOrchard$Reader" (29 : Nat) "NameOrchard$Reader" "valueFacts" "[Ljava/lang/String;") ∈ lw_all := lw_g (lw_at lw_m1 102 rfl) rfl
theorem q226 : (Jvm.Cond.fieldLink "NameOrchard$Reader" (40 : Nat) "NameOrchard$Reader" "kinds" "[Ljava/lang/String;") ∈ lw_all := lw_g (lw_at lw_m1 103 rfl) rfl
theorem q227 : (Jvm.Cond.fieldLink "NameOrchard$Reader" (83 : Nat) "NameOrchard$Reader" "kept" "[Ljava/lang/String;") ∈ lw_all := lw_g (lw_at lw_m1 104 rfl) rfl
theorem q228 : (Jvm.Cond.fieldLink "NameOrchard$Reader" (176 : Nat) "NameOrchard$Reader" "draft" "LNameOrchard$Orchard;") ∈ lw_all := lw_g (lw_at lw_m1 105 rfl) rfl
theorem q229 : (Jvm.Cond.fieldLink "NameOrchard$Reader" (86 : Nat) "NameOrchard$Reader" "facts" "[Ljava/lang/String;") ∈ lw_all := lw_g (lw_at lw_m1 106 rfl) rfl
theorem q230 : (Jvm.Cond.fieldLink "NameOrchard$Reader" (89 : Nat) "NameOrchard$Reader" "tape" "[I") ∈ lw_all := lw_g (lw_at lw_m1 107 rfl) rfl
theorem q231 : (Jvm.Cond.fieldLink "NameOrchard$Reader" (108 : Nat) "NameOrchard$Reader" "taped" "I") ∈ lw_all := lw_g (lw_at lw_m1 108 rfl) rfl
theorem q233 : (Jvm.Cond.fieldLink "NameOrchard$Reader" (93 : Nat) "NameOrchard$Reader" "sort" "[I") ∈ lw_all := lw_g (lw_at lw_m1 110 rfl) rfl
theorem q234 : (Jvm.Cond.fieldLink "NameOrchard$Reader" (96 : Nat) "NameOrchard$Reader" "value" "[J") ∈ lw_all := lw_g (lw_at lw_m1 111 rfl) rfl
theorem q235 : (Jvm.Cond.fieldLink "NameOrchard$Reader" (99 : Nat) "NameOrchard$Reader" "place" "[I") ∈ lw_all := lw_g (lw_at lw_m1 112 rfl) rfl
theorem q236 : (Jvm.Cond.fieldLink "NameOrchard$Reader" (141 : Nat) "NameOrchard$Reader" "at" "I") ∈ lw_all := lw_g (lw_at lw_m1 113 rfl) rfl
theorem q237 : (Jvm.Cond.fieldLink "NameOrchard$Reader" (345 : Nat) "NameOrchard$Reader" "deep" "I") ∈ lw_all := lw_g (lw_at lw_m1 114 rfl) rfl
theorem q238 : (Jvm.Cond.laysFinal "NameOrchard$Reader" "NameOrchard$Reader" "nearFacts" "[Ljava/lang/String;") ∈ lw_all := lw_g (lw_at lw_m1 115 rfl) rfl
theorem q239 : (Jvm.Cond.soleField "NameOrchard$Reader" "nearFacts") ∈ lw_all := lw_g (lw_at lw_m1 116 rfl) rfl
theorem q240 : (Jvm.Cond.laysFinal "NameOrchard$Reader" "NameOrchard$Reader" "valueFacts" "[Ljava/lang/String;") ∈ lw_all := lw_g (lw_at lw_m1 117 rfl) rfl
theorem q241 : (Jvm.Cond.soleField "NameOrchard$Reader" "valueFacts") ∈ lw_all := lw_g (lw_at lw_m1 118 rfl) rfl
theorem q242 : (Jvm.Cond.laysFinal "NameOrchard$Reader" "NameOrchard$Reader" "kinds" "[Ljava/lang/String;") ∈ lw_all := lw_g (lw_at lw_m1 119 rfl) rfl
theorem q243 : (Jvm.Cond.soleField "NameOrchard$Reader" "kinds") ∈ lw_all := lw_g (lw_at lw_m1 120 rfl) rfl
theorem q244 : (Jvm.Cond.laysFinal "NameOrchard$Reader" "NameOrchard$Reader" "kept" "[Ljava/lang/String;") ∈ lw_all := lw_g (lw_at lw_m1 121 rfl) rfl
theorem q245 : (Jvm.Cond.soleField "NameOrchard$Reader" "kept") ∈ lw_all := lw_g (lw_at lw_m1 122 rfl) rfl
theorem q246 : (Jvm.Cond.lays "NameOrchard$Reader" "NameOrchard$Reader" "draft" "LNameOrchard$Orchard;") ∈ lw_all := lw_g (lw_at lw_m1 123 rfl) rfl
theorem q247 : (Jvm.Cond.soleField "NameOrchard$Reader" "draft") ∈ lw_all := lw_g (lw_at lw_m1 124 rfl) rfl
theorem q248 : (Jvm.Cond.lays "NameOrchard$Reader" "NameOrchard$Reader" "facts" "[Ljava/lang/String;") ∈ lw_all := lw_g (lw_at lw_m1 125 rfl) rfl
theorem q249 : (Jvm.Cond.soleField "NameOrchard$Reader" "facts") ∈ lw_all := lw_g (lw_at lw_m1 126 rfl) rfl
theorem q250 : (Jvm.Cond.laysFinal "NameOrchard$Reader" "NameOrchard$Reader" "tape" "[I") ∈ lw_all := lw_g (lw_at lw_m1 127 rfl) rfl
theorem q251 : (Jvm.Cond.soleField "NameOrchard$Reader" "tape") ∈ lw_all := lw_g (lw_at lw_m1 128 rfl) rfl
theorem q252 : (Jvm.Cond.lays "NameOrchard$Reader" "NameOrchard$Reader" "taped" "I") ∈ lw_all := lw_g (lw_at lw_m1 129 rfl) rfl
theorem q253 : (Jvm.Cond.soleField "NameOrchard$Reader" "taped") ∈ lw_all := lw_g (lw_at lw_m1 130 rfl) rfl
theorem q254 : (Jvm.Cond.laysFinal "NameOrchard$Reader" "NameOrchard$Reader" "sort" "[I") ∈ lw_all := lw_g (lw_at lw_m1 131 rfl) rfl
theorem q255 : (Jvm.Cond.soleField "NameOrchard$Reader" "sort") ∈ lw_all := lw_g (lw_at lw_m1 132 rfl) rfl
theorem q256 : (Jvm.Cond.laysFinal "NameOrchard$Reader" "NameOrchard$Reader" "value" "[J") ∈ lw_all := lw_g (lw_at lw_m1 133 rfl) rfl
theorem q257 : (Jvm.Cond.soleField "NameOrchard$Reader" "value") ∈ lw_all := lw_g (lw_at lw_m1 134 rfl) rfl
theorem q258 : (Jvm.Cond.laysFinal "NameOrchard$Reader" "NameOrchard$Reader" "place" "[I") ∈ lw_all := lw_g (lw_at lw_m1 135 rfl) rfl
theorem q259 : (Jvm.Cond.soleField "NameOrchard$Reader" "place") ∈ lw_all := lw_g (lw_at lw_m1 136 rfl) rfl
theorem q260 : (Jvm.Cond.lays "NameOrchard$Reader" "NameOrchard$Reader" "at" "I") ∈ lw_all := lw_g (lw_at lw_m1 137 rfl) rfl
theorem q261 : (Jvm.Cond.soleField "NameOrchard$Reader" "at") ∈ lw_all := lw_g (lw_at lw_m1 138 rfl) rfl
theorem q262 : (Jvm.Cond.lays "NameOrchard$Reader" "NameOrchard$Reader" "deep" "I") ∈ lw_all := lw_g (lw_at lw_m1 139 rfl) rfl
theorem q263 : (Jvm.Cond.soleField "NameOrchard$Reader" "deep") ∈ lw_all := lw_g (lw_at lw_m1 140 rfl) rfl
theorem q264 : (Jvm.Cond.superclass "NameOrchard$Reader" "java/lang/Object") ∈ lw_all := lw_g (lw_at lw_m1 141 rfl) rfl
theorem q358 : (Jvm.Cond.fieldLink "NameOrchard$Reader" (223 : Nat) "NameOrchard$Orchard" "apples" "Ljava/util/ArrayList;") ∈ lw_all := lw_g (lw_at lw_m1 235 rfl) rfl
theorem q361 : (Jvm.Cond.fieldLink "NameOrchard$Reader" (238 : Nat) "NameOrchard$Orchard" "sounds" "Ljava/util/ArrayList;") ∈ lw_all := lw_g (lw_at lw_m1 238 rfl) rfl
theorem q363 : (Jvm.Cond.fieldLink "NameOrchard$Reader" (288 : Nat) "NameOrchard$Orchard" "peopleNames" "Ljava/util/ArrayList;") ∈ lw_all := lw_g (lw_at lw_m2 0 rfl) rfl
theorem q368 : (Jvm.Cond.fieldLink "NameOrchard$Reader" (271 : Nat) "NameOrchard$Orchard" "people" "Ljava/util/ArrayList;") ∈ lw_all := lw_g (lw_at lw_m2 5 rfl) rfl
theorem q370 : (Jvm.Cond.fieldLink "NameOrchard$Reader" (297 : Nat) "NameOrchard$Orchard" "strangers" "Ljava/util/ArrayList;") ∈ lw_all := lw_g (lw_at lw_m2 7 rfl) rfl
theorem q373 : (Jvm.Cond.fieldLink "NameOrchard$Reader" (301 : Nat) "NameOrchard$Orchard" "pages" "Ljava/util/ArrayList;") ∈ lw_all := lw_g (lw_at lw_m2 10 rfl) rfl
theorem q377 : (Jvm.Cond.fieldLink "NameOrchard$Reader" (314 : Nat) "NameOrchard$Orchard" "banns" "Ljava/util/ArrayList;") ∈ lw_all := lw_g (lw_at lw_m2 14 rfl) rfl
theorem q380 : (Jvm.Cond.fieldLink "NameOrchard$Reader" (317 : Nat) "NameOrchard$Orchard" "near" "LNameOrchard$Expression;") ∈ lw_all := lw_g (lw_at lw_m2 17 rfl) rfl
theorem q382 : (Jvm.Cond.fieldLink "NameOrchard$Reader" (320 : Nat) "NameOrchard$Orchard" "value" "LNameOrchard$Expression;") ∈ lw_all := lw_g (lw_at lw_m2 19 rfl) rfl
theorem q383 : (Jvm.Cond.fieldLink "NameOrchard$Reader" (268 : Nat) "NameOrchard$Orchard" "others" "I") ∈ lw_all := lw_g (lw_at lw_m2 20 rfl) rfl
theorem q563 : (Jvm.Cond.instanceMethod ({ cls := "NameOrchard$Reader", name := "feed", desc := "(J)V" } : Jvm.MethodName)) ∈ lw_all := lw_g (lw_at lw_m2 200 rfl) rfl
theorem q564 : (Jvm.Cond.selects "NameOrchard$Reader" ({ cls := "NameOrchard$Reader", name := "feed", desc := "(J)V" } : Jvm.MethodName) ({ cls := "NameOrchard$Reader", name := "feed", desc := "(J)V" } : Jvm.MethodName)) ∈ lw_all := lw_g (lw_at lw_m2 201 rfl) rfl
theorem q565 : (Jvm.Cond.code ({ cls := "NameOrchard$Reader", name := "feed", desc := "(J)V" } : Jvm.MethodName) prog_27_method_2_code (5 : Nat) (Option.none : Option Jvm.ClassFile.FieldType)) ∈ lw_all := lw_g (lw_at lw_m2 202 rfl) rfl
theorem q566 : (Jvm.Cond.constantLong "NameOrchard$Reader" (102 : Nat) (255 : Int64)) ∈ lw_all := lw_g (lw_at lw_m2 203 rfl) rfl
theorem q567 : (Jvm.Cond.methodLinkNest "NameOrchard$Reader" (104 : Nat) ({ cls := "NameOrchard", name := "within", desc := "(III)Z" } : Jvm.MethodName) "NameOrchard") ∈ lw_tbl := lw_at lw_m2 204 rfl
theorem q576 : (Jvm.Cond.instanceMethod ({ cls := "NameOrchard$Reader", name := "orchard", desc := "()LNameOrchard$Orchard;" } : Jvm.MethodName)) ∈ lw_all := lw_g (lw_at lw_m2 213 rfl) rfl
theorem q577 : (Jvm.Cond.selects "NameOrchard$Reader" ({ cls := "NameOrchard$Reader", name := "orchard", desc := "()LNameOrchard$Orchard;" } : Jvm.MethodName) ({ cls := "NameOrchard$Reader", name := "orchard", desc := "()LNameOrchard$Orchard;" } : Jvm.MethodName)) ∈ lw_all := lw_g (lw_at lw_m2 214 rfl) rfl
theorem q578 : (Jvm.Cond.code ({ cls := "NameOrchard$Reader", name := "orchard", desc := "()LNameOrchard$Orchard;" } : Jvm.MethodName) prog_27_method_16_code (1 : Nat) (Option.some (Jvm.ClassFile.FieldType.object "NameOrchard$Orchard"))) ∈ lw_all := lw_g (lw_at lw_m2 215 rfl) rfl
theorem q579 : (Jvm.Cond.methodLink "NameOrchard$Reader" (170 : Nat) ({ cls := "NameOrchard$Reader", name := "cut", desc := "()V" } : Jvm.MethodName)) ∈ lw_all := lw_g (lw_at lw_m2 216 rfl) rfl
theorem q580 : (Jvm.Cond.privateMethod ({ cls := "NameOrchard$Reader", name := "cut", desc := "()V" } : Jvm.MethodName)) ∈ lw_tbl := lw_at lw_m2 217 rfl
theorem q581 : (Jvm.Cond.instanceMethod ({ cls := "NameOrchard$Reader", name := "cut", desc := "()V" } : Jvm.MethodName)) ∈ lw_all := lw_g (lw_at lw_m2 218 rfl) rfl
theorem q582 : (Jvm.Cond.code ({ cls := "NameOrchard$Reader", name := "cut", desc := "()V" } : Jvm.MethodName) prog_27_method_6_code (8 : Nat) (Option.none : Option Jvm.ClassFile.FieldType)) ∈ lw_all := lw_g (lw_at lw_m2 219 rfl) rfl
theorem q583 : (Jvm.Cond.methodLink "NameOrchard$Reader" (124 : Nat) ({ cls := "NameOrchard$Reader", name := "isLetter", desc := "(I)Z" } : Jvm.MethodName)) ∈ lw_all := lw_g (lw_at lw_m2 220 rfl) rfl
theorem q584 : (Jvm.Cond.static ({ cls := "NameOrchard$Reader", name := "isLetter", desc := "(I)Z" } : Jvm.MethodName)) ∈ lw_all := lw_g (lw_at lw_m2 221 rfl) rfl
theorem q585 : (Jvm.Cond.code ({ cls := "NameOrchard$Reader", name := "isLetter", desc := "(I)Z" } : Jvm.MethodName) prog_27_method_4_code (1 : Nat) (Option.some Jvm.ClassFile.FieldType.boolean)) ∈ lw_all := lw_g (lw_at lw_m2 222 rfl) rfl
theorem q586 : (Jvm.Cond.constantLong "NameOrchard$Reader" (116 : Nat) (27 : Int64)) ∈ lw_all := lw_g (lw_at lw_m2 223 rfl) rfl
theorem q587 : (Jvm.Cond.constantLong "NameOrchard$Reader" (122 : Nat) (96 : Int64)) ∈ lw_all := lw_g (lw_at lw_m2 224 rfl) rfl
theorem q588 : (Jvm.Cond.methodLink "NameOrchard$Reader" (128 : Nat) ({ cls := "NameOrchard$Reader", name := "isDigit", desc := "(I)Z" } : Jvm.MethodName)) ∈ lw_all := lw_g (lw_at lw_m2 225 rfl) rfl
theorem q589 : (Jvm.Cond.static ({ cls := "NameOrchard$Reader", name := "isDigit", desc := "(I)Z" } : Jvm.MethodName)) ∈ lw_all := lw_g (lw_at lw_m2 226 rfl) rfl
theorem q590 : (Jvm.Cond.code ({ cls := "NameOrchard$Reader", name := "isDigit", desc := "(I)Z" } : Jvm.MethodName) prog_27_method_5_code (1 : Nat) (Option.some Jvm.ClassFile.FieldType.boolean)) ∈ lw_all := lw_g (lw_at lw_m2 227 rfl) rfl
theorem q591 : (Jvm.Cond.constantLong "NameOrchard$Reader" (131 : Nat) (10 : Int64)) ∈ lw_all := lw_g (lw_at lw_m2 228 rfl) rfl
theorem q592 : (Jvm.Cond.constantLong "NameOrchard$Reader" (133 : Nat) (48 : Int64)) ∈ lw_all := lw_g (lw_at lw_m2 229 rfl) rfl
theorem q593 : (Jvm.Cond.stringRef "NameOrchard$Reader" (135 : Nat) "()<=+-*;") ∈ lw_tbl := lw_at lw_m2 230 rfl
theorem q594 : (Jvm.Cond.methodLink "NameOrchard$Reader" (137 : Nat) ({ cls := "java/lang/String", name := "indexOf", desc := "(I)I" } : Jvm.MethodName)) ∈ lw_all := lw_g (lw_at lw_m2 231 rfl) rfl
theorem q680 : (Jvm.Cond.classLink "NameOrchard$Reader" (173 : Nat) "NameOrchard$Orchard") ∈ lw_all := lw_g (lw_at lw_m3 77 rfl) rfl
theorem q681 : (Jvm.Cond.methodLinkNest "NameOrchard$Reader" (175 : Nat) ({ cls := "NameOrchard$Orchard", name := "<init>", desc := "()V" } : Jvm.MethodName) "NameOrchard") ∈ lw_tbl := lw_at lw_m3 78 rfl
theorem q682 : (Jvm.Cond.methodLink "NameOrchard$Reader" (152 : Nat) ({ cls := "NameOrchard$Reader", name := "isWord", desc := "(Ljava/lang/String;)Z" } : Jvm.MethodName)) ∈ lw_all := lw_g (lw_at lw_m3 79 rfl) rfl
theorem q683 : (Jvm.Cond.privateMethod ({ cls := "NameOrchard$Reader", name := "isWord", desc := "(Ljava/lang/String;)Z" } : Jvm.MethodName)) ∈ lw_tbl := lw_at lw_m3 80 rfl
theorem q684 : (Jvm.Cond.instanceMethod ({ cls := "NameOrchard$Reader", name := "isWord", desc := "(Ljava/lang/String;)Z" } : Jvm.MethodName)) ∈ lw_all := lw_g (lw_at lw_m3 81 rfl) rfl
theorem q685 : (Jvm.Cond.code ({ cls := "NameOrchard$Reader", name := "isWord", desc := "(Ljava/lang/String;)Z" } : Jvm.MethodName) prog_27_method_8_code (2 : Nat) (Option.some Jvm.ClassFile.FieldType.boolean)) ∈ lw_all := lw_g (lw_at lw_m3 82 rfl) rfl
theorem q686 : (Jvm.Cond.methodLink "NameOrchard$Reader" (148 : Nat) ({ cls := "NameOrchard$Reader", name := "word", desc := "(Ljava/lang/String;)J" } : Jvm.MethodName)) ∈ lw_all := lw_g (lw_at lw_m3 83 rfl) rfl
theorem q687 : (Jvm.Cond.static ({ cls := "NameOrchard$Reader", name := "word", desc := "(Ljava/lang/String;)J" } : Jvm.MethodName)) ∈ lw_all := lw_g (lw_at lw_m3 84 rfl) rfl
theorem q688 : (Jvm.Cond.code ({ cls := "NameOrchard$Reader", name := "word", desc := "(Ljava/lang/String;)J" } : Jvm.MethodName) prog_27_method_3_code (4 : Nat) (Option.some Jvm.ClassFile.FieldType.long)) ∈ lw_all := lw_g (lw_at lw_m3 85 rfl) rfl
theorem q689 : (Jvm.Cond.methodLink "NameOrchard$Reader" (112 : Nat) ({ cls := "java/lang/String", name := "length", desc := "()I" } : Jvm.MethodName)) ∈ lw_all := lw_g (lw_at lw_m3 86 rfl) rfl
theorem q690 : (Jvm.Cond.methodLink "NameOrchard$Reader" (118 : Nat) ({ cls := "java/lang/String", name := "charAt", desc := "(I)C" } : Jvm.MethodName)) ∈ lw_all := lw_g (lw_at lw_m3 87 rfl) rfl
theorem q708 : (Jvm.Cond.methodLink "NameOrchard$Reader" (180 : Nat) ({ cls := "NameOrchard$Reader", name := "apple", desc := "()V" } : Jvm.MethodName)) ∈ lw_all := lw_g (lw_at lw_m3 105 rfl) rfl
theorem q709 : (Jvm.Cond.privateMethod ({ cls := "NameOrchard$Reader", name := "apple", desc := "()V" } : Jvm.MethodName)) ∈ lw_tbl := lw_at lw_m3 106 rfl
theorem q710 : (Jvm.Cond.instanceMethod ({ cls := "NameOrchard$Reader", name := "apple", desc := "()V" } : Jvm.MethodName)) ∈ lw_all := lw_g (lw_at lw_m3 107 rfl) rfl
theorem q711 : (Jvm.Cond.code ({ cls := "NameOrchard$Reader", name := "apple", desc := "()V" } : Jvm.MethodName) prog_27_method_22_code (7 : Nat) (Option.none : Option Jvm.ClassFile.FieldType)) ∈ lw_all := lw_g (lw_at lw_m3 108 rfl) rfl
theorem q712 : (Jvm.Cond.methodLink "NameOrchard$Reader" (227 : Nat) ({ cls := "java/util/ArrayList", name := "size", desc := "()I" } : Jvm.MethodName)) ∈ lw_all := lw_g (lw_at lw_m3 109 rfl) rfl
theorem q713 : (Jvm.Cond.methodLink "NameOrchard$Reader" (231 : Nat) ({ cls := "NameOrchard$Reader", name := "newName", desc := "(Z)J" } : Jvm.MethodName)) ∈ lw_all := lw_g (lw_at lw_m3 110 rfl) rfl
theorem q714 : (Jvm.Cond.privateMethod ({ cls := "NameOrchard$Reader", name := "newName", desc := "(Z)J" } : Jvm.MethodName)) ∈ lw_tbl := lw_at lw_m3 111 rfl
theorem q715 : (Jvm.Cond.instanceMethod ({ cls := "NameOrchard$Reader", name := "newName", desc := "(Z)J" } : Jvm.MethodName)) ∈ lw_all := lw_g (lw_at lw_m3 112 rfl) rfl
theorem q716 : (Jvm.Cond.code ({ cls := "NameOrchard$Reader", name := "newName", desc := "(Z)J" } : Jvm.MethodName) prog_27_method_18_code (2 : Nat) (Option.some Jvm.ClassFile.FieldType.long)) ∈ lw_all := lw_g (lw_at lw_m3 113 rfl) rfl
theorem q717 : (Jvm.Cond.methodLink "NameOrchard$Reader" (162 : Nat) ({ cls := "NameOrchard$Reader", name := "wrong", desc := "(I)LNameOrchard$Wrong;" } : Jvm.MethodName)) ∈ lw_all := lw_g (lw_at lw_m3 114 rfl) rfl
theorem q718 : (Jvm.Cond.privateMethod ({ cls := "NameOrchard$Reader", name := "wrong", desc := "(I)LNameOrchard$Wrong;" } : Jvm.MethodName)) ∈ lw_tbl := lw_at lw_m3 115 rfl
theorem q719 : (Jvm.Cond.instanceMethod ({ cls := "NameOrchard$Reader", name := "wrong", desc := "(I)LNameOrchard$Wrong;" } : Jvm.MethodName)) ∈ lw_all := lw_g (lw_at lw_m3 116 rfl) rfl
theorem q720 : (Jvm.Cond.code ({ cls := "NameOrchard$Reader", name := "wrong", desc := "(I)LNameOrchard$Wrong;" } : Jvm.MethodName) prog_27_method_7_code (2 : Nat) (Option.some (Jvm.ClassFile.FieldType.object "NameOrchard$Wrong"))) ∈ lw_all := lw_g (lw_at lw_m3 117 rfl) rfl
theorem q721 : (Jvm.Cond.classLink "NameOrchard$Reader" (143 : Nat) "NameOrchard$Wrong") ∈ lw_all := lw_g (lw_at lw_m3 118 rfl) rfl
theorem q759 : (Jvm.Cond.methodLink "NameOrchard$Reader" (145 : Nat) ({ cls := "NameOrchard$Wrong", name := "<init>", desc := "(I)V" } : Jvm.MethodName)) ∈ lw_all := lw_g (lw_at lw_m3 156 rfl) rfl
theorem q782 : (Jvm.Cond.methodLink "NameOrchard$Reader" (208 : Nat) ({ cls := "NameOrchard$Reader", name := "isName", desc := "()Z" } : Jvm.MethodName)) ∈ lw_all := lw_g (lw_at lw_m3 179 rfl) rfl
theorem q783 : (Jvm.Cond.privateMethod ({ cls := "NameOrchard$Reader", name := "isName", desc := "()Z" } : Jvm.MethodName)) ∈ lw_tbl := lw_at lw_m3 180 rfl
theorem q784 : (Jvm.Cond.instanceMethod ({ cls := "NameOrchard$Reader", name := "isName", desc := "()Z" } : Jvm.MethodName)) ∈ lw_all := lw_g (lw_at lw_m3 181 rfl) rfl
theorem q785 : (Jvm.Cond.code ({ cls := "NameOrchard$Reader", name := "isName", desc := "()Z" } : Jvm.MethodName) prog_27_method_15_code (1 : Nat) (Option.some Jvm.ClassFile.FieldType.boolean)) ∈ lw_all := lw_g (lw_at lw_m3 182 rfl) rfl
theorem q786 : (Jvm.Cond.methodLink "NameOrchard$Reader" (166 : Nat) ({ cls := "NameOrchard$Reader", name := "which", desc := "([Ljava/lang/String;)I" } : Jvm.MethodName)) ∈ lw_all := lw_g (lw_at lw_m3 183 rfl) rfl
theorem q787 : (Jvm.Cond.privateMethod ({ cls := "NameOrchard$Reader", name := "which", desc := "([Ljava/lang/String;)I" } : Jvm.MethodName)) ∈ lw_tbl := lw_at lw_m3 184 rfl
theorem q788 : (Jvm.Cond.instanceMethod ({ cls := "NameOrchard$Reader", name := "which", desc := "([Ljava/lang/String;)I" } : Jvm.MethodName)) ∈ lw_all := lw_g (lw_at lw_m3 185 rfl) rfl
theorem q789 : (Jvm.Cond.code ({ cls := "NameOrchard$Reader", name := "which", desc := "([Ljava/lang/String;)I" } : Jvm.MethodName) prog_27_method_10_code (3 : Nat) (Option.some Jvm.ClassFile.FieldType.int)) ∈ lw_all := lw_g (lw_at lw_m3 186 rfl) rfl
theorem q790 : (Jvm.Cond.methodLink "NameOrchard$Reader" (212 : Nat) ({ cls := "NameOrchard$Orchard", name := "sound", desc := "(J)I" } : Jvm.MethodName)) ∈ lw_all := lw_g (lw_at lw_m3 187 rfl) rfl
theorem q797 : (Jvm.Cond.methodLink "NameOrchard$Reader" (216 : Nat) ({ cls := "NameOrchard$Orchard", name := "person", desc := "(J)I" } : Jvm.MethodName)) ∈ lw_all := lw_g (lw_at lw_m3 194 rfl) rfl
theorem q806 : (Jvm.Cond.methodLink "NameOrchard$Reader" (235 : Nat) ({ cls := "NameOrchard$Reader", name := "number", desc := "(Ljava/lang/String;II)I" } : Jvm.MethodName)) ∈ lw_all := lw_g (lw_at lw_m3 203 rfl) rfl
theorem q807 : (Jvm.Cond.privateMethod ({ cls := "NameOrchard$Reader", name := "number", desc := "(Ljava/lang/String;II)I" } : Jvm.MethodName)) ∈ lw_tbl := lw_at lw_m3 204 rfl
theorem q808 : (Jvm.Cond.instanceMethod ({ cls := "NameOrchard$Reader", name := "number", desc := "(Ljava/lang/String;II)I" } : Jvm.MethodName)) ∈ lw_all := lw_g (lw_at lw_m3 205 rfl) rfl
theorem q809 : (Jvm.Cond.code ({ cls := "NameOrchard$Reader", name := "number", desc := "(Ljava/lang/String;II)I" } : Jvm.MethodName) prog_27_method_17_code (4 : Nat) (Option.some Jvm.ClassFile.FieldType.int)) ∈ lw_all := lw_g (lw_at lw_m3 206 rfl) rfl
theorem q810 : (Jvm.Cond.methodLink "NameOrchard$Reader" (200 : Nat) ({ cls := "NameOrchard$Reader", name := "takeWord", desc := "(Ljava/lang/String;)V" } : Jvm.MethodName)) ∈ lw_all := lw_g (lw_at lw_m3 207 rfl) rfl
theorem q811 : (Jvm.Cond.privateMethod ({ cls := "NameOrchard$Reader", name := "takeWord", desc := "(Ljava/lang/String;)V" } : Jvm.MethodName)) ∈ lw_tbl := lw_at lw_m3 208 rfl
theorem q812 : (Jvm.Cond.instanceMethod ({ cls := "NameOrchard$Reader", name := "takeWord", desc := "(Ljava/lang/String;)V" } : Jvm.MethodName)) ∈ lw_all := lw_g (lw_at lw_m3 209 rfl) rfl
theorem q813 : (Jvm.Cond.code ({ cls := "NameOrchard$Reader", name := "takeWord", desc := "(Ljava/lang/String;)V" } : Jvm.MethodName) prog_27_method_34_code (2 : Nat) (Option.none : Option Jvm.ClassFile.FieldType)) ∈ lw_all := lw_g (lw_at lw_m3 210 rfl) rfl
theorem q814 : (Jvm.Cond.methodLink "NameOrchard$Reader" (274 : Nat) ({ cls := "NameOrchard$Reader", name := "hasWord", desc := "(Ljava/lang/String;)Z" } : Jvm.MethodName)) ∈ lw_all := lw_g (lw_at lw_m3 211 rfl) rfl
theorem q815 : (Jvm.Cond.privateMethod ({ cls := "NameOrchard$Reader", name := "hasWord", desc := "(Ljava/lang/String;)Z" } : Jvm.MethodName)) ∈ lw_tbl := lw_at lw_m3 212 rfl
theorem q816 : (Jvm.Cond.instanceMethod ({ cls := "NameOrchard$Reader", name := "hasWord", desc := "(Ljava/lang/String;)Z" } : Jvm.MethodName)) ∈ lw_all := lw_g (lw_at lw_m3 213 rfl) rfl
theorem q817 : (Jvm.Cond.code ({ cls := "NameOrchard$Reader", name := "hasWord", desc := "(Ljava/lang/String;)Z" } : Jvm.MethodName) prog_27_method_9_code (3 : Nat) (Option.some Jvm.ClassFile.FieldType.boolean)) ∈ lw_all := lw_g (lw_at lw_m3 214 rfl) rfl
theorem q818 : (Jvm.Cond.methodLink "NameOrchard$Reader" (204 : Nat) ({ cls := "NameOrchard$Reader", name := "number", desc := "(II)I" } : Jvm.MethodName)) ∈ lw_all := lw_g (lw_at lw_m3 215 rfl) rfl
theorem q819 : (Jvm.Cond.privateMethod ({ cls := "NameOrchard$Reader", name := "number", desc := "(II)I" } : Jvm.MethodName)) ∈ lw_tbl := lw_at lw_m3 216 rfl
theorem q820 : (Jvm.Cond.instanceMethod ({ cls := "NameOrchard$Reader", name := "number", desc := "(II)I" } : Jvm.MethodName)) ∈ lw_all := lw_g (lw_at lw_m3 217 rfl) rfl
theorem q821 : (Jvm.Cond.code ({ cls := "NameOrchard$Reader", name := "number", desc := "(II)I" } : Jvm.MethodName) prog_27_method_14_code (3 : Nat) (Option.some Jvm.ClassFile.FieldType.int)) ∈ lw_all := lw_g (lw_at lw_m3 218 rfl) rfl
theorem q822 : (Jvm.Cond.methodLinkNest "NameOrchard$Reader" (241 : Nat) ({ cls := "NameOrchard", name := "made", desc := "(IIIIII)LNameOrchard$Apple;" } : Jvm.MethodName) "NameOrchard") ∈ lw_tbl := lw_at lw_m3 219 rfl
theorem q854 : (Jvm.Cond.fieldLink "NameOrchard$Reader" (263 : Nat) "NameOrchard$Apple" "twin" "I") ∈ lw_all := lw_g (lw_at lw_m4 11 rfl) rfl
theorem q904 : (Jvm.Cond.methodLink "NameOrchard$Reader" (245 : Nat) ({ cls := "java/util/ArrayList", name := "add", desc := "(Ljava/lang/Object;)Z" } : Jvm.MethodName)) ∈ lw_all := lw_g (lw_at lw_m4 61 rfl) rfl
theorem q957 : (Jvm.Cond.selects "NameOrchard$Reader" ({ cls := "java/lang/Object", name := "getClass", desc := "()Ljava/lang/Class;" } : Jvm.MethodName) ({ cls := "java/lang/Object", name := "getClass", desc := "()Ljava/lang/Class;" } : Jvm.MethodName)) ∈ lw_all := lw_g (lw_at lw_m4 114 rfl) rfl
theorem q979 : (Jvm.Cond.classLink "NameOrchard$Reader" (249 : Nat) "NameOrchard$Sound") ∈ lw_all := lw_g (lw_at lw_m4 136 rfl) rfl
theorem q981 : (Jvm.Cond.methodLink "NameOrchard$Reader" (251 : Nat) ({ cls := "NameOrchard$Sound", name := "<init>", desc := "(J)V" } : Jvm.MethodName)) ∈ lw_all := lw_g (lw_at lw_m4 138 rfl) rfl
theorem q997 : (Jvm.Cond.methodLink "NameOrchard$Reader" (182 : Nat) ({ cls := "NameOrchard$Reader", name := "twin", desc := "()V" } : Jvm.MethodName)) ∈ lw_all := lw_g (lw_at lw_m4 154 rfl) rfl
theorem q998 : (Jvm.Cond.privateMethod ({ cls := "NameOrchard$Reader", name := "twin", desc := "()V" } : Jvm.MethodName)) ∈ lw_tbl := lw_at lw_m4 155 rfl
theorem q999 : (Jvm.Cond.instanceMethod ({ cls := "NameOrchard$Reader", name := "twin", desc := "()V" } : Jvm.MethodName)) ∈ lw_all := lw_g (lw_at lw_m4 156 rfl) rfl
theorem q1000 : (Jvm.Cond.code ({ cls := "NameOrchard$Reader", name := "twin", desc := "()V" } : Jvm.MethodName) prog_27_method_24_code (3 : Nat) (Option.none : Option Jvm.ClassFile.FieldType)) ∈ lw_all := lw_g (lw_at lw_m4 157 rfl) rfl
theorem q1001 : (Jvm.Cond.methodLink "NameOrchard$Reader" (265 : Nat) ({ cls := "NameOrchard$Reader", name := "untwinned", desc := "()I" } : Jvm.MethodName)) ∈ lw_all := lw_g (lw_at lw_m4 158 rfl) rfl
theorem q1002 : (Jvm.Cond.privateMethod ({ cls := "NameOrchard$Reader", name := "untwinned", desc := "()I" } : Jvm.MethodName)) ∈ lw_tbl := lw_at lw_m4 159 rfl
theorem q1003 : (Jvm.Cond.instanceMethod ({ cls := "NameOrchard$Reader", name := "untwinned", desc := "()I" } : Jvm.MethodName)) ∈ lw_all := lw_g (lw_at lw_m4 160 rfl) rfl
theorem q1004 : (Jvm.Cond.code ({ cls := "NameOrchard$Reader", name := "untwinned", desc := "()I" } : Jvm.MethodName) prog_27_method_23_code (2 : Nat) (Option.some Jvm.ClassFile.FieldType.int)) ∈ lw_all := lw_g (lw_at lw_m4 161 rfl) rfl
theorem q1005 : (Jvm.Cond.methodLink "NameOrchard$Reader" (254 : Nat) ({ cls := "NameOrchard$Reader", name := "appleHere", desc := "()I" } : Jvm.MethodName)) ∈ lw_all := lw_g (lw_at lw_m4 162 rfl) rfl
theorem q1006 : (Jvm.Cond.privateMethod ({ cls := "NameOrchard$Reader", name := "appleHere", desc := "()I" } : Jvm.MethodName)) ∈ lw_tbl := lw_at lw_m4 163 rfl
theorem q1007 : (Jvm.Cond.instanceMethod ({ cls := "NameOrchard$Reader", name := "appleHere", desc := "()I" } : Jvm.MethodName)) ∈ lw_all := lw_g (lw_at lw_m4 164 rfl) rfl
theorem q1008 : (Jvm.Cond.code ({ cls := "NameOrchard$Reader", name := "appleHere", desc := "()I" } : Jvm.MethodName) prog_27_method_21_code (2 : Nat) (Option.some Jvm.ClassFile.FieldType.int)) ∈ lw_all := lw_g (lw_at lw_m4 165 rfl) rfl
theorem q1009 : (Jvm.Cond.methodLink "NameOrchard$Reader" (221 : Nat) ({ cls := "NameOrchard$Orchard", name := "apple", desc := "(I)I" } : Jvm.MethodName)) ∈ lw_all := lw_g (lw_at lw_m4 166 rfl) rfl
theorem q1014 : (Jvm.Cond.methodLink "NameOrchard$Reader" (257 : Nat) ({ cls := "java/util/ArrayList", name := "get", desc := "(I)Ljava/lang/Object;" } : Jvm.MethodName)) ∈ lw_all := lw_g (lw_at lw_m4 171 rfl) rfl
theorem q1015 : (Jvm.Cond.classLink "NameOrchard$Reader" (261 : Nat) "NameOrchard$Apple") ∈ lw_all := lw_g (lw_at lw_m4 172 rfl) rfl
theorem q1016 : (Jvm.Cond.methodLink "NameOrchard$Reader" (184 : Nat) ({ cls := "NameOrchard$Reader", name := "other", desc := "()V" } : Jvm.MethodName)) ∈ lw_all := lw_g (lw_at lw_m4 173 rfl) rfl
theorem q1017 : (Jvm.Cond.privateMethod ({ cls := "NameOrchard$Reader", name := "other", desc := "()V" } : Jvm.MethodName)) ∈ lw_tbl := lw_at lw_m4 174 rfl
theorem q1018 : (Jvm.Cond.instanceMethod ({ cls := "NameOrchard$Reader", name := "other", desc := "()V" } : Jvm.MethodName)) ∈ lw_all := lw_g (lw_at lw_m4 175 rfl) rfl
theorem q1019 : (Jvm.Cond.code ({ cls := "NameOrchard$Reader", name := "other", desc := "()V" } : Jvm.MethodName) prog_27_method_25_code (1 : Nat) (Option.none : Option Jvm.ClassFile.FieldType)) ∈ lw_all := lw_g (lw_at lw_m4 176 rfl) rfl
theorem q1020 : (Jvm.Cond.methodLink "NameOrchard$Reader" (186 : Nat) ({ cls := "NameOrchard$Reader", name := "person", desc := "()V" } : Jvm.MethodName)) ∈ lw_all := lw_g (lw_at lw_m4 177 rfl) rfl
theorem q1021 : (Jvm.Cond.privateMethod ({ cls := "NameOrchard$Reader", name := "person", desc := "()V" } : Jvm.MethodName)) ∈ lw_tbl := lw_at lw_m4 178 rfl
theorem q1022 : (Jvm.Cond.instanceMethod ({ cls := "NameOrchard$Reader", name := "person", desc := "()V" } : Jvm.MethodName)) ∈ lw_all := lw_g (lw_at lw_m4 179 rfl) rfl
theorem q1023 : (Jvm.Cond.code ({ cls := "NameOrchard$Reader", name := "person", desc := "()V" } : Jvm.MethodName) prog_27_method_26_code (6 : Nat) (Option.none : Option Jvm.ClassFile.FieldType)) ∈ lw_all := lw_g (lw_at lw_m4 180 rfl) rfl
theorem q1024 : (Jvm.Cond.methodLink "NameOrchard$Reader" (277 : Nat) ({ cls := "NameOrchard$Reader", name := "takeSound", desc := "()I" } : Jvm.MethodName)) ∈ lw_all := lw_g (lw_at lw_m4 181 rfl) rfl
theorem q1025 : (Jvm.Cond.privateMethod ({ cls := "NameOrchard$Reader", name := "takeSound", desc := "()I" } : Jvm.MethodName)) ∈ lw_tbl := lw_at lw_m4 182 rfl
theorem q1026 : (Jvm.Cond.instanceMethod ({ cls := "NameOrchard$Reader", name := "takeSound", desc := "()I" } : Jvm.MethodName)) ∈ lw_all := lw_g (lw_at lw_m4 183 rfl) rfl
theorem q1027 : (Jvm.Cond.code ({ cls := "NameOrchard$Reader", name := "takeSound", desc := "()I" } : Jvm.MethodName) prog_27_method_20_code (2 : Nat) (Option.some Jvm.ClassFile.FieldType.int)) ∈ lw_all := lw_g (lw_at lw_m4 184 rfl) rfl
theorem q1028 : (Jvm.Cond.methodLink "NameOrchard$Reader" (218 : Nat) ({ cls := "NameOrchard$Reader", name := "soundHere", desc := "()I" } : Jvm.MethodName)) ∈ lw_all := lw_g (lw_at lw_m4 185 rfl) rfl
theorem q1029 : (Jvm.Cond.privateMethod ({ cls := "NameOrchard$Reader", name := "soundHere", desc := "()I" } : Jvm.MethodName)) ∈ lw_tbl := lw_at lw_m4 186 rfl
theorem q1030 : (Jvm.Cond.instanceMethod ({ cls := "NameOrchard$Reader", name := "soundHere", desc := "()I" } : Jvm.MethodName)) ∈ lw_all := lw_g (lw_at lw_m4 187 rfl) rfl
theorem q1031 : (Jvm.Cond.code ({ cls := "NameOrchard$Reader", name := "soundHere", desc := "()I" } : Jvm.MethodName) prog_27_method_19_code (2 : Nat) (Option.some Jvm.ClassFile.FieldType.int)) ∈ lw_all := lw_g (lw_at lw_m4 188 rfl) rfl
theorem q1032 : (Jvm.Cond.methodLink "NameOrchard$Reader" (280 : Nat) ({ cls := "NameOrchard$Sound", name := "first", desc := "()I" } : Jvm.MethodName)) ∈ lw_all := lw_g (lw_at lw_m4 189 rfl) rfl
theorem q1036 : (Jvm.Cond.classLink "NameOrchard$Reader" (283 : Nat) "NameOrchard$Person") ∈ lw_all := lw_g (lw_at lw_m4 193 rfl) rfl
theorem q1038 : (Jvm.Cond.methodLink "NameOrchard$Reader" (285 : Nat) ({ cls := "NameOrchard$Person", name := "<init>", desc := "(III)V" } : Jvm.MethodName)) ∈ lw_all := lw_g (lw_at lw_m4 195 rfl) rfl
theorem q1057 : (Jvm.Cond.methodLink "NameOrchard$Reader" (291 : Nat) ({ cls := "java/lang/Long", name := "valueOf", desc := "(J)Ljava/lang/Long;" } : Jvm.MethodName)) ∈ lw_all := lw_g (lw_at lw_m4 214 rfl) rfl
theorem q1077 : (Jvm.Cond.methodLink "NameOrchard$Reader" (188 : Nat) ({ cls := "NameOrchard$Reader", name := "stranger", desc := "()V" } : Jvm.MethodName)) ∈ lw_all := lw_g (lw_at lw_m4 234 rfl) rfl
theorem q1078 : (Jvm.Cond.privateMethod ({ cls := "NameOrchard$Reader", name := "stranger", desc := "()V" } : Jvm.MethodName)) ∈ lw_tbl := lw_at lw_m4 235 rfl
theorem q1079 : (Jvm.Cond.instanceMethod ({ cls := "NameOrchard$Reader", name := "stranger", desc := "()V" } : Jvm.MethodName)) ∈ lw_all := lw_g (lw_at lw_m4 236 rfl) rfl
theorem q1080 : (Jvm.Cond.code ({ cls := "NameOrchard$Reader", name := "stranger", desc := "()V" } : Jvm.MethodName) prog_27_method_27_code (3 : Nat) (Option.none : Option Jvm.ClassFile.FieldType)) ∈ lw_all := lw_g (lw_at lw_m4 237 rfl) rfl
theorem q1081 : (Jvm.Cond.classLink "NameOrchard$Reader" (300 : Nat) "[I") ∈ lw_all := lw_g (lw_at lw_m4 238 rfl) rfl
theorem q1082 : (Jvm.Cond.methodLink "NameOrchard$Reader" (190 : Nat) ({ cls := "NameOrchard$Reader", name := "page", desc := "()V" } : Jvm.MethodName)) ∈ lw_all := lw_g (lw_at lw_m4 239 rfl) rfl
theorem q1083 : (Jvm.Cond.privateMethod ({ cls := "NameOrchard$Reader", name := "page", desc := "()V" } : Jvm.MethodName)) ∈ lw_tbl := lw_at lw_m5 0 rfl
theorem q1084 : (Jvm.Cond.instanceMethod ({ cls := "NameOrchard$Reader", name := "page", desc := "()V" } : Jvm.MethodName)) ∈ lw_all := lw_g (lw_at lw_m5 1 rfl) rfl
theorem q1085 : (Jvm.Cond.code ({ cls := "NameOrchard$Reader", name := "page", desc := "()V" } : Jvm.MethodName) prog_27_method_28_code (5 : Nat) (Option.none : Option Jvm.ClassFile.FieldType)) ∈ lw_all := lw_g (lw_at lw_m5 2 rfl) rfl
theorem q1086 : (Jvm.Cond.methodLinkNest "NameOrchard$Reader" (304 : Nat) ({ cls := "NameOrchard", name := "has", desc := "(II)Z" } : Jvm.MethodName) "NameOrchard") ∈ lw_tbl := lw_at lw_m5 3 rfl
theorem q1089 : (Jvm.Cond.methodLink "NameOrchard$Reader" (308 : Nat) ({ cls := "java/lang/System", name := "arraycopy", desc := "(Ljava/lang/Object;ILjava/lang/Object;II)V" } : Jvm.MethodName)) ∈ lw_all := lw_g (lw_at lw_m5 6 rfl) rfl
theorem q1090 : (Jvm.Cond.methodLink "NameOrchard$Reader" (192 : Nat) ({ cls := "NameOrchard$Reader", name := "bann", desc := "()V" } : Jvm.MethodName)) ∈ lw_all := lw_g (lw_at lw_m5 7 rfl) rfl
theorem q1091 : (Jvm.Cond.privateMethod ({ cls := "NameOrchard$Reader", name := "bann", desc := "()V" } : Jvm.MethodName)) ∈ lw_tbl := lw_at lw_m5 8 rfl
theorem q1092 : (Jvm.Cond.instanceMethod ({ cls := "NameOrchard$Reader", name := "bann", desc := "()V" } : Jvm.MethodName)) ∈ lw_all := lw_g (lw_at lw_m5 9 rfl) rfl
theorem q1093 : (Jvm.Cond.code ({ cls := "NameOrchard$Reader", name := "bann", desc := "()V" } : Jvm.MethodName) prog_27_method_29_code (3 : Nat) (Option.none : Option Jvm.ClassFile.FieldType)) ∈ lw_all := lw_g (lw_at lw_m5 10 rfl) rfl
theorem q1094 : (Jvm.Cond.methodLink "NameOrchard$Reader" (194 : Nat) ({ cls := "NameOrchard$Reader", name := "law", desc := "()V" } : Jvm.MethodName)) ∈ lw_all := lw_g (lw_at lw_m5 11 rfl) rfl
theorem q1095 : (Jvm.Cond.privateMethod ({ cls := "NameOrchard$Reader", name := "law", desc := "()V" } : Jvm.MethodName)) ∈ lw_tbl := lw_at lw_m5 12 rfl
theorem q1096 : (Jvm.Cond.instanceMethod ({ cls := "NameOrchard$Reader", name := "law", desc := "()V" } : Jvm.MethodName)) ∈ lw_all := lw_g (lw_at lw_m5 13 rfl) rfl
theorem q1097 : (Jvm.Cond.code ({ cls := "NameOrchard$Reader", name := "law", desc := "()V" } : Jvm.MethodName) prog_27_method_30_code (3 : Nat) (Option.none : Option Jvm.ClassFile.FieldType)) ∈ lw_all := lw_g (lw_at lw_m5 14 rfl) rfl
theorem q1098 : (Jvm.Cond.methodLink "NameOrchard$Reader" (322 : Nat) ({ cls := "NameOrchard$Reader", name := "whole", desc := "()LNameOrchard$Expression;" } : Jvm.MethodName)) ∈ lw_all := lw_g (lw_at lw_m5 15 rfl) rfl
theorem q1099 : (Jvm.Cond.privateMethod ({ cls := "NameOrchard$Reader", name := "whole", desc := "()LNameOrchard$Expression;" } : Jvm.MethodName)) ∈ lw_tbl := lw_at lw_m5 16 rfl
theorem q1100 : (Jvm.Cond.instanceMethod ({ cls := "NameOrchard$Reader", name := "whole", desc := "()LNameOrchard$Expression;" } : Jvm.MethodName)) ∈ lw_all := lw_g (lw_at lw_m5 17 rfl) rfl
theorem q1101 : (Jvm.Cond.code ({ cls := "NameOrchard$Reader", name := "whole", desc := "()LNameOrchard$Expression;" } : Jvm.MethodName) prog_27_method_35_code (1 : Nat) (Option.some (Jvm.ClassFile.FieldType.object "NameOrchard$Expression"))) ∈ lw_all := lw_g (lw_at lw_m5 18 rfl) rfl
theorem q1102 : (Jvm.Cond.methodLink "NameOrchard$Reader" (348 : Nat) ({ cls := "NameOrchard$Reader", name := "all", desc := "()LNameOrchard$Expression;" } : Jvm.MethodName)) ∈ lw_all := lw_g (lw_at lw_m5 19 rfl) rfl
theorem q1103 : (Jvm.Cond.privateMethod ({ cls := "NameOrchard$Reader", name := "all", desc := "()LNameOrchard$Expression;" } : Jvm.MethodName)) ∈ lw_tbl := lw_at lw_m5 20 rfl
theorem q1104 : (Jvm.Cond.instanceMethod ({ cls := "NameOrchard$Reader", name := "all", desc := "()LNameOrchard$Expression;" } : Jvm.MethodName)) ∈ lw_all := lw_g (lw_at lw_m5 21 rfl) rfl
theorem q1105 : (Jvm.Cond.code ({ cls := "NameOrchard$Reader", name := "all", desc := "()LNameOrchard$Expression;" } : Jvm.MethodName) prog_27_method_37_code (5 : Nat) (Option.some (Jvm.ClassFile.FieldType.object "NameOrchard$Expression"))) ∈ lw_all := lw_g (lw_at lw_m5 22 rfl) rfl
theorem q1106 : (Jvm.Cond.methodLink "NameOrchard$Reader" (356 : Nat) ({ cls := "NameOrchard$Reader", name := "test", desc := "()LNameOrchard$Expression;" } : Jvm.MethodName)) ∈ lw_all := lw_g (lw_at lw_m5 23 rfl) rfl
theorem q1107 : (Jvm.Cond.privateMethod ({ cls := "NameOrchard$Reader", name := "test", desc := "()LNameOrchard$Expression;" } : Jvm.MethodName)) ∈ lw_tbl := lw_at lw_m5 24 rfl
theorem q1108 : (Jvm.Cond.instanceMethod ({ cls := "NameOrchard$Reader", name := "test", desc := "()LNameOrchard$Expression;" } : Jvm.MethodName)) ∈ lw_all := lw_g (lw_at lw_m5 25 rfl) rfl
theorem q1109 : (Jvm.Cond.code ({ cls := "NameOrchard$Reader", name := "test", desc := "()LNameOrchard$Expression;" } : Jvm.MethodName) prog_27_method_38_code (5 : Nat) (Option.some (Jvm.ClassFile.FieldType.object "NameOrchard$Expression"))) ∈ lw_all := lw_g (lw_at lw_m5 26 rfl) rfl
theorem q1110 : (Jvm.Cond.methodLink "NameOrchard$Reader" (372 : Nat) ({ cls := "NameOrchard$Reader", name := "sum", desc := "()LNameOrchard$Expression;" } : Jvm.MethodName)) ∈ lw_all := lw_g (lw_at lw_m5 27 rfl) rfl
theorem q1111 : (Jvm.Cond.privateMethod ({ cls := "NameOrchard$Reader", name := "sum", desc := "()LNameOrchard$Expression;" } : Jvm.MethodName)) ∈ lw_tbl := lw_at lw_m5 28 rfl
theorem q1112 : (Jvm.Cond.instanceMethod ({ cls := "NameOrchard$Reader", name := "sum", desc := "()LNameOrchard$Expression;" } : Jvm.MethodName)) ∈ lw_all := lw_g (lw_at lw_m5 29 rfl) rfl
theorem q1113 : (Jvm.Cond.code ({ cls := "NameOrchard$Reader", name := "sum", desc := "()LNameOrchard$Expression;" } : Jvm.MethodName) prog_27_method_39_code (5 : Nat) (Option.some (Jvm.ClassFile.FieldType.object "NameOrchard$Expression"))) ∈ lw_all := lw_g (lw_at lw_m5 30 rfl) rfl
theorem q1114 : (Jvm.Cond.methodLink "NameOrchard$Reader" (381 : Nat) ({ cls := "NameOrchard$Reader", name := "term", desc := "()LNameOrchard$Expression;" } : Jvm.MethodName)) ∈ lw_all := lw_g (lw_at lw_m5 31 rfl) rfl
theorem q1115 : (Jvm.Cond.privateMethod ({ cls := "NameOrchard$Reader", name := "term", desc := "()LNameOrchard$Expression;" } : Jvm.MethodName)) ∈ lw_tbl := lw_at lw_m5 32 rfl
theorem q1116 : (Jvm.Cond.instanceMethod ({ cls := "NameOrchard$Reader", name := "term", desc := "()LNameOrchard$Expression;" } : Jvm.MethodName)) ∈ lw_all := lw_g (lw_at lw_m5 33 rfl) rfl
theorem q1117 : (Jvm.Cond.code ({ cls := "NameOrchard$Reader", name := "term", desc := "()LNameOrchard$Expression;" } : Jvm.MethodName) prog_27_method_40_code (4 : Nat) (Option.some (Jvm.ClassFile.FieldType.object "NameOrchard$Expression"))) ∈ lw_all := lw_g (lw_at lw_m5 34 rfl) rfl
theorem q1118 : (Jvm.Cond.methodLink "NameOrchard$Reader" (390 : Nat) ({ cls := "NameOrchard$Reader", name := "part", desc := "()LNameOrchard$Expression;" } : Jvm.MethodName)) ∈ lw_all := lw_g (lw_at lw_m5 35 rfl) rfl
theorem q1119 : (Jvm.Cond.privateMethod ({ cls := "NameOrchard$Reader", name := "part", desc := "()LNameOrchard$Expression;" } : Jvm.MethodName)) ∈ lw_tbl := lw_at lw_m5 36 rfl
theorem q1120 : (Jvm.Cond.instanceMethod ({ cls := "NameOrchard$Reader", name := "part", desc := "()LNameOrchard$Expression;" } : Jvm.MethodName)) ∈ lw_all := lw_g (lw_at lw_m5 37 rfl) rfl
theorem q1121 : (Jvm.Cond.code ({ cls := "NameOrchard$Reader", name := "part", desc := "()LNameOrchard$Expression;" } : Jvm.MethodName) prog_27_method_41_code (4 : Nat) (Option.some (Jvm.ClassFile.FieldType.object "NameOrchard$Expression"))) ∈ lw_all := lw_g (lw_at lw_m5 38 rfl) rfl
theorem q1122 : (Jvm.Cond.methodLink "NameOrchard$Reader" (156 : Nat) ({ cls := "NameOrchard$Reader", name := "isSign", desc := "(I)Z" } : Jvm.MethodName)) ∈ lw_all := lw_g (lw_at lw_m5 39 rfl) rfl
theorem q1123 : (Jvm.Cond.privateMethod ({ cls := "NameOrchard$Reader", name := "isSign", desc := "(I)Z" } : Jvm.MethodName)) ∈ lw_tbl := lw_at lw_m5 40 rfl
theorem q1124 : (Jvm.Cond.instanceMethod ({ cls := "NameOrchard$Reader", name := "isSign", desc := "(I)Z" } : Jvm.MethodName)) ∈ lw_all := lw_g (lw_at lw_m5 41 rfl) rfl
theorem q1125 : (Jvm.Cond.code ({ cls := "NameOrchard$Reader", name := "isSign", desc := "(I)Z" } : Jvm.MethodName) prog_27_method_11_code (2 : Nat) (Option.some Jvm.ClassFile.FieldType.boolean)) ∈ lw_all := lw_g (lw_at lw_m5 42 rfl) rfl
theorem q1126 : (Jvm.Cond.classLink "NameOrchard$Reader" (396 : Nat) "NameOrchard$Fact") ∈ lw_all := lw_g (lw_at lw_m5 43 rfl) rfl
theorem q1128 : (Jvm.Cond.methodLink "NameOrchard$Reader" (398 : Nat) ({ cls := "NameOrchard$Fact", name := "<init>", desc := "(I)V" } : Jvm.MethodName)) ∈ lw_all := lw_g (lw_at lw_m5 45 rfl) rfl
theorem q1139 : (Jvm.Cond.classLink "NameOrchard$Reader" (399 : Nat) "NameOrchard$Plain") ∈ lw_all := lw_g (lw_at lw_m5 56 rfl) rfl
theorem q1141 : (Jvm.Cond.methodLink "NameOrchard$Reader" (401 : Nat) ({ cls := "NameOrchard$Plain", name := "<init>", desc := "(I)V" } : Jvm.MethodName)) ∈ lw_all := lw_g (lw_at lw_m5 58 rfl) rfl
theorem q1149 : (Jvm.Cond.classLink "NameOrchard$Reader" (402 : Nat) "NameOrchard$Not") ∈ lw_all := lw_g (lw_at lw_m5 66 rfl) rfl
theorem q1151 : (Jvm.Cond.methodLink "NameOrchard$Reader" (404 : Nat) ({ cls := "NameOrchard$Not", name := "<init>", desc := "(LNameOrchard$Expression;)V" } : Jvm.MethodName)) ∈ lw_all := lw_g (lw_at lw_m5 68 rfl) rfl
theorem q1159 : (Jvm.Cond.methodLink "NameOrchard$Reader" (197 : Nat) ({ cls := "NameOrchard$Reader", name := "sign", desc := "(I)V" } : Jvm.MethodName)) ∈ lw_all := lw_g (lw_at lw_m5 76 rfl) rfl
theorem q1160 : (Jvm.Cond.privateMethod ({ cls := "NameOrchard$Reader", name := "sign", desc := "(I)V" } : Jvm.MethodName)) ∈ lw_tbl := lw_at lw_m5 77 rfl
theorem q1161 : (Jvm.Cond.instanceMethod ({ cls := "NameOrchard$Reader", name := "sign", desc := "(I)V" } : Jvm.MethodName)) ∈ lw_all := lw_g (lw_at lw_m5 78 rfl) rfl
theorem q1162 : (Jvm.Cond.code ({ cls := "NameOrchard$Reader", name := "sign", desc := "(I)V" } : Jvm.MethodName) prog_27_method_13_code (2 : Nat) (Option.none : Option Jvm.ClassFile.FieldType)) ∈ lw_all := lw_g (lw_at lw_m5 79 rfl) rfl
theorem q1163 : (Jvm.Cond.methodLink "NameOrchard$Reader" (159 : Nat) ({ cls := "NameOrchard$Reader", name := "hasSign", desc := "(I)Z" } : Jvm.MethodName)) ∈ lw_all := lw_g (lw_at lw_m5 80 rfl) rfl
theorem q1164 : (Jvm.Cond.privateMethod ({ cls := "NameOrchard$Reader", name := "hasSign", desc := "(I)Z" } : Jvm.MethodName)) ∈ lw_tbl := lw_at lw_m5 81 rfl
theorem q1165 : (Jvm.Cond.instanceMethod ({ cls := "NameOrchard$Reader", name := "hasSign", desc := "(I)Z" } : Jvm.MethodName)) ∈ lw_all := lw_g (lw_at lw_m5 82 rfl) rfl
theorem q1166 : (Jvm.Cond.code ({ cls := "NameOrchard$Reader", name := "hasSign", desc := "(I)Z" } : Jvm.MethodName) prog_27_method_12_code (3 : Nat) (Option.some Jvm.ClassFile.FieldType.boolean)) ∈ lw_all := lw_g (lw_at lw_m5 83 rfl) rfl
theorem q1167 : (Jvm.Cond.methodLink "NameOrchard$Reader" (359 : Nat) ({ cls := "NameOrchard$Reader", name := "chain", desc := "(LNameOrchard$Expression;LNameOrchard$Chain;)LNameOrchard$Chain;" } : Jvm.MethodName)) ∈ lw_all := lw_g (lw_at lw_m5 84 rfl) rfl
theorem q1168 : (Jvm.Cond.static ({ cls := "NameOrchard$Reader", name := "chain", desc := "(LNameOrchard$Expression;LNameOrchard$Chain;)LNameOrchard$Chain;" } : Jvm.MethodName)) ∈ lw_all := lw_g (lw_at lw_m5 85 rfl) rfl
theorem q1169 : (Jvm.Cond.code ({ cls := "NameOrchard$Reader", name := "chain", desc := "(LNameOrchard$Expression;LNameOrchard$Chain;)LNameOrchard$Chain;" } : Jvm.MethodName) prog_27_method_36_code (2 : Nat) (Option.some (Jvm.ClassFile.FieldType.object "NameOrchard$Chain"))) ∈ lw_all := lw_g (lw_at lw_m5 86 rfl) rfl
theorem q1170 : (Jvm.Cond.classLink "NameOrchard$Reader" (351 : Nat) "NameOrchard$Chain") ∈ lw_all := lw_g (lw_at lw_m5 87 rfl) rfl
theorem q1172 : (Jvm.Cond.methodLink "NameOrchard$Reader" (353 : Nat) ({ cls := "NameOrchard$Chain", name := "<init>", desc := "(LNameOrchard$Expression;)V" } : Jvm.MethodName)) ∈ lw_all := lw_g (lw_at lw_m5 89 rfl) rfl
theorem q1180 : (Jvm.Cond.fieldLink "NameOrchard$Reader" (363 : Nat) "NameOrchard$Chain" "links" "Ljava/util/ArrayList;") ∈ lw_all := lw_g (lw_at lw_m5 97 rfl) rfl
theorem q1186 : (Jvm.Cond.classLink "NameOrchard$Reader" (393 : Nat) "NameOrchard$Times") ∈ lw_all := lw_g (lw_at lw_m5 103 rfl) rfl
theorem q1188 : (Jvm.Cond.methodLink "NameOrchard$Reader" (395 : Nat) ({ cls := "NameOrchard$Times", name := "<init>", desc := "(LNameOrchard$Expression;)V" } : Jvm.MethodName)) ∈ lw_all := lw_g (lw_at lw_m5 105 rfl) rfl
theorem q1199 : (Jvm.Cond.classLink "NameOrchard$Reader" (384 : Nat) "NameOrchard$Plus") ∈ lw_all := lw_g (lw_at lw_m5 116 rfl) rfl
theorem q1201 : (Jvm.Cond.methodLink "NameOrchard$Reader" (386 : Nat) ({ cls := "NameOrchard$Plus", name := "<init>", desc := "(LNameOrchard$Expression;)V" } : Jvm.MethodName)) ∈ lw_all := lw_g (lw_at lw_m5 118 rfl) rfl
theorem q1207 : (Jvm.Cond.classLink "NameOrchard$Reader" (387 : Nat) "NameOrchard$Minus") ∈ lw_all := lw_g (lw_at lw_m5 124 rfl) rfl
theorem q1209 : (Jvm.Cond.methodLink "NameOrchard$Reader" (389 : Nat) ({ cls := "NameOrchard$Minus", name := "<init>", desc := "(LNameOrchard$Expression;)V" } : Jvm.MethodName)) ∈ lw_all := lw_g (lw_at lw_m5 126 rfl) rfl
theorem q1215 : (Jvm.Cond.classLink "NameOrchard$Reader" (375 : Nat) "NameOrchard$Less") ∈ lw_all := lw_g (lw_at lw_m5 132 rfl) rfl
theorem q1217 : (Jvm.Cond.methodLink "NameOrchard$Reader" (377 : Nat) ({ cls := "NameOrchard$Less", name := "<init>", desc := "(LNameOrchard$Expression;)V" } : Jvm.MethodName)) ∈ lw_all := lw_g (lw_at lw_m5 134 rfl) rfl
theorem q1223 : (Jvm.Cond.classLink "NameOrchard$Reader" (378 : Nat) "NameOrchard$Same") ∈ lw_all := lw_g (lw_at lw_m5 140 rfl) rfl
theorem q1225 : (Jvm.Cond.methodLink "NameOrchard$Reader" (380 : Nat) ({ cls := "NameOrchard$Same", name := "<init>", desc := "(LNameOrchard$Expression;)V" } : Jvm.MethodName)) ∈ lw_all := lw_g (lw_at lw_m5 142 rfl) rfl
theorem q1231 : (Jvm.Cond.classLink "NameOrchard$Reader" (366 : Nat) "NameOrchard$And") ∈ lw_all := lw_g (lw_at lw_m5 148 rfl) rfl
theorem q1233 : (Jvm.Cond.methodLink "NameOrchard$Reader" (368 : Nat) ({ cls := "NameOrchard$And", name := "<init>", desc := "(LNameOrchard$Expression;)V" } : Jvm.MethodName)) ∈ lw_all := lw_g (lw_at lw_m5 150 rfl) rfl
theorem q1239 : (Jvm.Cond.classLink "NameOrchard$Reader" (369 : Nat) "NameOrchard$Or") ∈ lw_all := lw_g (lw_at lw_m5 156 rfl) rfl
theorem q1241 : (Jvm.Cond.methodLink "NameOrchard$Reader" (371 : Nat) ({ cls := "NameOrchard$Or", name := "<init>", desc := "(LNameOrchard$Expression;)V" } : Jvm.MethodName)) ∈ lw_all := lw_g (lw_at lw_m5 158 rfl) rfl
theorem q1260 : (Jvm.Cond.instanceMethod ({ cls := "NameOrchard$Reader", name := "days", desc := "(LNameOrchard$Orchard;)Ljava/util/ArrayList;" } : Jvm.MethodName)) ∈ lw_all := lw_g (lw_at lw_m5 177 rfl) rfl
theorem q1261 : (Jvm.Cond.selects "NameOrchard$Reader" ({ cls := "NameOrchard$Reader", name := "days", desc := "(LNameOrchard$Orchard;)Ljava/util/ArrayList;" } : Jvm.MethodName) ({ cls := "NameOrchard$Reader", name := "days", desc := "(LNameOrchard$Orchard;)Ljava/util/ArrayList;" } : Jvm.MethodName)) ∈ lw_all := lw_g (lw_at lw_m5 178 rfl) rfl
theorem q1262 : (Jvm.Cond.code ({ cls := "NameOrchard$Reader", name := "days", desc := "(LNameOrchard$Orchard;)Ljava/util/ArrayList;" } : Jvm.MethodName) prog_27_method_31_code (3 : Nat) (Option.some (Jvm.ClassFile.FieldType.object "java/util/ArrayList"))) ∈ lw_all := lw_g (lw_at lw_m5 179 rfl) rfl
theorem q1263 : (Jvm.Cond.classLink "NameOrchard$Reader" (228 : Nat) "java/util/ArrayList") ∈ lw_all := lw_g (lw_at lw_m5 180 rfl) rfl
theorem q1264 : (Jvm.Cond.methodLink "NameOrchard$Reader" (326 : Nat) ({ cls := "java/util/ArrayList", name := "<init>", desc := "(I)V" } : Jvm.MethodName)) ∈ lw_all := lw_g (lw_at lw_m5 181 rfl) rfl
theorem q1265 : (Jvm.Cond.methodLink "NameOrchard$Reader" (327 : Nat) ({ cls := "NameOrchard$Reader", name := "line", desc := "()LNameOrchard$Line;" } : Jvm.MethodName)) ∈ lw_all := lw_g (lw_at lw_m5 182 rfl) rfl
theorem q1266 : (Jvm.Cond.privateMethod ({ cls := "NameOrchard$Reader", name := "line", desc := "()LNameOrchard$Line;" } : Jvm.MethodName)) ∈ lw_tbl := lw_at lw_m5 183 rfl
theorem q1267 : (Jvm.Cond.instanceMethod ({ cls := "NameOrchard$Reader", name := "line", desc := "()LNameOrchard$Line;" } : Jvm.MethodName)) ∈ lw_all := lw_g (lw_at lw_m5 184 rfl) rfl
theorem q1268 : (Jvm.Cond.code ({ cls := "NameOrchard$Reader", name := "line", desc := "()LNameOrchard$Line;" } : Jvm.MethodName) prog_27_method_32_code (2 : Nat) (Option.some (Jvm.ClassFile.FieldType.object "NameOrchard$Line"))) ∈ lw_all := lw_g (lw_at lw_m5 185 rfl) rfl
theorem q1269 : (Jvm.Cond.methodLink "NameOrchard$Reader" (331 : Nat) ({ cls := "NameOrchard$Reader", name := "calls", desc := "()LNameOrchard$Line;" } : Jvm.MethodName)) ∈ lw_all := lw_g (lw_at lw_m5 186 rfl) rfl
theorem q1270 : (Jvm.Cond.privateMethod ({ cls := "NameOrchard$Reader", name := "calls", desc := "()LNameOrchard$Line;" } : Jvm.MethodName)) ∈ lw_tbl := lw_at lw_m5 187 rfl
theorem q1271 : (Jvm.Cond.instanceMethod ({ cls := "NameOrchard$Reader", name := "calls", desc := "()LNameOrchard$Line;" } : Jvm.MethodName)) ∈ lw_all := lw_g (lw_at lw_m5 188 rfl) rfl
theorem q1272 : (Jvm.Cond.code ({ cls := "NameOrchard$Reader", name := "calls", desc := "()LNameOrchard$Line;" } : Jvm.MethodName) prog_27_method_33_code (2 : Nat) (Option.some (Jvm.ClassFile.FieldType.object "NameOrchard$Line"))) ∈ lw_all := lw_g (lw_at lw_m5 189 rfl) rfl
theorem q1273 : (Jvm.Cond.classLink "NameOrchard$Reader" (340 : Nat) "NameOrchard$Calls") ∈ lw_all := lw_g (lw_at lw_m5 190 rfl) rfl
theorem q1275 : (Jvm.Cond.methodLink "NameOrchard$Reader" (342 : Nat) ({ cls := "NameOrchard$Calls", name := "<init>", desc := "(II)V" } : Jvm.MethodName)) ∈ lw_all := lw_g (lw_at lw_m5 192 rfl) rfl
theorem q1289 : (Jvm.Cond.classLink "NameOrchard$Reader" (334 : Nat) "NameOrchard$Picks") ∈ lw_all := lw_g (lw_at lw_m5 206 rfl) rfl
theorem q1291 : (Jvm.Cond.methodLink "NameOrchard$Reader" (336 : Nat) ({ cls := "NameOrchard$Picks", name := "<init>", desc := "(I)V" } : Jvm.MethodName)) ∈ lw_all := lw_g (lw_at lw_m5 208 rfl) rfl
theorem q1299 : (Jvm.Cond.classLink "NameOrchard$Reader" (337 : Nat) "NameOrchard$Passes") ∈ lw_all := lw_g (lw_at lw_m5 216 rfl) rfl
theorem q1301 : (Jvm.Cond.methodLinkNest "NameOrchard$Reader" (339 : Nat) ({ cls := "NameOrchard$Passes", name := "<init>", desc := "()V" } : Jvm.MethodName) "NameOrchard") ∈ lw_tbl := lw_at lw_m5 218 rfl
theorem q2605 : (Jvm.Cond.castable "NameOrchard$Reader" "java/lang/Object") ∈ lw_tbl := lw_at lw_m11 82 rfl
theorem in_X2 : ∀ w ∈ wsX20, w ∈ lw_all := lw_in wsX20 [238, 240, 242, 244, 246, 248, 250, 252, 254, 256, 258, 260, 262] (by decide +kernel) (by decide +kernel)
