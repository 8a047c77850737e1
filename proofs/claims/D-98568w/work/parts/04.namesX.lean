/-! NameOrchard$Boughs -/
set_option maxRecDepth 100000
def RX3 : String := "NameOrchard$Boughs"
def TX3 : u_T := fun k => match k with
  | 0 => ("NameOrchard$Boughs", "orchard", "LNameOrchard$Orchard;", false)
  | 1 => ("NameOrchard$Boughs", "hang", "I", false)
  | 2 => ("NameOrchard$Boughs", "loose", "I", false)
  | 3 => ("NameOrchard$Boughs", "sounds", "[I", true)
  | 4 => ("NameOrchard$Boughs", "day", "I", false)
  | 5 => ("NameOrchard$Boughs", "had", "I", false)
  | _ => ("NameOrchard$Boughs", "isPicked", "Z", false)
def tyX3 : Nat → FieldType := fun k => match k with
  | 0 => .object "NameOrchard$Orchard"
  | 1 => .int
  | 2 => .int
  | 3 => .array .int
  | 4 => .int
  | 5 => .int
  | _ => .boolean
abbrev wsX30 : List Cond := u_ws RX3 TX3 7
theorem nmX3 : ∀ a, a < 7 → ∀ b, b < 7 → a ≠ b → (TX3 a).2.1 ≠ (TX3 b).2.1 := by decide +kernel
theorem tyX3_ok : ∀ k, k < 7 → parseFieldDescriptor (TX3 k).2.2.1 = some (tyX3 k) := by decide +kernel
abbrev cX3_init : ByteArray := prog_5_method_1_code
def yX3_init : MethodName := ⟨RX3, "<init>", "()V"⟩
def dkwX3_init_0 : List UInt8 := [42, 183, 0, 3, 42, 16, 10, 188, 10, 181, 0, 9, 177]
abbrev dktX3_init_0 : List UInt8 := dkwX3_init_0 ++ []
theorem dksX3_init_0 : cX3_init.data.toList.drop 0 = dktX3_init_0 := by decide +kernel
theorem dX3_init_0 : decode cX3_init 0 = .ok (.aload_n 0, 1) := dk_42 (dk_at dksX3_init_0 0 rfl rfl)
theorem dX3_init_1 : decode cX3_init 1 = .ok (.invokespecial 3, 3) := dk_183 0 3 (dk_at dksX3_init_0 1 rfl rfl)
theorem dX3_init_4 : decode cX3_init 4 = .ok (.aload_n 0, 1) := dk_42 (dk_at dksX3_init_0 4 rfl rfl)
theorem dX3_init_5 : decode cX3_init 5 = .ok (.bipush 10, 2) := dk_16 10 (dk_at dksX3_init_0 5 rfl rfl)
theorem dX3_init_7 : decode cX3_init 7 = .ok (.newarray .int, 2) := dk_188_10 (dk_at dksX3_init_0 7 rfl rfl)
theorem dX3_init_9 : decode cX3_init 9 = .ok (.putfield 9, 3) := dk_181 0 9 (dk_at dksX3_init_0 9 rfl rfl)
theorem dX3_init_12 : decode cX3_init 12 = .ok (.return_, 1) := dk_177 (dk_at dksX3_init_0 12 rfl rfl)
abbrev cX3_begins : ByteArray := prog_5_method_2_code
def yX3_begins : MethodName := ⟨RX3, "begins", "(LNameOrchard$Orchard;)LNameOrchard$Boughs;"⟩
def dkwX3_begins_3 : List UInt8 := [181, 0, 47, 42, 3, 181, 0, 50, 42, 3, 181, 0, 53, 42, 176]
abbrev dktX3_begins_3 : List UInt8 := dkwX3_begins_3 ++ []
def dkwX3_begins_2 : List UInt8 := [180, 0, 19, 28, 182, 0, 38, 192, 0, 42, 180, 0, 44, 79, 132, 2, 1, 167, 255, 222, 42, 3]
abbrev dktX3_begins_2 : List UInt8 := dkwX3_begins_2 ++ dktX3_begins_3
def dkwX3_begins_1 : List UInt8 := [181, 0, 35, 3, 61, 28, 43, 180, 0, 19, 182, 0, 25, 162, 0, 29, 42, 180, 0, 9, 28, 43]
abbrev dktX3_begins_1 : List UInt8 := dkwX3_begins_1 ++ dktX3_begins_2
def dkwX3_begins_0 : List UInt8 := [42, 43, 181, 0, 15, 42, 4, 43, 180, 0, 19, 182, 0, 25, 120, 4, 100, 181, 0, 31, 42, 3]
abbrev dktX3_begins_0 : List UInt8 := dkwX3_begins_0 ++ dktX3_begins_1
theorem dksX3_begins_0 : cX3_begins.data.toList.drop 0 = dktX3_begins_0 := by decide +kernel
theorem dksX3_begins_1 : cX3_begins.data.toList.drop 22 = dktX3_begins_1 := dk_seg dksX3_begins_0 22 rfl rfl
theorem dksX3_begins_2 : cX3_begins.data.toList.drop 44 = dktX3_begins_2 := dk_seg dksX3_begins_1 22 rfl rfl
theorem dksX3_begins_3 : cX3_begins.data.toList.drop 66 = dktX3_begins_3 := dk_seg dksX3_begins_2 22 rfl rfl
theorem dX3_begins_0 : decode cX3_begins 0 = .ok (.aload_n 0, 1) := dk_42 (dk_at dksX3_begins_0 0 rfl rfl)
theorem dX3_begins_1 : decode cX3_begins 1 = .ok (.aload_n 1, 1) := dk_43 (dk_at dksX3_begins_0 1 rfl rfl)
theorem dX3_begins_2 : decode cX3_begins 2 = .ok (.putfield 15, 3) := dk_181 0 15 (dk_at dksX3_begins_0 2 rfl rfl)
theorem dX3_begins_5 : decode cX3_begins 5 = .ok (.aload_n 0, 1) := dk_42 (dk_at dksX3_begins_0 5 rfl rfl)
theorem dX3_begins_6 : decode cX3_begins 6 = .ok (.iconst 1, 1) := dk_4 (dk_at dksX3_begins_0 6 rfl rfl)
theorem dX3_begins_7 : decode cX3_begins 7 = .ok (.aload_n 1, 1) := dk_43 (dk_at dksX3_begins_0 7 rfl rfl)
theorem dX3_begins_8 : decode cX3_begins 8 = .ok (.getfield 19, 3) := dk_180 0 19 (dk_at dksX3_begins_0 8 rfl rfl)
theorem dX3_begins_11 : decode cX3_begins 11 = .ok (.invokevirtual 25, 3) := dk_182 0 25 (dk_at dksX3_begins_0 11 rfl rfl)
theorem dX3_begins_14 : decode cX3_begins 14 = .ok (.ishl, 1) := dk_120 (dk_at dksX3_begins_0 14 rfl rfl)
theorem dX3_begins_15 : decode cX3_begins 15 = .ok (.iconst 1, 1) := dk_4 (dk_at dksX3_begins_0 15 rfl rfl)
theorem dX3_begins_16 : decode cX3_begins 16 = .ok (.isub, 1) := dk_100 (dk_at dksX3_begins_0 16 rfl rfl)
theorem dX3_begins_17 : decode cX3_begins 17 = .ok (.putfield 31, 3) := dk_181 0 31 (dk_at dksX3_begins_0 17 rfl rfl)
theorem dX3_begins_20 : decode cX3_begins 20 = .ok (.aload_n 0, 1) := dk_42 (dk_at dksX3_begins_0 20 rfl rfl)
theorem dX3_begins_21 : decode cX3_begins 21 = .ok (.iconst 0, 1) := dk_3 (dk_at dksX3_begins_0 21 rfl rfl)
theorem dX3_begins_22 : decode cX3_begins 22 = .ok (.putfield 35, 3) := dk_181 0 35 (dk_at dksX3_begins_1 0 rfl rfl)
theorem dX3_begins_25 : decode cX3_begins 25 = .ok (.iconst 0, 1) := dk_3 (dk_at dksX3_begins_1 3 rfl rfl)
theorem dX3_begins_26 : decode cX3_begins 26 = .ok (.istore_n 2, 1) := dk_61 (dk_at dksX3_begins_1 4 rfl rfl)
theorem dX3_begins_27 : decode cX3_begins 27 = .ok (.iload_n 2, 1) := dk_28 (dk_at dksX3_begins_1 5 rfl rfl)
theorem dX3_begins_28 : decode cX3_begins 28 = .ok (.aload_n 1, 1) := dk_43 (dk_at dksX3_begins_1 6 rfl rfl)
theorem dX3_begins_29 : decode cX3_begins 29 = .ok (.getfield 19, 3) := dk_180 0 19 (dk_at dksX3_begins_1 7 rfl rfl)
theorem dX3_begins_32 : decode cX3_begins 32 = .ok (.invokevirtual 25, 3) := dk_182 0 25 (dk_at dksX3_begins_1 10 rfl rfl)
theorem dX3_begins_35 : decode cX3_begins 35 = .ok (.if_icmp .ge 29, 3) := dk_162 0 29 (dk_at dksX3_begins_1 13 rfl rfl)
theorem dX3_begins_38 : decode cX3_begins 38 = .ok (.aload_n 0, 1) := dk_42 (dk_at dksX3_begins_1 16 rfl rfl)
theorem dX3_begins_39 : decode cX3_begins 39 = .ok (.getfield 9, 3) := dk_180 0 9 (dk_at dksX3_begins_1 17 rfl rfl)
theorem dX3_begins_42 : decode cX3_begins 42 = .ok (.iload_n 2, 1) := dk_28 (dk_at dksX3_begins_1 20 rfl rfl)
theorem dX3_begins_43 : decode cX3_begins 43 = .ok (.aload_n 1, 1) := dk_43 (dk_at dksX3_begins_1 21 rfl rfl)
theorem dX3_begins_44 : decode cX3_begins 44 = .ok (.getfield 19, 3) := dk_180 0 19 (dk_at dksX3_begins_2 0 rfl rfl)
theorem dX3_begins_47 : decode cX3_begins 47 = .ok (.iload_n 2, 1) := dk_28 (dk_at dksX3_begins_2 3 rfl rfl)
theorem dX3_begins_48 : decode cX3_begins 48 = .ok (.invokevirtual 38, 3) := dk_182 0 38 (dk_at dksX3_begins_2 4 rfl rfl)
theorem dX3_begins_51 : decode cX3_begins 51 = .ok (.checkcast 42, 3) := dk_192 0 42 (dk_at dksX3_begins_2 7 rfl rfl)
theorem dX3_begins_54 : decode cX3_begins 54 = .ok (.getfield 44, 3) := dk_180 0 44 (dk_at dksX3_begins_2 10 rfl rfl)
theorem dX3_begins_57 : decode cX3_begins 57 = .ok (.iastore, 1) := dk_79 (dk_at dksX3_begins_2 13 rfl rfl)
theorem dX3_begins_58 : decode cX3_begins 58 = .ok (.iinc 2 1, 3) := dk_132 2 1 (dk_at dksX3_begins_2 14 rfl rfl)
theorem dX3_begins_61 : decode cX3_begins 61 = .ok (.goto (-34), 3) := dk_167 255 222 (dk_at dksX3_begins_2 17 rfl rfl)
theorem dX3_begins_64 : decode cX3_begins 64 = .ok (.aload_n 0, 1) := dk_42 (dk_at dksX3_begins_2 20 rfl rfl)
theorem dX3_begins_65 : decode cX3_begins 65 = .ok (.iconst 0, 1) := dk_3 (dk_at dksX3_begins_2 21 rfl rfl)
theorem dX3_begins_66 : decode cX3_begins 66 = .ok (.putfield 47, 3) := dk_181 0 47 (dk_at dksX3_begins_3 0 rfl rfl)
theorem dX3_begins_69 : decode cX3_begins 69 = .ok (.aload_n 0, 1) := dk_42 (dk_at dksX3_begins_3 3 rfl rfl)
theorem dX3_begins_70 : decode cX3_begins 70 = .ok (.iconst 0, 1) := dk_3 (dk_at dksX3_begins_3 4 rfl rfl)
theorem dX3_begins_71 : decode cX3_begins 71 = .ok (.putfield 50, 3) := dk_181 0 50 (dk_at dksX3_begins_3 5 rfl rfl)
theorem dX3_begins_74 : decode cX3_begins 74 = .ok (.aload_n 0, 1) := dk_42 (dk_at dksX3_begins_3 8 rfl rfl)
theorem dX3_begins_75 : decode cX3_begins 75 = .ok (.iconst 0, 1) := dk_3 (dk_at dksX3_begins_3 9 rfl rfl)
theorem dX3_begins_76 : decode cX3_begins 76 = .ok (.putfield 53, 3) := dk_181 0 53 (dk_at dksX3_begins_3 10 rfl rfl)
theorem dX3_begins_79 : decode cX3_begins 79 = .ok (.aload_n 0, 1) := dk_42 (dk_at dksX3_begins_3 13 rfl rfl)
theorem dX3_begins_80 : decode cX3_begins 80 = .ok (.areturn, 1) := dk_176 (dk_at dksX3_begins_3 14 rfl rfl)
abbrev cX3_hangs : ByteArray := prog_5_method_5_code
def yX3_hangs : MethodName := ⟨RX3, "hangs", "(I)Z"⟩
def dkwX3_hangs_0 : List UInt8 := [42, 180, 0, 31, 27, 184, 0, 68, 172]
abbrev dktX3_hangs_0 : List UInt8 := dkwX3_hangs_0 ++ []
theorem dksX3_hangs_0 : cX3_hangs.data.toList.drop 0 = dktX3_hangs_0 := by decide +kernel
theorem dX3_hangs_0 : decode cX3_hangs 0 = .ok (.aload_n 0, 1) := dk_42 (dk_at dksX3_hangs_0 0 rfl rfl)
theorem dX3_hangs_1 : decode cX3_hangs 1 = .ok (.getfield 31, 3) := dk_180 0 31 (dk_at dksX3_hangs_0 1 rfl rfl)
theorem dX3_hangs_4 : decode cX3_hangs 4 = .ok (.iload_n 1, 1) := dk_27 (dk_at dksX3_hangs_0 4 rfl rfl)
theorem dX3_hangs_5 : decode cX3_hangs 5 = .ok (.invokestatic 68, 3) := dk_184 0 68 (dk_at dksX3_hangs_0 5 rfl rfl)
theorem dX3_hangs_8 : decode cX3_hangs 8 = .ok (.ireturn, 1) := dk_172 (dk_at dksX3_hangs_0 8 rfl rfl)
abbrev cX3_copies : ByteArray := prog_5_method_4_code
def yX3_copies : MethodName := ⟨RX3, "copies", "(LNameOrchard$Boughs;)LNameOrchard$Boughs;"⟩
def dkwX3_copies_2 : List UInt8 := [43, 180, 0, 50, 181, 0, 50, 42, 43, 180, 0, 53, 181, 0, 53, 42, 176]
abbrev dktX3_copies_2 : List UInt8 := dkwX3_copies_2 ++ []
def dkwX3_copies_1 : List UInt8 := [43, 180, 0, 9, 3, 42, 180, 0, 9, 3, 16, 10, 184, 0, 62, 42, 43, 180, 0, 47, 181, 0, 47, 42]
abbrev dktX3_copies_1 : List UInt8 := dkwX3_copies_1 ++ dktX3_copies_2
def dkwX3_copies_0 : List UInt8 := [42, 43, 180, 0, 15, 181, 0, 15, 42, 43, 180, 0, 31, 181, 0, 31, 42, 43, 180, 0, 35, 181, 0, 35]
abbrev dktX3_copies_0 : List UInt8 := dkwX3_copies_0 ++ dktX3_copies_1
theorem dksX3_copies_0 : cX3_copies.data.toList.drop 0 = dktX3_copies_0 := by decide +kernel
theorem dksX3_copies_1 : cX3_copies.data.toList.drop 24 = dktX3_copies_1 := dk_seg dksX3_copies_0 24 rfl rfl
theorem dksX3_copies_2 : cX3_copies.data.toList.drop 48 = dktX3_copies_2 := dk_seg dksX3_copies_1 24 rfl rfl
theorem dX3_copies_0 : decode cX3_copies 0 = .ok (.aload_n 0, 1) := dk_42 (dk_at dksX3_copies_0 0 rfl rfl)
theorem dX3_copies_1 : decode cX3_copies 1 = .ok (.aload_n 1, 1) := dk_43 (dk_at dksX3_copies_0 1 rfl rfl)
theorem dX3_copies_2 : decode cX3_copies 2 = .ok (.getfield 15, 3) := dk_180 0 15 (dk_at dksX3_copies_0 2 rfl rfl)
theorem dX3_copies_5 : decode cX3_copies 5 = .ok (.putfield 15, 3) := dk_181 0 15 (dk_at dksX3_copies_0 5 rfl rfl)
theorem dX3_copies_8 : decode cX3_copies 8 = .ok (.aload_n 0, 1) := dk_42 (dk_at dksX3_copies_0 8 rfl rfl)
theorem dX3_copies_9 : decode cX3_copies 9 = .ok (.aload_n 1, 1) := dk_43 (dk_at dksX3_copies_0 9 rfl rfl)
theorem dX3_copies_10 : decode cX3_copies 10 = .ok (.getfield 31, 3) := dk_180 0 31 (dk_at dksX3_copies_0 10 rfl rfl)
theorem dX3_copies_13 : decode cX3_copies 13 = .ok (.putfield 31, 3) := dk_181 0 31 (dk_at dksX3_copies_0 13 rfl rfl)
theorem dX3_copies_16 : decode cX3_copies 16 = .ok (.aload_n 0, 1) := dk_42 (dk_at dksX3_copies_0 16 rfl rfl)
theorem dX3_copies_17 : decode cX3_copies 17 = .ok (.aload_n 1, 1) := dk_43 (dk_at dksX3_copies_0 17 rfl rfl)
theorem dX3_copies_18 : decode cX3_copies 18 = .ok (.getfield 35, 3) := dk_180 0 35 (dk_at dksX3_copies_0 18 rfl rfl)
theorem dX3_copies_21 : decode cX3_copies 21 = .ok (.putfield 35, 3) := dk_181 0 35 (dk_at dksX3_copies_0 21 rfl rfl)
theorem dX3_copies_24 : decode cX3_copies 24 = .ok (.aload_n 1, 1) := dk_43 (dk_at dksX3_copies_1 0 rfl rfl)
theorem dX3_copies_25 : decode cX3_copies 25 = .ok (.getfield 9, 3) := dk_180 0 9 (dk_at dksX3_copies_1 1 rfl rfl)
theorem dX3_copies_28 : decode cX3_copies 28 = .ok (.iconst 0, 1) := dk_3 (dk_at dksX3_copies_1 4 rfl rfl)
theorem dX3_copies_29 : decode cX3_copies 29 = .ok (.aload_n 0, 1) := dk_42 (dk_at dksX3_copies_1 5 rfl rfl)
theorem dX3_copies_30 : decode cX3_copies 30 = .ok (.getfield 9, 3) := dk_180 0 9 (dk_at dksX3_copies_1 6 rfl rfl)
theorem dX3_copies_33 : decode cX3_copies 33 = .ok (.iconst 0, 1) := dk_3 (dk_at dksX3_copies_1 9 rfl rfl)
theorem dX3_copies_34 : decode cX3_copies 34 = .ok (.bipush 10, 2) := dk_16 10 (dk_at dksX3_copies_1 10 rfl rfl)
theorem dX3_copies_36 : decode cX3_copies 36 = .ok (.invokestatic 62, 3) := dk_184 0 62 (dk_at dksX3_copies_1 12 rfl rfl)
theorem dX3_copies_39 : decode cX3_copies 39 = .ok (.aload_n 0, 1) := dk_42 (dk_at dksX3_copies_1 15 rfl rfl)
theorem dX3_copies_40 : decode cX3_copies 40 = .ok (.aload_n 1, 1) := dk_43 (dk_at dksX3_copies_1 16 rfl rfl)
theorem dX3_copies_41 : decode cX3_copies 41 = .ok (.getfield 47, 3) := dk_180 0 47 (dk_at dksX3_copies_1 17 rfl rfl)
theorem dX3_copies_44 : decode cX3_copies 44 = .ok (.putfield 47, 3) := dk_181 0 47 (dk_at dksX3_copies_1 20 rfl rfl)
theorem dX3_copies_47 : decode cX3_copies 47 = .ok (.aload_n 0, 1) := dk_42 (dk_at dksX3_copies_1 23 rfl rfl)
theorem dX3_copies_48 : decode cX3_copies 48 = .ok (.aload_n 1, 1) := dk_43 (dk_at dksX3_copies_2 0 rfl rfl)
theorem dX3_copies_49 : decode cX3_copies 49 = .ok (.getfield 50, 3) := dk_180 0 50 (dk_at dksX3_copies_2 1 rfl rfl)
theorem dX3_copies_52 : decode cX3_copies 52 = .ok (.putfield 50, 3) := dk_181 0 50 (dk_at dksX3_copies_2 4 rfl rfl)
theorem dX3_copies_55 : decode cX3_copies 55 = .ok (.aload_n 0, 1) := dk_42 (dk_at dksX3_copies_2 7 rfl rfl)
theorem dX3_copies_56 : decode cX3_copies 56 = .ok (.aload_n 1, 1) := dk_43 (dk_at dksX3_copies_2 8 rfl rfl)
theorem dX3_copies_57 : decode cX3_copies 57 = .ok (.getfield 53, 3) := dk_180 0 53 (dk_at dksX3_copies_2 9 rfl rfl)
theorem dX3_copies_60 : decode cX3_copies 60 = .ok (.putfield 53, 3) := dk_181 0 53 (dk_at dksX3_copies_2 12 rfl rfl)
theorem dX3_copies_63 : decode cX3_copies 63 = .ok (.aload_n 0, 1) := dk_42 (dk_at dksX3_copies_2 15 rfl rfl)
theorem dX3_copies_64 : decode cX3_copies 64 = .ok (.areturn, 1) := dk_176 (dk_at dksX3_copies_2 16 rfl rfl)
abbrev cX3_calledBy : ByteArray := prog_5_method_12_code
def yX3_calledBy : MethodName := ⟨RX3, "calledBy", "(II)I"⟩
def dkwX3_calledBy_1 : List UInt8 := [180, 0, 115, 27, 182, 0, 38, 192, 0, 118, 180, 0, 123, 28, 182, 0, 126, 172]
abbrev dktX3_calledBy_1 : List UInt8 := dkwX3_calledBy_1 ++ []
def dkwX3_calledBy_0 : List UInt8 := [42, 42, 180, 0, 15, 180, 0, 115, 27, 182, 0, 38, 192, 0, 118, 180, 0, 120, 42, 180, 0, 15]
abbrev dktX3_calledBy_0 : List UInt8 := dkwX3_calledBy_0 ++ dktX3_calledBy_1
theorem dksX3_calledBy_0 : cX3_calledBy.data.toList.drop 0 = dktX3_calledBy_0 := by decide +kernel
theorem dksX3_calledBy_1 : cX3_calledBy.data.toList.drop 22 = dktX3_calledBy_1 := dk_seg dksX3_calledBy_0 22 rfl rfl
theorem dX3_calledBy_0 : decode cX3_calledBy 0 = .ok (.aload_n 0, 1) := dk_42 (dk_at dksX3_calledBy_0 0 rfl rfl)
theorem dX3_calledBy_1 : decode cX3_calledBy 1 = .ok (.aload_n 0, 1) := dk_42 (dk_at dksX3_calledBy_0 1 rfl rfl)
theorem dX3_calledBy_2 : decode cX3_calledBy 2 = .ok (.getfield 15, 3) := dk_180 0 15 (dk_at dksX3_calledBy_0 2 rfl rfl)
theorem dX3_calledBy_5 : decode cX3_calledBy 5 = .ok (.getfield 115, 3) := dk_180 0 115 (dk_at dksX3_calledBy_0 5 rfl rfl)
theorem dX3_calledBy_8 : decode cX3_calledBy 8 = .ok (.iload_n 1, 1) := dk_27 (dk_at dksX3_calledBy_0 8 rfl rfl)
theorem dX3_calledBy_9 : decode cX3_calledBy 9 = .ok (.invokevirtual 38, 3) := dk_182 0 38 (dk_at dksX3_calledBy_0 9 rfl rfl)
theorem dX3_calledBy_12 : decode cX3_calledBy 12 = .ok (.checkcast 118, 3) := dk_192 0 118 (dk_at dksX3_calledBy_0 12 rfl rfl)
theorem dX3_calledBy_15 : decode cX3_calledBy 15 = .ok (.getfield 120, 3) := dk_180 0 120 (dk_at dksX3_calledBy_0 15 rfl rfl)
theorem dX3_calledBy_18 : decode cX3_calledBy 18 = .ok (.aload_n 0, 1) := dk_42 (dk_at dksX3_calledBy_0 18 rfl rfl)
theorem dX3_calledBy_19 : decode cX3_calledBy 19 = .ok (.getfield 15, 3) := dk_180 0 15 (dk_at dksX3_calledBy_0 19 rfl rfl)
theorem dX3_calledBy_22 : decode cX3_calledBy 22 = .ok (.getfield 115, 3) := dk_180 0 115 (dk_at dksX3_calledBy_1 0 rfl rfl)
theorem dX3_calledBy_25 : decode cX3_calledBy 25 = .ok (.iload_n 1, 1) := dk_27 (dk_at dksX3_calledBy_1 3 rfl rfl)
theorem dX3_calledBy_26 : decode cX3_calledBy 26 = .ok (.invokevirtual 38, 3) := dk_182 0 38 (dk_at dksX3_calledBy_1 4 rfl rfl)
theorem dX3_calledBy_29 : decode cX3_calledBy 29 = .ok (.checkcast 118, 3) := dk_192 0 118 (dk_at dksX3_calledBy_1 7 rfl rfl)
theorem dX3_calledBy_32 : decode cX3_calledBy 32 = .ok (.getfield 123, 3) := dk_180 0 123 (dk_at dksX3_calledBy_1 10 rfl rfl)
theorem dX3_calledBy_35 : decode cX3_calledBy 35 = .ok (.iload_n 2, 1) := dk_28 (dk_at dksX3_calledBy_1 13 rfl rfl)
theorem dX3_calledBy_36 : decode cX3_calledBy 36 = .ok (.invokevirtual 126, 3) := dk_182 0 126 (dk_at dksX3_calledBy_1 14 rfl rfl)
theorem dX3_calledBy_39 : decode cX3_calledBy 39 = .ok (.ireturn, 1) := dk_172 (dk_at dksX3_calledBy_1 17 rfl rfl)
abbrev cX3_calledBy_2 : ByteArray := prog_5_method_11_code
def yX3_calledBy_2 : MethodName := ⟨RX3, "calledBy", "(III)I"⟩
def dkwX3_calledBy_2_1 : List UInt8 := [180, 0, 50, 42, 21, 4, 182, 0, 112, 96, 181, 0, 50, 21, 4, 172]
abbrev dktX3_calledBy_2_1 : List UInt8 := dkwX3_calledBy_2_1 ++ []
def dkwX3_calledBy_2_0 : List UInt8 := [42, 42, 27, 28, 29, 4, 182, 0, 106, 42, 27, 28, 29, 3, 182, 0, 106, 182, 0, 110, 54, 4, 42, 89]
abbrev dktX3_calledBy_2_0 : List UInt8 := dkwX3_calledBy_2_0 ++ dktX3_calledBy_2_1
theorem dksX3_calledBy_2_0 : cX3_calledBy_2.data.toList.drop 0 = dktX3_calledBy_2_0 := by decide +kernel
theorem dksX3_calledBy_2_1 : cX3_calledBy_2.data.toList.drop 24 = dktX3_calledBy_2_1 := dk_seg dksX3_calledBy_2_0 24 rfl rfl
theorem dX3_calledBy_2_0 : decode cX3_calledBy_2 0 = .ok (.aload_n 0, 1) := dk_42 (dk_at dksX3_calledBy_2_0 0 rfl rfl)
theorem dX3_calledBy_2_1 : decode cX3_calledBy_2 1 = .ok (.aload_n 0, 1) := dk_42 (dk_at dksX3_calledBy_2_0 1 rfl rfl)
theorem dX3_calledBy_2_2 : decode cX3_calledBy_2 2 = .ok (.iload_n 1, 1) := dk_27 (dk_at dksX3_calledBy_2_0 2 rfl rfl)
theorem dX3_calledBy_2_3 : decode cX3_calledBy_2 3 = .ok (.iload_n 2, 1) := dk_28 (dk_at dksX3_calledBy_2_0 3 rfl rfl)
theorem dX3_calledBy_2_4 : decode cX3_calledBy_2 4 = .ok (.iload_n 3, 1) := dk_29 (dk_at dksX3_calledBy_2_0 4 rfl rfl)
theorem dX3_calledBy_2_5 : decode cX3_calledBy_2 5 = .ok (.iconst 1, 1) := dk_4 (dk_at dksX3_calledBy_2_0 5 rfl rfl)
theorem dX3_calledBy_2_6 : decode cX3_calledBy_2 6 = .ok (.invokevirtual 106, 3) := dk_182 0 106 (dk_at dksX3_calledBy_2_0 6 rfl rfl)
theorem dX3_calledBy_2_9 : decode cX3_calledBy_2 9 = .ok (.aload_n 0, 1) := dk_42 (dk_at dksX3_calledBy_2_0 9 rfl rfl)
theorem dX3_calledBy_2_10 : decode cX3_calledBy_2 10 = .ok (.iload_n 1, 1) := dk_27 (dk_at dksX3_calledBy_2_0 10 rfl rfl)
theorem dX3_calledBy_2_11 : decode cX3_calledBy_2 11 = .ok (.iload_n 2, 1) := dk_28 (dk_at dksX3_calledBy_2_0 11 rfl rfl)
theorem dX3_calledBy_2_12 : decode cX3_calledBy_2 12 = .ok (.iload_n 3, 1) := dk_29 (dk_at dksX3_calledBy_2_0 12 rfl rfl)
theorem dX3_calledBy_2_13 : decode cX3_calledBy_2 13 = .ok (.iconst 0, 1) := dk_3 (dk_at dksX3_calledBy_2_0 13 rfl rfl)
theorem dX3_calledBy_2_14 : decode cX3_calledBy_2 14 = .ok (.invokevirtual 106, 3) := dk_182 0 106 (dk_at dksX3_calledBy_2_0 14 rfl rfl)
theorem dX3_calledBy_2_17 : decode cX3_calledBy_2 17 = .ok (.invokevirtual 110, 3) := dk_182 0 110 (dk_at dksX3_calledBy_2_0 17 rfl rfl)
theorem dX3_calledBy_2_20 : decode cX3_calledBy_2 20 = .ok (.istore 4, 2) := dk_54 4 (dk_at dksX3_calledBy_2_0 20 rfl rfl)
theorem dX3_calledBy_2_22 : decode cX3_calledBy_2 22 = .ok (.aload_n 0, 1) := dk_42 (dk_at dksX3_calledBy_2_0 22 rfl rfl)
theorem dX3_calledBy_2_23 : decode cX3_calledBy_2 23 = .ok (.dup, 1) := dk_89 (dk_at dksX3_calledBy_2_0 23 rfl rfl)
theorem dX3_calledBy_2_24 : decode cX3_calledBy_2 24 = .ok (.getfield 50, 3) := dk_180 0 50 (dk_at dksX3_calledBy_2_1 0 rfl rfl)
theorem dX3_calledBy_2_27 : decode cX3_calledBy_2 27 = .ok (.aload_n 0, 1) := dk_42 (dk_at dksX3_calledBy_2_1 3 rfl rfl)
theorem dX3_calledBy_2_28 : decode cX3_calledBy_2 28 = .ok (.iload 4, 2) := dk_21 4 (dk_at dksX3_calledBy_2_1 4 rfl rfl)
theorem dX3_calledBy_2_30 : decode cX3_calledBy_2 30 = .ok (.invokevirtual 112, 3) := dk_182 0 112 (dk_at dksX3_calledBy_2_1 6 rfl rfl)
theorem dX3_calledBy_2_33 : decode cX3_calledBy_2 33 = .ok (.iadd, 1) := dk_96 (dk_at dksX3_calledBy_2_1 9 rfl rfl)
theorem dX3_calledBy_2_34 : decode cX3_calledBy_2 34 = .ok (.putfield 50, 3) := dk_181 0 50 (dk_at dksX3_calledBy_2_1 10 rfl rfl)
theorem dX3_calledBy_2_37 : decode cX3_calledBy_2 37 = .ok (.iload 4, 2) := dk_21 4 (dk_at dksX3_calledBy_2_1 13 rfl rfl)
theorem dX3_calledBy_2_39 : decode cX3_calledBy_2 39 = .ok (.ireturn, 1) := dk_172 (dk_at dksX3_calledBy_2_1 15 rfl rfl)
abbrev cX3_heard : ByteArray := prog_5_method_6_code
def yX3_heard : MethodName := ⟨RX3, "heard", "(IIIZ)I"⟩
def dkwX3_heard_5 : List UInt8 := [120, 128, 54, 5, 132, 6, 1, 167, 255, 139, 21, 5, 172]
abbrev dktX3_heard_5 : List UInt8 := dkwX3_heard_5 ++ []
def dkwX3_heard_4 : List UInt8 := [180, 0, 15, 21, 6, 29, 42, 180, 0, 9, 21, 6, 46, 182, 0, 81, 153, 0, 12, 21, 5, 4, 21, 6]
abbrev dktX3_heard_4 : List UInt8 := dkwX3_heard_4 ++ dktX3_heard_5
def dkwX3_heard_3 : List UInt8 := [164, 0, 15, 21, 7, 5, 28, 104, 163, 0, 7, 4, 167, 0, 4, 3, 54, 8, 21, 8, 153, 0, 32, 42]
abbrev dktX3_heard_3 : List UInt8 := dkwX3_heard_3 ++ dktX3_heard_4
def dkwX3_heard_2 : List UInt8 := [21, 4, 153, 0, 17, 21, 7, 28, 163, 0, 7, 4, 167, 0, 26, 3, 167, 0, 22, 21, 7, 28]
abbrev dktX3_heard_2 : List UInt8 := dkwX3_heard_2 ++ dktX3_heard_3
def dkwX3_heard_1 : List UInt8 := [180, 0, 15, 180, 0, 19, 21, 6, 182, 0, 38, 192, 0, 42, 180, 0, 72, 27, 100, 184, 0, 75, 54, 7]
abbrev dktX3_heard_1 : List UInt8 := dkwX3_heard_1 ++ dktX3_heard_2
def dkwX3_heard_0 : List UInt8 := [3, 54, 5, 3, 54, 6, 21, 6, 42, 180, 0, 15, 180, 0, 19, 182, 0, 25, 162, 0, 108, 42]
abbrev dktX3_heard_0 : List UInt8 := dkwX3_heard_0 ++ dktX3_heard_1
theorem dksX3_heard_0 : cX3_heard.data.toList.drop 0 = dktX3_heard_0 := by decide +kernel
theorem dksX3_heard_1 : cX3_heard.data.toList.drop 22 = dktX3_heard_1 := dk_seg dksX3_heard_0 22 rfl rfl
theorem dksX3_heard_2 : cX3_heard.data.toList.drop 46 = dktX3_heard_2 := dk_seg dksX3_heard_1 24 rfl rfl
theorem dksX3_heard_3 : cX3_heard.data.toList.drop 68 = dktX3_heard_3 := dk_seg dksX3_heard_2 22 rfl rfl
theorem dksX3_heard_4 : cX3_heard.data.toList.drop 92 = dktX3_heard_4 := dk_seg dksX3_heard_3 24 rfl rfl
theorem dksX3_heard_5 : cX3_heard.data.toList.drop 116 = dktX3_heard_5 := dk_seg dksX3_heard_4 24 rfl rfl
theorem dX3_heard_0 : decode cX3_heard 0 = .ok (.iconst 0, 1) := dk_3 (dk_at dksX3_heard_0 0 rfl rfl)
theorem dX3_heard_1 : decode cX3_heard 1 = .ok (.istore 5, 2) := dk_54 5 (dk_at dksX3_heard_0 1 rfl rfl)
theorem dX3_heard_3 : decode cX3_heard 3 = .ok (.iconst 0, 1) := dk_3 (dk_at dksX3_heard_0 3 rfl rfl)
theorem dX3_heard_4 : decode cX3_heard 4 = .ok (.istore 6, 2) := dk_54 6 (dk_at dksX3_heard_0 4 rfl rfl)
theorem dX3_heard_6 : decode cX3_heard 6 = .ok (.iload 6, 2) := dk_21 6 (dk_at dksX3_heard_0 6 rfl rfl)
theorem dX3_heard_8 : decode cX3_heard 8 = .ok (.aload_n 0, 1) := dk_42 (dk_at dksX3_heard_0 8 rfl rfl)
theorem dX3_heard_9 : decode cX3_heard 9 = .ok (.getfield 15, 3) := dk_180 0 15 (dk_at dksX3_heard_0 9 rfl rfl)
theorem dX3_heard_12 : decode cX3_heard 12 = .ok (.getfield 19, 3) := dk_180 0 19 (dk_at dksX3_heard_0 12 rfl rfl)
theorem dX3_heard_15 : decode cX3_heard 15 = .ok (.invokevirtual 25, 3) := dk_182 0 25 (dk_at dksX3_heard_0 15 rfl rfl)
theorem dX3_heard_18 : decode cX3_heard 18 = .ok (.if_icmp .ge 108, 3) := dk_162 0 108 (dk_at dksX3_heard_0 18 rfl rfl)
theorem dX3_heard_21 : decode cX3_heard 21 = .ok (.aload_n 0, 1) := dk_42 (dk_at dksX3_heard_0 21 rfl rfl)
theorem dX3_heard_22 : decode cX3_heard 22 = .ok (.getfield 15, 3) := dk_180 0 15 (dk_at dksX3_heard_1 0 rfl rfl)
theorem dX3_heard_25 : decode cX3_heard 25 = .ok (.getfield 19, 3) := dk_180 0 19 (dk_at dksX3_heard_1 3 rfl rfl)
theorem dX3_heard_28 : decode cX3_heard 28 = .ok (.iload 6, 2) := dk_21 6 (dk_at dksX3_heard_1 6 rfl rfl)
theorem dX3_heard_30 : decode cX3_heard 30 = .ok (.invokevirtual 38, 3) := dk_182 0 38 (dk_at dksX3_heard_1 8 rfl rfl)
theorem dX3_heard_33 : decode cX3_heard 33 = .ok (.checkcast 42, 3) := dk_192 0 42 (dk_at dksX3_heard_1 11 rfl rfl)
theorem dX3_heard_36 : decode cX3_heard 36 = .ok (.getfield 72, 3) := dk_180 0 72 (dk_at dksX3_heard_1 14 rfl rfl)
theorem dX3_heard_39 : decode cX3_heard 39 = .ok (.iload_n 1, 1) := dk_27 (dk_at dksX3_heard_1 17 rfl rfl)
theorem dX3_heard_40 : decode cX3_heard 40 = .ok (.isub, 1) := dk_100 (dk_at dksX3_heard_1 18 rfl rfl)
theorem dX3_heard_41 : decode cX3_heard 41 = .ok (.invokestatic 75, 3) := dk_184 0 75 (dk_at dksX3_heard_1 19 rfl rfl)
theorem dX3_heard_44 : decode cX3_heard 44 = .ok (.istore 7, 2) := dk_54 7 (dk_at dksX3_heard_1 22 rfl rfl)
theorem dX3_heard_46 : decode cX3_heard 46 = .ok (.iload 4, 2) := dk_21 4 (dk_at dksX3_heard_2 0 rfl rfl)
theorem dX3_heard_48 : decode cX3_heard 48 = .ok (.ifCond .eq 17, 3) := dk_153 0 17 (dk_at dksX3_heard_2 2 rfl rfl)
theorem dX3_heard_51 : decode cX3_heard 51 = .ok (.iload 7, 2) := dk_21 7 (dk_at dksX3_heard_2 5 rfl rfl)
theorem dX3_heard_53 : decode cX3_heard 53 = .ok (.iload_n 2, 1) := dk_28 (dk_at dksX3_heard_2 7 rfl rfl)
theorem dX3_heard_54 : decode cX3_heard 54 = .ok (.if_icmp .gt 7, 3) := dk_163 0 7 (dk_at dksX3_heard_2 8 rfl rfl)
theorem dX3_heard_57 : decode cX3_heard 57 = .ok (.iconst 1, 1) := dk_4 (dk_at dksX3_heard_2 11 rfl rfl)
theorem dX3_heard_58 : decode cX3_heard 58 = .ok (.goto 26, 3) := dk_167 0 26 (dk_at dksX3_heard_2 12 rfl rfl)
theorem dX3_heard_61 : decode cX3_heard 61 = .ok (.iconst 0, 1) := dk_3 (dk_at dksX3_heard_2 15 rfl rfl)
theorem dX3_heard_62 : decode cX3_heard 62 = .ok (.goto 22, 3) := dk_167 0 22 (dk_at dksX3_heard_2 16 rfl rfl)
theorem dX3_heard_65 : decode cX3_heard 65 = .ok (.iload 7, 2) := dk_21 7 (dk_at dksX3_heard_2 19 rfl rfl)
theorem dX3_heard_67 : decode cX3_heard 67 = .ok (.iload_n 2, 1) := dk_28 (dk_at dksX3_heard_2 21 rfl rfl)
theorem dX3_heard_68 : decode cX3_heard 68 = .ok (.if_icmp .le 15, 3) := dk_164 0 15 (dk_at dksX3_heard_3 0 rfl rfl)
theorem dX3_heard_71 : decode cX3_heard 71 = .ok (.iload 7, 2) := dk_21 7 (dk_at dksX3_heard_3 3 rfl rfl)
theorem dX3_heard_73 : decode cX3_heard 73 = .ok (.iconst 2, 1) := dk_5 (dk_at dksX3_heard_3 5 rfl rfl)
theorem dX3_heard_74 : decode cX3_heard 74 = .ok (.iload_n 2, 1) := dk_28 (dk_at dksX3_heard_3 6 rfl rfl)
theorem dX3_heard_75 : decode cX3_heard 75 = .ok (.imul, 1) := dk_104 (dk_at dksX3_heard_3 7 rfl rfl)
theorem dX3_heard_76 : decode cX3_heard 76 = .ok (.if_icmp .gt 7, 3) := dk_163 0 7 (dk_at dksX3_heard_3 8 rfl rfl)
theorem dX3_heard_79 : decode cX3_heard 79 = .ok (.iconst 1, 1) := dk_4 (dk_at dksX3_heard_3 11 rfl rfl)
theorem dX3_heard_80 : decode cX3_heard 80 = .ok (.goto 4, 3) := dk_167 0 4 (dk_at dksX3_heard_3 12 rfl rfl)
theorem dX3_heard_83 : decode cX3_heard 83 = .ok (.iconst 0, 1) := dk_3 (dk_at dksX3_heard_3 15 rfl rfl)
theorem dX3_heard_84 : decode cX3_heard 84 = .ok (.istore 8, 2) := dk_54 8 (dk_at dksX3_heard_3 16 rfl rfl)
theorem dX3_heard_86 : decode cX3_heard 86 = .ok (.iload 8, 2) := dk_21 8 (dk_at dksX3_heard_3 18 rfl rfl)
theorem dX3_heard_88 : decode cX3_heard 88 = .ok (.ifCond .eq 32, 3) := dk_153 0 32 (dk_at dksX3_heard_3 20 rfl rfl)
theorem dX3_heard_91 : decode cX3_heard 91 = .ok (.aload_n 0, 1) := dk_42 (dk_at dksX3_heard_3 23 rfl rfl)
theorem dX3_heard_92 : decode cX3_heard 92 = .ok (.getfield 15, 3) := dk_180 0 15 (dk_at dksX3_heard_4 0 rfl rfl)
theorem dX3_heard_95 : decode cX3_heard 95 = .ok (.iload 6, 2) := dk_21 6 (dk_at dksX3_heard_4 3 rfl rfl)
theorem dX3_heard_97 : decode cX3_heard 97 = .ok (.iload_n 3, 1) := dk_29 (dk_at dksX3_heard_4 5 rfl rfl)
theorem dX3_heard_98 : decode cX3_heard 98 = .ok (.aload_n 0, 1) := dk_42 (dk_at dksX3_heard_4 6 rfl rfl)
theorem dX3_heard_99 : decode cX3_heard 99 = .ok (.getfield 9, 3) := dk_180 0 9 (dk_at dksX3_heard_4 7 rfl rfl)
theorem dX3_heard_102 : decode cX3_heard 102 = .ok (.iload 6, 2) := dk_21 6 (dk_at dksX3_heard_4 10 rfl rfl)
theorem dX3_heard_104 : decode cX3_heard 104 = .ok (.iaload, 1) := dk_46 (dk_at dksX3_heard_4 12 rfl rfl)
theorem dX3_heard_105 : decode cX3_heard 105 = .ok (.invokevirtual 81, 3) := dk_182 0 81 (dk_at dksX3_heard_4 13 rfl rfl)
theorem dX3_heard_108 : decode cX3_heard 108 = .ok (.ifCond .eq 12, 3) := dk_153 0 12 (dk_at dksX3_heard_4 16 rfl rfl)
theorem dX3_heard_111 : decode cX3_heard 111 = .ok (.iload 5, 2) := dk_21 5 (dk_at dksX3_heard_4 19 rfl rfl)
theorem dX3_heard_113 : decode cX3_heard 113 = .ok (.iconst 1, 1) := dk_4 (dk_at dksX3_heard_4 21 rfl rfl)
theorem dX3_heard_114 : decode cX3_heard 114 = .ok (.iload 6, 2) := dk_21 6 (dk_at dksX3_heard_4 22 rfl rfl)
theorem dX3_heard_116 : decode cX3_heard 116 = .ok (.ishl, 1) := dk_120 (dk_at dksX3_heard_5 0 rfl rfl)
theorem dX3_heard_117 : decode cX3_heard 117 = .ok (.ior, 1) := dk_128 (dk_at dksX3_heard_5 1 rfl rfl)
theorem dX3_heard_118 : decode cX3_heard 118 = .ok (.istore 5, 2) := dk_54 5 (dk_at dksX3_heard_5 2 rfl rfl)
theorem dX3_heard_120 : decode cX3_heard 120 = .ok (.iinc 6 1, 3) := dk_132 6 1 (dk_at dksX3_heard_5 4 rfl rfl)
theorem dX3_heard_123 : decode cX3_heard 123 = .ok (.goto (-117), 3) := dk_167 255 139 (dk_at dksX3_heard_5 7 rfl rfl)
theorem dX3_heard_126 : decode cX3_heard 126 = .ok (.iload 5, 2) := dk_21 5 (dk_at dksX3_heard_5 10 rfl rfl)
theorem dX3_heard_128 : decode cX3_heard 128 = .ok (.ireturn, 1) := dk_172 (dk_at dksX3_heard_5 12 rfl rfl)
abbrev cX3_falls : ByteArray := prog_5_method_7_code
def yX3_falls : MethodName := ⟨RX3, "falls", "(II)I"⟩
def dkwX3_falls_9 : List UInt8 := [29, 2, 130, 126, 181, 0, 31, 42, 89, 180, 0, 35, 29, 2, 130, 126, 181, 0, 35, 29, 172]
abbrev dktX3_falls_9 : List UInt8 := dkwX3_falls_9 ++ []
def dkwX3_falls_8 : List UInt8 := [182, 0, 85, 153, 0, 10, 29, 4, 21, 4, 120, 128, 62, 132, 4, 1, 167, 255, 187, 42, 89, 180, 0, 31]
abbrev dktX3_falls_8 : List UInt8 := dkwX3_falls_8 ++ dktX3_falls_9
def dkwX3_falls_7 : List UInt8 := [180, 0, 93, 54, 5, 21, 5, 2, 159, 0, 28, 29, 21, 5, 184, 0, 68, 153, 0, 19, 42, 21, 4]
abbrev dktX3_falls_7 : List UInt8 := dkwX3_falls_7 ++ dktX3_falls_8
def dkwX3_falls_6 : List UInt8 := [180, 0, 19, 182, 0, 25, 162, 0, 60, 42, 180, 0, 15, 180, 0, 19, 21, 4, 182, 0, 38, 192, 0, 42]
abbrev dktX3_falls_6 : List UInt8 := dkwX3_falls_6 ++ dktX3_falls_7
def dkwX3_falls_5 : List UInt8 := [21, 4, 120, 128, 181, 0, 35, 132, 4, 1, 167, 255, 137, 3, 54, 4, 21, 4, 42, 180, 0, 15]
abbrev dktX3_falls_5 : List UInt8 := dkwX3_falls_5 ++ dktX3_falls_6
def dkwX3_falls_4 : List UInt8 := [54, 5, 21, 5, 153, 0, 13, 29, 4, 21, 4, 120, 128, 62, 167, 0, 16, 42, 89, 180, 0, 35, 4]
abbrev dktX3_falls_4 : List UInt8 := dkwX3_falls_4 ++ dktX3_falls_5
def dkwX3_falls_3 : List UInt8 := [180, 0, 35, 21, 4, 184, 0, 68, 182, 0, 89, 167, 0, 12, 42, 180, 0, 35, 21, 4, 184, 0, 68]
abbrev dktX3_falls_3 : List UInt8 := dkwX3_falls_3 ++ dktX3_falls_4
def dkwX3_falls_2 : List UInt8 := [184, 0, 68, 153, 0, 33, 42, 180, 0, 15, 180, 0, 19, 21, 4, 182, 0, 38, 192, 0, 42, 42]
abbrev dktX3_falls_2 : List UInt8 := dkwX3_falls_2 ++ dktX3_falls_3
def dkwX3_falls_1 : List UInt8 := [182, 0, 85, 153, 0, 95, 27, 28, 128, 21, 4, 184, 0, 68, 154, 0, 6, 167, 0, 81, 27, 21, 4]
abbrev dktX3_falls_1 : List UInt8 := dkwX3_falls_1 ++ dktX3_falls_2
def dkwX3_falls_0 : List UInt8 := [3, 62, 3, 54, 4, 21, 4, 42, 180, 0, 15, 180, 0, 19, 182, 0, 25, 162, 0, 110, 42, 21, 4]
abbrev dktX3_falls_0 : List UInt8 := dkwX3_falls_0 ++ dktX3_falls_1
theorem dksX3_falls_0 : cX3_falls.data.toList.drop 0 = dktX3_falls_0 := by decide +kernel
theorem dksX3_falls_1 : cX3_falls.data.toList.drop 23 = dktX3_falls_1 := dk_seg dksX3_falls_0 23 rfl rfl
theorem dksX3_falls_2 : cX3_falls.data.toList.drop 46 = dktX3_falls_2 := dk_seg dksX3_falls_1 23 rfl rfl
theorem dksX3_falls_3 : cX3_falls.data.toList.drop 68 = dktX3_falls_3 := dk_seg dksX3_falls_2 22 rfl rfl
theorem dksX3_falls_4 : cX3_falls.data.toList.drop 91 = dktX3_falls_4 := dk_seg dksX3_falls_3 23 rfl rfl
theorem dksX3_falls_5 : cX3_falls.data.toList.drop 114 = dktX3_falls_5 := dk_seg dksX3_falls_4 23 rfl rfl
theorem dksX3_falls_6 : cX3_falls.data.toList.drop 136 = dktX3_falls_6 := dk_seg dksX3_falls_5 22 rfl rfl
theorem dksX3_falls_7 : cX3_falls.data.toList.drop 160 = dktX3_falls_7 := dk_seg dksX3_falls_6 24 rfl rfl
theorem dksX3_falls_8 : cX3_falls.data.toList.drop 183 = dktX3_falls_8 := dk_seg dksX3_falls_7 23 rfl rfl
theorem dksX3_falls_9 : cX3_falls.data.toList.drop 207 = dktX3_falls_9 := dk_seg dksX3_falls_8 24 rfl rfl
theorem dX3_falls_0 : decode cX3_falls 0 = .ok (.iconst 0, 1) := dk_3 (dk_at dksX3_falls_0 0 rfl rfl)
theorem dX3_falls_1 : decode cX3_falls 1 = .ok (.istore_n 3, 1) := dk_62 (dk_at dksX3_falls_0 1 rfl rfl)
theorem dX3_falls_2 : decode cX3_falls 2 = .ok (.iconst 0, 1) := dk_3 (dk_at dksX3_falls_0 2 rfl rfl)
theorem dX3_falls_3 : decode cX3_falls 3 = .ok (.istore 4, 2) := dk_54 4 (dk_at dksX3_falls_0 3 rfl rfl)
theorem dX3_falls_5 : decode cX3_falls 5 = .ok (.iload 4, 2) := dk_21 4 (dk_at dksX3_falls_0 5 rfl rfl)
theorem dX3_falls_7 : decode cX3_falls 7 = .ok (.aload_n 0, 1) := dk_42 (dk_at dksX3_falls_0 7 rfl rfl)
theorem dX3_falls_8 : decode cX3_falls 8 = .ok (.getfield 15, 3) := dk_180 0 15 (dk_at dksX3_falls_0 8 rfl rfl)
theorem dX3_falls_11 : decode cX3_falls 11 = .ok (.getfield 19, 3) := dk_180 0 19 (dk_at dksX3_falls_0 11 rfl rfl)
theorem dX3_falls_14 : decode cX3_falls 14 = .ok (.invokevirtual 25, 3) := dk_182 0 25 (dk_at dksX3_falls_0 14 rfl rfl)
theorem dX3_falls_17 : decode cX3_falls 17 = .ok (.if_icmp .ge 110, 3) := dk_162 0 110 (dk_at dksX3_falls_0 17 rfl rfl)
theorem dX3_falls_20 : decode cX3_falls 20 = .ok (.aload_n 0, 1) := dk_42 (dk_at dksX3_falls_0 20 rfl rfl)
theorem dX3_falls_21 : decode cX3_falls 21 = .ok (.iload 4, 2) := dk_21 4 (dk_at dksX3_falls_0 21 rfl rfl)
theorem dX3_falls_23 : decode cX3_falls 23 = .ok (.invokevirtual 85, 3) := dk_182 0 85 (dk_at dksX3_falls_1 0 rfl rfl)
theorem dX3_falls_26 : decode cX3_falls 26 = .ok (.ifCond .eq 95, 3) := dk_153 0 95 (dk_at dksX3_falls_1 3 rfl rfl)
theorem dX3_falls_29 : decode cX3_falls 29 = .ok (.iload_n 1, 1) := dk_27 (dk_at dksX3_falls_1 6 rfl rfl)
theorem dX3_falls_30 : decode cX3_falls 30 = .ok (.iload_n 2, 1) := dk_28 (dk_at dksX3_falls_1 7 rfl rfl)
theorem dX3_falls_31 : decode cX3_falls 31 = .ok (.ior, 1) := dk_128 (dk_at dksX3_falls_1 8 rfl rfl)
theorem dX3_falls_32 : decode cX3_falls 32 = .ok (.iload 4, 2) := dk_21 4 (dk_at dksX3_falls_1 9 rfl rfl)
theorem dX3_falls_34 : decode cX3_falls 34 = .ok (.invokestatic 68, 3) := dk_184 0 68 (dk_at dksX3_falls_1 11 rfl rfl)
theorem dX3_falls_37 : decode cX3_falls 37 = .ok (.ifCond .ne 6, 3) := dk_154 0 6 (dk_at dksX3_falls_1 14 rfl rfl)
theorem dX3_falls_40 : decode cX3_falls 40 = .ok (.goto 81, 3) := dk_167 0 81 (dk_at dksX3_falls_1 17 rfl rfl)
theorem dX3_falls_43 : decode cX3_falls 43 = .ok (.iload_n 1, 1) := dk_27 (dk_at dksX3_falls_1 20 rfl rfl)
theorem dX3_falls_44 : decode cX3_falls 44 = .ok (.iload 4, 2) := dk_21 4 (dk_at dksX3_falls_1 21 rfl rfl)
theorem dX3_falls_46 : decode cX3_falls 46 = .ok (.invokestatic 68, 3) := dk_184 0 68 (dk_at dksX3_falls_2 0 rfl rfl)
theorem dX3_falls_49 : decode cX3_falls 49 = .ok (.ifCond .eq 33, 3) := dk_153 0 33 (dk_at dksX3_falls_2 3 rfl rfl)
theorem dX3_falls_52 : decode cX3_falls 52 = .ok (.aload_n 0, 1) := dk_42 (dk_at dksX3_falls_2 6 rfl rfl)
theorem dX3_falls_53 : decode cX3_falls 53 = .ok (.getfield 15, 3) := dk_180 0 15 (dk_at dksX3_falls_2 7 rfl rfl)
theorem dX3_falls_56 : decode cX3_falls 56 = .ok (.getfield 19, 3) := dk_180 0 19 (dk_at dksX3_falls_2 10 rfl rfl)
theorem dX3_falls_59 : decode cX3_falls 59 = .ok (.iload 4, 2) := dk_21 4 (dk_at dksX3_falls_2 13 rfl rfl)
theorem dX3_falls_61 : decode cX3_falls 61 = .ok (.invokevirtual 38, 3) := dk_182 0 38 (dk_at dksX3_falls_2 15 rfl rfl)
theorem dX3_falls_64 : decode cX3_falls 64 = .ok (.checkcast 42, 3) := dk_192 0 42 (dk_at dksX3_falls_2 18 rfl rfl)
theorem dX3_falls_67 : decode cX3_falls 67 = .ok (.aload_n 0, 1) := dk_42 (dk_at dksX3_falls_2 21 rfl rfl)
theorem dX3_falls_68 : decode cX3_falls 68 = .ok (.getfield 35, 3) := dk_180 0 35 (dk_at dksX3_falls_3 0 rfl rfl)
theorem dX3_falls_71 : decode cX3_falls 71 = .ok (.iload 4, 2) := dk_21 4 (dk_at dksX3_falls_3 3 rfl rfl)
theorem dX3_falls_73 : decode cX3_falls 73 = .ok (.invokestatic 68, 3) := dk_184 0 68 (dk_at dksX3_falls_3 5 rfl rfl)
theorem dX3_falls_76 : decode cX3_falls 76 = .ok (.invokevirtual 89, 3) := dk_182 0 89 (dk_at dksX3_falls_3 8 rfl rfl)
theorem dX3_falls_79 : decode cX3_falls 79 = .ok (.goto 12, 3) := dk_167 0 12 (dk_at dksX3_falls_3 11 rfl rfl)
theorem dX3_falls_82 : decode cX3_falls 82 = .ok (.aload_n 0, 1) := dk_42 (dk_at dksX3_falls_3 14 rfl rfl)
theorem dX3_falls_83 : decode cX3_falls 83 = .ok (.getfield 35, 3) := dk_180 0 35 (dk_at dksX3_falls_3 15 rfl rfl)
theorem dX3_falls_86 : decode cX3_falls 86 = .ok (.iload 4, 2) := dk_21 4 (dk_at dksX3_falls_3 18 rfl rfl)
theorem dX3_falls_88 : decode cX3_falls 88 = .ok (.invokestatic 68, 3) := dk_184 0 68 (dk_at dksX3_falls_3 20 rfl rfl)
theorem dX3_falls_91 : decode cX3_falls 91 = .ok (.istore 5, 2) := dk_54 5 (dk_at dksX3_falls_4 0 rfl rfl)
theorem dX3_falls_93 : decode cX3_falls 93 = .ok (.iload 5, 2) := dk_21 5 (dk_at dksX3_falls_4 2 rfl rfl)
theorem dX3_falls_95 : decode cX3_falls 95 = .ok (.ifCond .eq 13, 3) := dk_153 0 13 (dk_at dksX3_falls_4 4 rfl rfl)
theorem dX3_falls_98 : decode cX3_falls 98 = .ok (.iload_n 3, 1) := dk_29 (dk_at dksX3_falls_4 7 rfl rfl)
theorem dX3_falls_99 : decode cX3_falls 99 = .ok (.iconst 1, 1) := dk_4 (dk_at dksX3_falls_4 8 rfl rfl)
theorem dX3_falls_100 : decode cX3_falls 100 = .ok (.iload 4, 2) := dk_21 4 (dk_at dksX3_falls_4 9 rfl rfl)
theorem dX3_falls_102 : decode cX3_falls 102 = .ok (.ishl, 1) := dk_120 (dk_at dksX3_falls_4 11 rfl rfl)
theorem dX3_falls_103 : decode cX3_falls 103 = .ok (.ior, 1) := dk_128 (dk_at dksX3_falls_4 12 rfl rfl)
theorem dX3_falls_104 : decode cX3_falls 104 = .ok (.istore_n 3, 1) := dk_62 (dk_at dksX3_falls_4 13 rfl rfl)
theorem dX3_falls_105 : decode cX3_falls 105 = .ok (.goto 16, 3) := dk_167 0 16 (dk_at dksX3_falls_4 14 rfl rfl)
theorem dX3_falls_108 : decode cX3_falls 108 = .ok (.aload_n 0, 1) := dk_42 (dk_at dksX3_falls_4 17 rfl rfl)
theorem dX3_falls_109 : decode cX3_falls 109 = .ok (.dup, 1) := dk_89 (dk_at dksX3_falls_4 18 rfl rfl)
theorem dX3_falls_110 : decode cX3_falls 110 = .ok (.getfield 35, 3) := dk_180 0 35 (dk_at dksX3_falls_4 19 rfl rfl)
theorem dX3_falls_113 : decode cX3_falls 113 = .ok (.iconst 1, 1) := dk_4 (dk_at dksX3_falls_4 22 rfl rfl)
theorem dX3_falls_114 : decode cX3_falls 114 = .ok (.iload 4, 2) := dk_21 4 (dk_at dksX3_falls_5 0 rfl rfl)
theorem dX3_falls_116 : decode cX3_falls 116 = .ok (.ishl, 1) := dk_120 (dk_at dksX3_falls_5 2 rfl rfl)
theorem dX3_falls_117 : decode cX3_falls 117 = .ok (.ior, 1) := dk_128 (dk_at dksX3_falls_5 3 rfl rfl)
theorem dX3_falls_118 : decode cX3_falls 118 = .ok (.putfield 35, 3) := dk_181 0 35 (dk_at dksX3_falls_5 4 rfl rfl)
theorem dX3_falls_121 : decode cX3_falls 121 = .ok (.iinc 4 1, 3) := dk_132 4 1 (dk_at dksX3_falls_5 7 rfl rfl)
theorem dX3_falls_124 : decode cX3_falls 124 = .ok (.goto (-119), 3) := dk_167 255 137 (dk_at dksX3_falls_5 10 rfl rfl)
theorem dX3_falls_127 : decode cX3_falls 127 = .ok (.iconst 0, 1) := dk_3 (dk_at dksX3_falls_5 13 rfl rfl)
theorem dX3_falls_128 : decode cX3_falls 128 = .ok (.istore 4, 2) := dk_54 4 (dk_at dksX3_falls_5 14 rfl rfl)
theorem dX3_falls_130 : decode cX3_falls 130 = .ok (.iload 4, 2) := dk_21 4 (dk_at dksX3_falls_5 16 rfl rfl)
theorem dX3_falls_132 : decode cX3_falls 132 = .ok (.aload_n 0, 1) := dk_42 (dk_at dksX3_falls_5 18 rfl rfl)
theorem dX3_falls_133 : decode cX3_falls 133 = .ok (.getfield 15, 3) := dk_180 0 15 (dk_at dksX3_falls_5 19 rfl rfl)
theorem dX3_falls_136 : decode cX3_falls 136 = .ok (.getfield 19, 3) := dk_180 0 19 (dk_at dksX3_falls_6 0 rfl rfl)
theorem dX3_falls_139 : decode cX3_falls 139 = .ok (.invokevirtual 25, 3) := dk_182 0 25 (dk_at dksX3_falls_6 3 rfl rfl)
theorem dX3_falls_142 : decode cX3_falls 142 = .ok (.if_icmp .ge 60, 3) := dk_162 0 60 (dk_at dksX3_falls_6 6 rfl rfl)
theorem dX3_falls_145 : decode cX3_falls 145 = .ok (.aload_n 0, 1) := dk_42 (dk_at dksX3_falls_6 9 rfl rfl)
theorem dX3_falls_146 : decode cX3_falls 146 = .ok (.getfield 15, 3) := dk_180 0 15 (dk_at dksX3_falls_6 10 rfl rfl)
theorem dX3_falls_149 : decode cX3_falls 149 = .ok (.getfield 19, 3) := dk_180 0 19 (dk_at dksX3_falls_6 13 rfl rfl)
theorem dX3_falls_152 : decode cX3_falls 152 = .ok (.iload 4, 2) := dk_21 4 (dk_at dksX3_falls_6 16 rfl rfl)
theorem dX3_falls_154 : decode cX3_falls 154 = .ok (.invokevirtual 38, 3) := dk_182 0 38 (dk_at dksX3_falls_6 18 rfl rfl)
theorem dX3_falls_157 : decode cX3_falls 157 = .ok (.checkcast 42, 3) := dk_192 0 42 (dk_at dksX3_falls_6 21 rfl rfl)
theorem dX3_falls_160 : decode cX3_falls 160 = .ok (.getfield 93, 3) := dk_180 0 93 (dk_at dksX3_falls_7 0 rfl rfl)
theorem dX3_falls_163 : decode cX3_falls 163 = .ok (.istore 5, 2) := dk_54 5 (dk_at dksX3_falls_7 3 rfl rfl)
theorem dX3_falls_165 : decode cX3_falls 165 = .ok (.iload 5, 2) := dk_21 5 (dk_at dksX3_falls_7 5 rfl rfl)
theorem dX3_falls_167 : decode cX3_falls 167 = .ok (.iconst (-1), 1) := dk_2 (dk_at dksX3_falls_7 7 rfl rfl)
theorem dX3_falls_168 : decode cX3_falls 168 = .ok (.if_icmp .eq 28, 3) := dk_159 0 28 (dk_at dksX3_falls_7 8 rfl rfl)
theorem dX3_falls_171 : decode cX3_falls 171 = .ok (.iload_n 3, 1) := dk_29 (dk_at dksX3_falls_7 11 rfl rfl)
theorem dX3_falls_172 : decode cX3_falls 172 = .ok (.iload 5, 2) := dk_21 5 (dk_at dksX3_falls_7 12 rfl rfl)
theorem dX3_falls_174 : decode cX3_falls 174 = .ok (.invokestatic 68, 3) := dk_184 0 68 (dk_at dksX3_falls_7 14 rfl rfl)
theorem dX3_falls_177 : decode cX3_falls 177 = .ok (.ifCond .eq 19, 3) := dk_153 0 19 (dk_at dksX3_falls_7 17 rfl rfl)
theorem dX3_falls_180 : decode cX3_falls 180 = .ok (.aload_n 0, 1) := dk_42 (dk_at dksX3_falls_7 20 rfl rfl)
theorem dX3_falls_181 : decode cX3_falls 181 = .ok (.iload 4, 2) := dk_21 4 (dk_at dksX3_falls_7 21 rfl rfl)
theorem dX3_falls_183 : decode cX3_falls 183 = .ok (.invokevirtual 85, 3) := dk_182 0 85 (dk_at dksX3_falls_8 0 rfl rfl)
theorem dX3_falls_186 : decode cX3_falls 186 = .ok (.ifCond .eq 10, 3) := dk_153 0 10 (dk_at dksX3_falls_8 3 rfl rfl)
theorem dX3_falls_189 : decode cX3_falls 189 = .ok (.iload_n 3, 1) := dk_29 (dk_at dksX3_falls_8 6 rfl rfl)
theorem dX3_falls_190 : decode cX3_falls 190 = .ok (.iconst 1, 1) := dk_4 (dk_at dksX3_falls_8 7 rfl rfl)
theorem dX3_falls_191 : decode cX3_falls 191 = .ok (.iload 4, 2) := dk_21 4 (dk_at dksX3_falls_8 8 rfl rfl)
theorem dX3_falls_193 : decode cX3_falls 193 = .ok (.ishl, 1) := dk_120 (dk_at dksX3_falls_8 10 rfl rfl)
theorem dX3_falls_194 : decode cX3_falls 194 = .ok (.ior, 1) := dk_128 (dk_at dksX3_falls_8 11 rfl rfl)
theorem dX3_falls_195 : decode cX3_falls 195 = .ok (.istore_n 3, 1) := dk_62 (dk_at dksX3_falls_8 12 rfl rfl)
theorem dX3_falls_196 : decode cX3_falls 196 = .ok (.iinc 4 1, 3) := dk_132 4 1 (dk_at dksX3_falls_8 13 rfl rfl)
theorem dX3_falls_199 : decode cX3_falls 199 = .ok (.goto (-69), 3) := dk_167 255 187 (dk_at dksX3_falls_8 16 rfl rfl)
theorem dX3_falls_202 : decode cX3_falls 202 = .ok (.aload_n 0, 1) := dk_42 (dk_at dksX3_falls_8 19 rfl rfl)
theorem dX3_falls_203 : decode cX3_falls 203 = .ok (.dup, 1) := dk_89 (dk_at dksX3_falls_8 20 rfl rfl)
theorem dX3_falls_204 : decode cX3_falls 204 = .ok (.getfield 31, 3) := dk_180 0 31 (dk_at dksX3_falls_8 21 rfl rfl)
theorem dX3_falls_207 : decode cX3_falls 207 = .ok (.iload_n 3, 1) := dk_29 (dk_at dksX3_falls_9 0 rfl rfl)
theorem dX3_falls_208 : decode cX3_falls 208 = .ok (.iconst (-1), 1) := dk_2 (dk_at dksX3_falls_9 1 rfl rfl)
theorem dX3_falls_209 : decode cX3_falls 209 = .ok (.ixor, 1) := dk_130 (dk_at dksX3_falls_9 2 rfl rfl)
theorem dX3_falls_210 : decode cX3_falls 210 = .ok (.iand, 1) := dk_126 (dk_at dksX3_falls_9 3 rfl rfl)
theorem dX3_falls_211 : decode cX3_falls 211 = .ok (.putfield 31, 3) := dk_181 0 31 (dk_at dksX3_falls_9 4 rfl rfl)
theorem dX3_falls_214 : decode cX3_falls 214 = .ok (.aload_n 0, 1) := dk_42 (dk_at dksX3_falls_9 7 rfl rfl)
theorem dX3_falls_215 : decode cX3_falls 215 = .ok (.dup, 1) := dk_89 (dk_at dksX3_falls_9 8 rfl rfl)
theorem dX3_falls_216 : decode cX3_falls 216 = .ok (.getfield 35, 3) := dk_180 0 35 (dk_at dksX3_falls_9 9 rfl rfl)
theorem dX3_falls_219 : decode cX3_falls 219 = .ok (.iload_n 3, 1) := dk_29 (dk_at dksX3_falls_9 12 rfl rfl)
theorem dX3_falls_220 : decode cX3_falls 220 = .ok (.iconst (-1), 1) := dk_2 (dk_at dksX3_falls_9 13 rfl rfl)
theorem dX3_falls_221 : decode cX3_falls 221 = .ok (.ixor, 1) := dk_130 (dk_at dksX3_falls_9 14 rfl rfl)
theorem dX3_falls_222 : decode cX3_falls 222 = .ok (.iand, 1) := dk_126 (dk_at dksX3_falls_9 15 rfl rfl)
theorem dX3_falls_223 : decode cX3_falls 223 = .ok (.putfield 35, 3) := dk_181 0 35 (dk_at dksX3_falls_9 16 rfl rfl)
theorem dX3_falls_226 : decode cX3_falls 226 = .ok (.iload_n 3, 1) := dk_29 (dk_at dksX3_falls_9 19 rfl rfl)
theorem dX3_falls_227 : decode cX3_falls 227 = .ok (.ireturn, 1) := dk_172 (dk_at dksX3_falls_9 20 rfl rfl)
abbrev cX3_values : ByteArray := prog_5_method_8_code
def yX3_values : MethodName := ⟨RX3, "values", "(I)I"⟩
def dkwX3_values_2 : List UInt8 := [28, 172]
abbrev dktX3_values_2 : List UInt8 := dkwX3_values_2 ++ []
def dkwX3_values_1 : List UInt8 := [153, 0, 18, 28, 42, 180, 0, 15, 29, 42, 180, 0, 47, 182, 0, 96, 96, 61, 132, 3, 1, 167, 255, 216]
abbrev dktX3_values_1 : List UInt8 := dkwX3_values_1 ++ dktX3_values_2
def dkwX3_values_0 : List UInt8 := [3, 61, 3, 62, 29, 42, 180, 0, 15, 180, 0, 19, 182, 0, 25, 162, 0, 32, 27, 29, 184, 0, 68]
abbrev dktX3_values_0 : List UInt8 := dkwX3_values_0 ++ dktX3_values_1
theorem dksX3_values_0 : cX3_values.data.toList.drop 0 = dktX3_values_0 := by decide +kernel
theorem dksX3_values_1 : cX3_values.data.toList.drop 23 = dktX3_values_1 := dk_seg dksX3_values_0 23 rfl rfl
theorem dksX3_values_2 : cX3_values.data.toList.drop 47 = dktX3_values_2 := dk_seg dksX3_values_1 24 rfl rfl
theorem dX3_values_0 : decode cX3_values 0 = .ok (.iconst 0, 1) := dk_3 (dk_at dksX3_values_0 0 rfl rfl)
theorem dX3_values_1 : decode cX3_values 1 = .ok (.istore_n 2, 1) := dk_61 (dk_at dksX3_values_0 1 rfl rfl)
theorem dX3_values_2 : decode cX3_values 2 = .ok (.iconst 0, 1) := dk_3 (dk_at dksX3_values_0 2 rfl rfl)
theorem dX3_values_3 : decode cX3_values 3 = .ok (.istore_n 3, 1) := dk_62 (dk_at dksX3_values_0 3 rfl rfl)
theorem dX3_values_4 : decode cX3_values 4 = .ok (.iload_n 3, 1) := dk_29 (dk_at dksX3_values_0 4 rfl rfl)
theorem dX3_values_5 : decode cX3_values 5 = .ok (.aload_n 0, 1) := dk_42 (dk_at dksX3_values_0 5 rfl rfl)
theorem dX3_values_6 : decode cX3_values 6 = .ok (.getfield 15, 3) := dk_180 0 15 (dk_at dksX3_values_0 6 rfl rfl)
theorem dX3_values_9 : decode cX3_values 9 = .ok (.getfield 19, 3) := dk_180 0 19 (dk_at dksX3_values_0 9 rfl rfl)
theorem dX3_values_12 : decode cX3_values 12 = .ok (.invokevirtual 25, 3) := dk_182 0 25 (dk_at dksX3_values_0 12 rfl rfl)
theorem dX3_values_15 : decode cX3_values 15 = .ok (.if_icmp .ge 32, 3) := dk_162 0 32 (dk_at dksX3_values_0 15 rfl rfl)
theorem dX3_values_18 : decode cX3_values 18 = .ok (.iload_n 1, 1) := dk_27 (dk_at dksX3_values_0 18 rfl rfl)
theorem dX3_values_19 : decode cX3_values 19 = .ok (.iload_n 3, 1) := dk_29 (dk_at dksX3_values_0 19 rfl rfl)
theorem dX3_values_20 : decode cX3_values 20 = .ok (.invokestatic 68, 3) := dk_184 0 68 (dk_at dksX3_values_0 20 rfl rfl)
theorem dX3_values_23 : decode cX3_values 23 = .ok (.ifCond .eq 18, 3) := dk_153 0 18 (dk_at dksX3_values_1 0 rfl rfl)
theorem dX3_values_26 : decode cX3_values 26 = .ok (.iload_n 2, 1) := dk_28 (dk_at dksX3_values_1 3 rfl rfl)
theorem dX3_values_27 : decode cX3_values 27 = .ok (.aload_n 0, 1) := dk_42 (dk_at dksX3_values_1 4 rfl rfl)
theorem dX3_values_28 : decode cX3_values 28 = .ok (.getfield 15, 3) := dk_180 0 15 (dk_at dksX3_values_1 5 rfl rfl)
theorem dX3_values_31 : decode cX3_values 31 = .ok (.iload_n 3, 1) := dk_29 (dk_at dksX3_values_1 8 rfl rfl)
theorem dX3_values_32 : decode cX3_values 32 = .ok (.aload_n 0, 1) := dk_42 (dk_at dksX3_values_1 9 rfl rfl)
theorem dX3_values_33 : decode cX3_values 33 = .ok (.getfield 47, 3) := dk_180 0 47 (dk_at dksX3_values_1 10 rfl rfl)
theorem dX3_values_36 : decode cX3_values 36 = .ok (.invokevirtual 96, 3) := dk_182 0 96 (dk_at dksX3_values_1 13 rfl rfl)
theorem dX3_values_39 : decode cX3_values 39 = .ok (.iadd, 1) := dk_96 (dk_at dksX3_values_1 16 rfl rfl)
theorem dX3_values_40 : decode cX3_values 40 = .ok (.istore_n 2, 1) := dk_61 (dk_at dksX3_values_1 17 rfl rfl)
theorem dX3_values_41 : decode cX3_values 41 = .ok (.iinc 3 1, 3) := dk_132 3 1 (dk_at dksX3_values_1 18 rfl rfl)
theorem dX3_values_44 : decode cX3_values 44 = .ok (.goto (-40), 3) := dk_167 255 216 (dk_at dksX3_values_1 21 rfl rfl)
theorem dX3_values_47 : decode cX3_values 47 = .ok (.iload_n 2, 1) := dk_28 (dk_at dksX3_values_2 0 rfl rfl)
theorem dX3_values_48 : decode cX3_values 48 = .ok (.ireturn, 1) := dk_172 (dk_at dksX3_values_2 1 rfl rfl)
abbrev cX3_copied : ByteArray := prog_5_method_3_code
def yX3_copied : MethodName := ⟨RX3, "copied", "()LNameOrchard$Boughs;"⟩
def dkwX3_copied_0 : List UInt8 := [187, 0, 10, 89, 183, 0, 57, 42, 182, 0, 58, 176]
abbrev dktX3_copied_0 : List UInt8 := dkwX3_copied_0 ++ []
theorem dksX3_copied_0 : cX3_copied.data.toList.drop 0 = dktX3_copied_0 := by decide +kernel
theorem dX3_copied_0 : decode cX3_copied 0 = .ok (.new 10, 3) := dk_187 0 10 (dk_at dksX3_copied_0 0 rfl rfl)
theorem dX3_copied_3 : decode cX3_copied 3 = .ok (.dup, 1) := dk_89 (dk_at dksX3_copied_0 3 rfl rfl)
theorem dX3_copied_4 : decode cX3_copied 4 = .ok (.invokespecial 57, 3) := dk_183 0 57 (dk_at dksX3_copied_0 4 rfl rfl)
theorem dX3_copied_7 : decode cX3_copied 7 = .ok (.aload_n 0, 1) := dk_42 (dk_at dksX3_copied_0 7 rfl rfl)
theorem dX3_copied_8 : decode cX3_copied 8 = .ok (.invokevirtual 58, 3) := dk_182 0 58 (dk_at dksX3_copied_0 8 rfl rfl)
theorem dX3_copied_11 : decode cX3_copied 11 = .ok (.areturn, 1) := dk_176 (dk_at dksX3_copied_0 11 rfl rfl)
abbrev cX3_mayPick : ByteArray := prog_5_method_13_code
def yX3_mayPick : MethodName := ⟨RX3, "mayPick", "(I)Z"⟩
def dkwX3_mayPick_0 : List UInt8 := [42, 27, 182, 0, 85, 153, 0, 14, 42, 180, 0, 53, 154, 0, 7, 4, 167, 0, 4, 3, 172]
abbrev dktX3_mayPick_0 : List UInt8 := dkwX3_mayPick_0 ++ []
theorem dksX3_mayPick_0 : cX3_mayPick.data.toList.drop 0 = dktX3_mayPick_0 := by decide +kernel
theorem dX3_mayPick_0 : decode cX3_mayPick 0 = .ok (.aload_n 0, 1) := dk_42 (dk_at dksX3_mayPick_0 0 rfl rfl)
theorem dX3_mayPick_1 : decode cX3_mayPick 1 = .ok (.iload_n 1, 1) := dk_27 (dk_at dksX3_mayPick_0 1 rfl rfl)
theorem dX3_mayPick_2 : decode cX3_mayPick 2 = .ok (.invokevirtual 85, 3) := dk_182 0 85 (dk_at dksX3_mayPick_0 2 rfl rfl)
theorem dX3_mayPick_5 : decode cX3_mayPick 5 = .ok (.ifCond .eq 14, 3) := dk_153 0 14 (dk_at dksX3_mayPick_0 5 rfl rfl)
theorem dX3_mayPick_8 : decode cX3_mayPick 8 = .ok (.aload_n 0, 1) := dk_42 (dk_at dksX3_mayPick_0 8 rfl rfl)
theorem dX3_mayPick_9 : decode cX3_mayPick 9 = .ok (.getfield 53, 3) := dk_180 0 53 (dk_at dksX3_mayPick_0 9 rfl rfl)
theorem dX3_mayPick_12 : decode cX3_mayPick 12 = .ok (.ifCond .ne 7, 3) := dk_154 0 7 (dk_at dksX3_mayPick_0 12 rfl rfl)
theorem dX3_mayPick_15 : decode cX3_mayPick 15 = .ok (.iconst 1, 1) := dk_4 (dk_at dksX3_mayPick_0 15 rfl rfl)
theorem dX3_mayPick_16 : decode cX3_mayPick 16 = .ok (.goto 4, 3) := dk_167 0 4 (dk_at dksX3_mayPick_0 16 rfl rfl)
theorem dX3_mayPick_19 : decode cX3_mayPick 19 = .ok (.iconst 0, 1) := dk_3 (dk_at dksX3_mayPick_0 19 rfl rfl)
theorem dX3_mayPick_20 : decode cX3_mayPick 20 = .ok (.ireturn, 1) := dk_172 (dk_at dksX3_mayPick_0 20 rfl rfl)
abbrev cX3_picks : ByteArray := prog_5_method_14_code
def yX3_picks : MethodName := ⟨RX3, "picks", "(I)I"⟩
def dkwX3_picks_2 : List UInt8 := [180, 0, 50, 28, 96, 181, 0, 50, 28, 172]
abbrev dktX3_picks_2 : List UInt8 := dkwX3_picks_2 ++ []
def dkwX3_picks_1 : List UInt8 := [126, 181, 0, 35, 42, 4, 181, 0, 53, 42, 180, 0, 15, 27, 42, 180, 0, 47, 182, 0, 96, 61, 42, 89]
abbrev dktX3_picks_1 : List UInt8 := dkwX3_picks_1 ++ dktX3_picks_2
def dkwX3_picks_0 : List UInt8 := [42, 89, 180, 0, 31, 4, 27, 120, 2, 130, 126, 181, 0, 31, 42, 89, 180, 0, 35, 4, 27, 120, 2, 130]
abbrev dktX3_picks_0 : List UInt8 := dkwX3_picks_0 ++ dktX3_picks_1
theorem dksX3_picks_0 : cX3_picks.data.toList.drop 0 = dktX3_picks_0 := by decide +kernel
theorem dksX3_picks_1 : cX3_picks.data.toList.drop 24 = dktX3_picks_1 := dk_seg dksX3_picks_0 24 rfl rfl
theorem dksX3_picks_2 : cX3_picks.data.toList.drop 48 = dktX3_picks_2 := dk_seg dksX3_picks_1 24 rfl rfl
theorem dX3_picks_0 : decode cX3_picks 0 = .ok (.aload_n 0, 1) := dk_42 (dk_at dksX3_picks_0 0 rfl rfl)
theorem dX3_picks_1 : decode cX3_picks 1 = .ok (.dup, 1) := dk_89 (dk_at dksX3_picks_0 1 rfl rfl)
theorem dX3_picks_2 : decode cX3_picks 2 = .ok (.getfield 31, 3) := dk_180 0 31 (dk_at dksX3_picks_0 2 rfl rfl)
theorem dX3_picks_5 : decode cX3_picks 5 = .ok (.iconst 1, 1) := dk_4 (dk_at dksX3_picks_0 5 rfl rfl)
theorem dX3_picks_6 : decode cX3_picks 6 = .ok (.iload_n 1, 1) := dk_27 (dk_at dksX3_picks_0 6 rfl rfl)
theorem dX3_picks_7 : decode cX3_picks 7 = .ok (.ishl, 1) := dk_120 (dk_at dksX3_picks_0 7 rfl rfl)
theorem dX3_picks_8 : decode cX3_picks 8 = .ok (.iconst (-1), 1) := dk_2 (dk_at dksX3_picks_0 8 rfl rfl)
theorem dX3_picks_9 : decode cX3_picks 9 = .ok (.ixor, 1) := dk_130 (dk_at dksX3_picks_0 9 rfl rfl)
theorem dX3_picks_10 : decode cX3_picks 10 = .ok (.iand, 1) := dk_126 (dk_at dksX3_picks_0 10 rfl rfl)
theorem dX3_picks_11 : decode cX3_picks 11 = .ok (.putfield 31, 3) := dk_181 0 31 (dk_at dksX3_picks_0 11 rfl rfl)
theorem dX3_picks_14 : decode cX3_picks 14 = .ok (.aload_n 0, 1) := dk_42 (dk_at dksX3_picks_0 14 rfl rfl)
theorem dX3_picks_15 : decode cX3_picks 15 = .ok (.dup, 1) := dk_89 (dk_at dksX3_picks_0 15 rfl rfl)
theorem dX3_picks_16 : decode cX3_picks 16 = .ok (.getfield 35, 3) := dk_180 0 35 (dk_at dksX3_picks_0 16 rfl rfl)
theorem dX3_picks_19 : decode cX3_picks 19 = .ok (.iconst 1, 1) := dk_4 (dk_at dksX3_picks_0 19 rfl rfl)
theorem dX3_picks_20 : decode cX3_picks 20 = .ok (.iload_n 1, 1) := dk_27 (dk_at dksX3_picks_0 20 rfl rfl)
theorem dX3_picks_21 : decode cX3_picks 21 = .ok (.ishl, 1) := dk_120 (dk_at dksX3_picks_0 21 rfl rfl)
theorem dX3_picks_22 : decode cX3_picks 22 = .ok (.iconst (-1), 1) := dk_2 (dk_at dksX3_picks_0 22 rfl rfl)
theorem dX3_picks_23 : decode cX3_picks 23 = .ok (.ixor, 1) := dk_130 (dk_at dksX3_picks_0 23 rfl rfl)
theorem dX3_picks_24 : decode cX3_picks 24 = .ok (.iand, 1) := dk_126 (dk_at dksX3_picks_1 0 rfl rfl)
theorem dX3_picks_25 : decode cX3_picks 25 = .ok (.putfield 35, 3) := dk_181 0 35 (dk_at dksX3_picks_1 1 rfl rfl)
theorem dX3_picks_28 : decode cX3_picks 28 = .ok (.aload_n 0, 1) := dk_42 (dk_at dksX3_picks_1 4 rfl rfl)
theorem dX3_picks_29 : decode cX3_picks 29 = .ok (.iconst 1, 1) := dk_4 (dk_at dksX3_picks_1 5 rfl rfl)
theorem dX3_picks_30 : decode cX3_picks 30 = .ok (.putfield 53, 3) := dk_181 0 53 (dk_at dksX3_picks_1 6 rfl rfl)
theorem dX3_picks_33 : decode cX3_picks 33 = .ok (.aload_n 0, 1) := dk_42 (dk_at dksX3_picks_1 9 rfl rfl)
theorem dX3_picks_34 : decode cX3_picks 34 = .ok (.getfield 15, 3) := dk_180 0 15 (dk_at dksX3_picks_1 10 rfl rfl)
theorem dX3_picks_37 : decode cX3_picks 37 = .ok (.iload_n 1, 1) := dk_27 (dk_at dksX3_picks_1 13 rfl rfl)
theorem dX3_picks_38 : decode cX3_picks 38 = .ok (.aload_n 0, 1) := dk_42 (dk_at dksX3_picks_1 14 rfl rfl)
theorem dX3_picks_39 : decode cX3_picks 39 = .ok (.getfield 47, 3) := dk_180 0 47 (dk_at dksX3_picks_1 15 rfl rfl)
theorem dX3_picks_42 : decode cX3_picks 42 = .ok (.invokevirtual 96, 3) := dk_182 0 96 (dk_at dksX3_picks_1 18 rfl rfl)
theorem dX3_picks_45 : decode cX3_picks 45 = .ok (.istore_n 2, 1) := dk_61 (dk_at dksX3_picks_1 21 rfl rfl)
theorem dX3_picks_46 : decode cX3_picks 46 = .ok (.aload_n 0, 1) := dk_42 (dk_at dksX3_picks_1 22 rfl rfl)
theorem dX3_picks_47 : decode cX3_picks 47 = .ok (.dup, 1) := dk_89 (dk_at dksX3_picks_1 23 rfl rfl)
theorem dX3_picks_48 : decode cX3_picks 48 = .ok (.getfield 50, 3) := dk_180 0 50 (dk_at dksX3_picks_2 0 rfl rfl)
theorem dX3_picks_51 : decode cX3_picks 51 = .ok (.iload_n 2, 1) := dk_28 (dk_at dksX3_picks_2 3 rfl rfl)
theorem dX3_picks_52 : decode cX3_picks 52 = .ok (.iadd, 1) := dk_96 (dk_at dksX3_picks_2 4 rfl rfl)
theorem dX3_picks_53 : decode cX3_picks 53 = .ok (.putfield 50, 3) := dk_181 0 50 (dk_at dksX3_picks_2 5 rfl rfl)
theorem dX3_picks_56 : decode cX3_picks 56 = .ok (.iload_n 2, 1) := dk_28 (dk_at dksX3_picks_2 8 rfl rfl)
theorem dX3_picks_57 : decode cX3_picks 57 = .ok (.ireturn, 1) := dk_172 (dk_at dksX3_picks_2 9 rfl rfl)
abbrev cX3_mayChristen : ByteArray := prog_5_method_16_code
def yX3_mayChristen : MethodName := ⟨RX3, "mayChristen", "(II)Z"⟩
def dkwX3_mayChristen_2 : List UInt8 := [182, 0, 130, 153, 0, 7, 4, 167, 0, 4, 3, 172]
abbrev dktX3_mayChristen_2 : List UInt8 := dkwX3_mayChristen_2 ++ []
def dkwX3_mayChristen_1 : List UInt8 := [180, 0, 103, 42, 180, 0, 47, 164, 0, 26, 42, 180, 0, 9, 27, 46, 28, 159, 0, 16, 42, 27, 28]
abbrev dktX3_mayChristen_1 : List UInt8 := dkwX3_mayChristen_1 ++ dktX3_mayChristen_2
def dkwX3_mayChristen_0 : List UInt8 := [42, 27, 182, 0, 85, 153, 0, 50, 42, 180, 0, 15, 180, 0, 19, 27, 182, 0, 38, 192, 0, 42]
abbrev dktX3_mayChristen_0 : List UInt8 := dkwX3_mayChristen_0 ++ dktX3_mayChristen_1
theorem dksX3_mayChristen_0 : cX3_mayChristen.data.toList.drop 0 = dktX3_mayChristen_0 := by decide +kernel
theorem dksX3_mayChristen_1 : cX3_mayChristen.data.toList.drop 22 = dktX3_mayChristen_1 := dk_seg dksX3_mayChristen_0 22 rfl rfl
theorem dksX3_mayChristen_2 : cX3_mayChristen.data.toList.drop 45 = dktX3_mayChristen_2 := dk_seg dksX3_mayChristen_1 23 rfl rfl
theorem dX3_mayChristen_0 : decode cX3_mayChristen 0 = .ok (.aload_n 0, 1) := dk_42 (dk_at dksX3_mayChristen_0 0 rfl rfl)
theorem dX3_mayChristen_1 : decode cX3_mayChristen 1 = .ok (.iload_n 1, 1) := dk_27 (dk_at dksX3_mayChristen_0 1 rfl rfl)
theorem dX3_mayChristen_2 : decode cX3_mayChristen 2 = .ok (.invokevirtual 85, 3) := dk_182 0 85 (dk_at dksX3_mayChristen_0 2 rfl rfl)
theorem dX3_mayChristen_5 : decode cX3_mayChristen 5 = .ok (.ifCond .eq 50, 3) := dk_153 0 50 (dk_at dksX3_mayChristen_0 5 rfl rfl)
theorem dX3_mayChristen_8 : decode cX3_mayChristen 8 = .ok (.aload_n 0, 1) := dk_42 (dk_at dksX3_mayChristen_0 8 rfl rfl)
theorem dX3_mayChristen_9 : decode cX3_mayChristen 9 = .ok (.getfield 15, 3) := dk_180 0 15 (dk_at dksX3_mayChristen_0 9 rfl rfl)
theorem dX3_mayChristen_12 : decode cX3_mayChristen 12 = .ok (.getfield 19, 3) := dk_180 0 19 (dk_at dksX3_mayChristen_0 12 rfl rfl)
theorem dX3_mayChristen_15 : decode cX3_mayChristen 15 = .ok (.iload_n 1, 1) := dk_27 (dk_at dksX3_mayChristen_0 15 rfl rfl)
theorem dX3_mayChristen_16 : decode cX3_mayChristen 16 = .ok (.invokevirtual 38, 3) := dk_182 0 38 (dk_at dksX3_mayChristen_0 16 rfl rfl)
theorem dX3_mayChristen_19 : decode cX3_mayChristen 19 = .ok (.checkcast 42, 3) := dk_192 0 42 (dk_at dksX3_mayChristen_0 19 rfl rfl)
theorem dX3_mayChristen_22 : decode cX3_mayChristen 22 = .ok (.getfield 103, 3) := dk_180 0 103 (dk_at dksX3_mayChristen_1 0 rfl rfl)
theorem dX3_mayChristen_25 : decode cX3_mayChristen 25 = .ok (.aload_n 0, 1) := dk_42 (dk_at dksX3_mayChristen_1 3 rfl rfl)
theorem dX3_mayChristen_26 : decode cX3_mayChristen 26 = .ok (.getfield 47, 3) := dk_180 0 47 (dk_at dksX3_mayChristen_1 4 rfl rfl)
theorem dX3_mayChristen_29 : decode cX3_mayChristen 29 = .ok (.if_icmp .le 26, 3) := dk_164 0 26 (dk_at dksX3_mayChristen_1 7 rfl rfl)
theorem dX3_mayChristen_32 : decode cX3_mayChristen 32 = .ok (.aload_n 0, 1) := dk_42 (dk_at dksX3_mayChristen_1 10 rfl rfl)
theorem dX3_mayChristen_33 : decode cX3_mayChristen 33 = .ok (.getfield 9, 3) := dk_180 0 9 (dk_at dksX3_mayChristen_1 11 rfl rfl)
theorem dX3_mayChristen_36 : decode cX3_mayChristen 36 = .ok (.iload_n 1, 1) := dk_27 (dk_at dksX3_mayChristen_1 14 rfl rfl)
theorem dX3_mayChristen_37 : decode cX3_mayChristen 37 = .ok (.iaload, 1) := dk_46 (dk_at dksX3_mayChristen_1 15 rfl rfl)
theorem dX3_mayChristen_38 : decode cX3_mayChristen 38 = .ok (.iload_n 2, 1) := dk_28 (dk_at dksX3_mayChristen_1 16 rfl rfl)
theorem dX3_mayChristen_39 : decode cX3_mayChristen 39 = .ok (.if_icmp .eq 16, 3) := dk_159 0 16 (dk_at dksX3_mayChristen_1 17 rfl rfl)
theorem dX3_mayChristen_42 : decode cX3_mayChristen 42 = .ok (.aload_n 0, 1) := dk_42 (dk_at dksX3_mayChristen_1 20 rfl rfl)
theorem dX3_mayChristen_43 : decode cX3_mayChristen 43 = .ok (.iload_n 1, 1) := dk_27 (dk_at dksX3_mayChristen_1 21 rfl rfl)
theorem dX3_mayChristen_44 : decode cX3_mayChristen 44 = .ok (.iload_n 2, 1) := dk_28 (dk_at dksX3_mayChristen_1 22 rfl rfl)
theorem dX3_mayChristen_45 : decode cX3_mayChristen 45 = .ok (.invokevirtual 130, 3) := dk_182 0 130 (dk_at dksX3_mayChristen_2 0 rfl rfl)
theorem dX3_mayChristen_48 : decode cX3_mayChristen 48 = .ok (.ifCond .eq 7, 3) := dk_153 0 7 (dk_at dksX3_mayChristen_2 3 rfl rfl)
theorem dX3_mayChristen_51 : decode cX3_mayChristen 51 = .ok (.iconst 1, 1) := dk_4 (dk_at dksX3_mayChristen_2 6 rfl rfl)
theorem dX3_mayChristen_52 : decode cX3_mayChristen 52 = .ok (.goto 4, 3) := dk_167 0 4 (dk_at dksX3_mayChristen_2 7 rfl rfl)
theorem dX3_mayChristen_55 : decode cX3_mayChristen 55 = .ok (.iconst 0, 1) := dk_3 (dk_at dksX3_mayChristen_2 10 rfl rfl)
theorem dX3_mayChristen_56 : decode cX3_mayChristen 56 = .ok (.ireturn, 1) := dk_172 (dk_at dksX3_mayChristen_2 11 rfl rfl)
abbrev cX3_isFree : ByteArray := prog_5_method_15_code
def yX3_isFree : MethodName := ⟨RX3, "isFree", "(II)Z"⟩
def dkwX3_isFree_2 : List UInt8 := [4, 172]
abbrev dktX3_isFree_2 : List UInt8 := dkwX3_isFree_2 ++ []
def dkwX3_isFree_1 : List UInt8 := [182, 0, 85, 153, 0, 15, 42, 180, 0, 9, 29, 46, 28, 160, 0, 5, 3, 172, 132, 3, 1, 167, 255, 214]
abbrev dktX3_isFree_1 : List UInt8 := dkwX3_isFree_1 ++ dktX3_isFree_2
def dkwX3_isFree_0 : List UInt8 := [3, 62, 29, 42, 180, 0, 15, 180, 0, 19, 182, 0, 25, 162, 0, 34, 29, 27, 159, 0, 23, 42, 29]
abbrev dktX3_isFree_0 : List UInt8 := dkwX3_isFree_0 ++ dktX3_isFree_1
theorem dksX3_isFree_0 : cX3_isFree.data.toList.drop 0 = dktX3_isFree_0 := by decide +kernel
theorem dksX3_isFree_1 : cX3_isFree.data.toList.drop 23 = dktX3_isFree_1 := dk_seg dksX3_isFree_0 23 rfl rfl
theorem dksX3_isFree_2 : cX3_isFree.data.toList.drop 47 = dktX3_isFree_2 := dk_seg dksX3_isFree_1 24 rfl rfl
theorem dX3_isFree_0 : decode cX3_isFree 0 = .ok (.iconst 0, 1) := dk_3 (dk_at dksX3_isFree_0 0 rfl rfl)
theorem dX3_isFree_1 : decode cX3_isFree 1 = .ok (.istore_n 3, 1) := dk_62 (dk_at dksX3_isFree_0 1 rfl rfl)
theorem dX3_isFree_2 : decode cX3_isFree 2 = .ok (.iload_n 3, 1) := dk_29 (dk_at dksX3_isFree_0 2 rfl rfl)
theorem dX3_isFree_3 : decode cX3_isFree 3 = .ok (.aload_n 0, 1) := dk_42 (dk_at dksX3_isFree_0 3 rfl rfl)
theorem dX3_isFree_4 : decode cX3_isFree 4 = .ok (.getfield 15, 3) := dk_180 0 15 (dk_at dksX3_isFree_0 4 rfl rfl)
theorem dX3_isFree_7 : decode cX3_isFree 7 = .ok (.getfield 19, 3) := dk_180 0 19 (dk_at dksX3_isFree_0 7 rfl rfl)
theorem dX3_isFree_10 : decode cX3_isFree 10 = .ok (.invokevirtual 25, 3) := dk_182 0 25 (dk_at dksX3_isFree_0 10 rfl rfl)
theorem dX3_isFree_13 : decode cX3_isFree 13 = .ok (.if_icmp .ge 34, 3) := dk_162 0 34 (dk_at dksX3_isFree_0 13 rfl rfl)
theorem dX3_isFree_16 : decode cX3_isFree 16 = .ok (.iload_n 3, 1) := dk_29 (dk_at dksX3_isFree_0 16 rfl rfl)
theorem dX3_isFree_17 : decode cX3_isFree 17 = .ok (.iload_n 1, 1) := dk_27 (dk_at dksX3_isFree_0 17 rfl rfl)
theorem dX3_isFree_18 : decode cX3_isFree 18 = .ok (.if_icmp .eq 23, 3) := dk_159 0 23 (dk_at dksX3_isFree_0 18 rfl rfl)
theorem dX3_isFree_21 : decode cX3_isFree 21 = .ok (.aload_n 0, 1) := dk_42 (dk_at dksX3_isFree_0 21 rfl rfl)
theorem dX3_isFree_22 : decode cX3_isFree 22 = .ok (.iload_n 3, 1) := dk_29 (dk_at dksX3_isFree_0 22 rfl rfl)
theorem dX3_isFree_23 : decode cX3_isFree 23 = .ok (.invokevirtual 85, 3) := dk_182 0 85 (dk_at dksX3_isFree_1 0 rfl rfl)
theorem dX3_isFree_26 : decode cX3_isFree 26 = .ok (.ifCond .eq 15, 3) := dk_153 0 15 (dk_at dksX3_isFree_1 3 rfl rfl)
theorem dX3_isFree_29 : decode cX3_isFree 29 = .ok (.aload_n 0, 1) := dk_42 (dk_at dksX3_isFree_1 6 rfl rfl)
theorem dX3_isFree_30 : decode cX3_isFree 30 = .ok (.getfield 9, 3) := dk_180 0 9 (dk_at dksX3_isFree_1 7 rfl rfl)
theorem dX3_isFree_33 : decode cX3_isFree 33 = .ok (.iload_n 3, 1) := dk_29 (dk_at dksX3_isFree_1 10 rfl rfl)
theorem dX3_isFree_34 : decode cX3_isFree 34 = .ok (.iaload, 1) := dk_46 (dk_at dksX3_isFree_1 11 rfl rfl)
theorem dX3_isFree_35 : decode cX3_isFree 35 = .ok (.iload_n 2, 1) := dk_28 (dk_at dksX3_isFree_1 12 rfl rfl)
theorem dX3_isFree_36 : decode cX3_isFree 36 = .ok (.if_icmp .ne 5, 3) := dk_160 0 5 (dk_at dksX3_isFree_1 13 rfl rfl)
theorem dX3_isFree_39 : decode cX3_isFree 39 = .ok (.iconst 0, 1) := dk_3 (dk_at dksX3_isFree_1 16 rfl rfl)
theorem dX3_isFree_40 : decode cX3_isFree 40 = .ok (.ireturn, 1) := dk_172 (dk_at dksX3_isFree_1 17 rfl rfl)
theorem dX3_isFree_41 : decode cX3_isFree 41 = .ok (.iinc 3 1, 3) := dk_132 3 1 (dk_at dksX3_isFree_1 18 rfl rfl)
theorem dX3_isFree_44 : decode cX3_isFree 44 = .ok (.goto (-42), 3) := dk_167 255 214 (dk_at dksX3_isFree_1 21 rfl rfl)
theorem dX3_isFree_47 : decode cX3_isFree 47 = .ok (.iconst 1, 1) := dk_4 (dk_at dksX3_isFree_2 0 rfl rfl)
theorem dX3_isFree_48 : decode cX3_isFree 48 = .ok (.ireturn, 1) := dk_172 (dk_at dksX3_isFree_2 1 rfl rfl)
abbrev cX3_passes : ByteArray := prog_5_method_17_code
def yX3_passes : MethodName := ⟨RX3, "passes", "()V"⟩
def dkwX3_passes_0 : List UInt8 := [42, 89, 180, 0, 47, 4, 96, 181, 0, 47, 42, 3, 181, 0, 53, 177]
abbrev dktX3_passes_0 : List UInt8 := dkwX3_passes_0 ++ []
theorem dksX3_passes_0 : cX3_passes.data.toList.drop 0 = dktX3_passes_0 := by decide +kernel
theorem dX3_passes_0 : decode cX3_passes 0 = .ok (.aload_n 0, 1) := dk_42 (dk_at dksX3_passes_0 0 rfl rfl)
theorem dX3_passes_1 : decode cX3_passes 1 = .ok (.dup, 1) := dk_89 (dk_at dksX3_passes_0 1 rfl rfl)
theorem dX3_passes_2 : decode cX3_passes 2 = .ok (.getfield 47, 3) := dk_180 0 47 (dk_at dksX3_passes_0 2 rfl rfl)
theorem dX3_passes_5 : decode cX3_passes 5 = .ok (.iconst 1, 1) := dk_4 (dk_at dksX3_passes_0 5 rfl rfl)
theorem dX3_passes_6 : decode cX3_passes 6 = .ok (.iadd, 1) := dk_96 (dk_at dksX3_passes_0 6 rfl rfl)
theorem dX3_passes_7 : decode cX3_passes 7 = .ok (.putfield 47, 3) := dk_181 0 47 (dk_at dksX3_passes_0 7 rfl rfl)
theorem dX3_passes_10 : decode cX3_passes 10 = .ok (.aload_n 0, 1) := dk_42 (dk_at dksX3_passes_0 10 rfl rfl)
theorem dX3_passes_11 : decode cX3_passes 11 = .ok (.iconst 0, 1) := dk_3 (dk_at dksX3_passes_0 11 rfl rfl)
theorem dX3_passes_12 : decode cX3_passes 12 = .ok (.putfield 53, 3) := dk_181 0 53 (dk_at dksX3_passes_0 12 rfl rfl)
theorem dX3_passes_15 : decode cX3_passes 15 = .ok (.return_, 1) := dk_177 (dk_at dksX3_passes_0 15 rfl rfl)
abbrev cX3_green : ByteArray := prog_5_method_10_code
def yX3_green : MethodName := ⟨RX3, "green", "(I)I"⟩
def dkwX3_green_2 : List UInt8 := [164, 0, 6, 132, 2, 1, 132, 3, 1, 167, 255, 204, 28, 172]
abbrev dktX3_green_2 : List UInt8 := dkwX3_green_2 ++ []
def dkwX3_green_1 : List UInt8 := [153, 0, 30, 42, 180, 0, 15, 180, 0, 19, 29, 182, 0, 38, 192, 0, 42, 180, 0, 103, 42, 180, 0, 47]
abbrev dktX3_green_1 : List UInt8 := dkwX3_green_1 ++ dktX3_green_2
def dkwX3_green_0 : List UInt8 := [3, 61, 3, 62, 29, 42, 180, 0, 15, 180, 0, 19, 182, 0, 25, 162, 0, 44, 27, 29, 184, 0, 68]
abbrev dktX3_green_0 : List UInt8 := dkwX3_green_0 ++ dktX3_green_1
theorem dksX3_green_0 : cX3_green.data.toList.drop 0 = dktX3_green_0 := by decide +kernel
theorem dksX3_green_1 : cX3_green.data.toList.drop 23 = dktX3_green_1 := dk_seg dksX3_green_0 23 rfl rfl
theorem dksX3_green_2 : cX3_green.data.toList.drop 47 = dktX3_green_2 := dk_seg dksX3_green_1 24 rfl rfl
theorem dX3_green_0 : decode cX3_green 0 = .ok (.iconst 0, 1) := dk_3 (dk_at dksX3_green_0 0 rfl rfl)
theorem dX3_green_1 : decode cX3_green 1 = .ok (.istore_n 2, 1) := dk_61 (dk_at dksX3_green_0 1 rfl rfl)
theorem dX3_green_2 : decode cX3_green 2 = .ok (.iconst 0, 1) := dk_3 (dk_at dksX3_green_0 2 rfl rfl)
theorem dX3_green_3 : decode cX3_green 3 = .ok (.istore_n 3, 1) := dk_62 (dk_at dksX3_green_0 3 rfl rfl)
theorem dX3_green_4 : decode cX3_green 4 = .ok (.iload_n 3, 1) := dk_29 (dk_at dksX3_green_0 4 rfl rfl)
theorem dX3_green_5 : decode cX3_green 5 = .ok (.aload_n 0, 1) := dk_42 (dk_at dksX3_green_0 5 rfl rfl)
theorem dX3_green_6 : decode cX3_green 6 = .ok (.getfield 15, 3) := dk_180 0 15 (dk_at dksX3_green_0 6 rfl rfl)
theorem dX3_green_9 : decode cX3_green 9 = .ok (.getfield 19, 3) := dk_180 0 19 (dk_at dksX3_green_0 9 rfl rfl)
theorem dX3_green_12 : decode cX3_green 12 = .ok (.invokevirtual 25, 3) := dk_182 0 25 (dk_at dksX3_green_0 12 rfl rfl)
theorem dX3_green_15 : decode cX3_green 15 = .ok (.if_icmp .ge 44, 3) := dk_162 0 44 (dk_at dksX3_green_0 15 rfl rfl)
theorem dX3_green_18 : decode cX3_green 18 = .ok (.iload_n 1, 1) := dk_27 (dk_at dksX3_green_0 18 rfl rfl)
theorem dX3_green_19 : decode cX3_green 19 = .ok (.iload_n 3, 1) := dk_29 (dk_at dksX3_green_0 19 rfl rfl)
theorem dX3_green_20 : decode cX3_green 20 = .ok (.invokestatic 68, 3) := dk_184 0 68 (dk_at dksX3_green_0 20 rfl rfl)
theorem dX3_green_23 : decode cX3_green 23 = .ok (.ifCond .eq 30, 3) := dk_153 0 30 (dk_at dksX3_green_1 0 rfl rfl)
theorem dX3_green_26 : decode cX3_green 26 = .ok (.aload_n 0, 1) := dk_42 (dk_at dksX3_green_1 3 rfl rfl)
theorem dX3_green_27 : decode cX3_green 27 = .ok (.getfield 15, 3) := dk_180 0 15 (dk_at dksX3_green_1 4 rfl rfl)
theorem dX3_green_30 : decode cX3_green 30 = .ok (.getfield 19, 3) := dk_180 0 19 (dk_at dksX3_green_1 7 rfl rfl)
theorem dX3_green_33 : decode cX3_green 33 = .ok (.iload_n 3, 1) := dk_29 (dk_at dksX3_green_1 10 rfl rfl)
theorem dX3_green_34 : decode cX3_green 34 = .ok (.invokevirtual 38, 3) := dk_182 0 38 (dk_at dksX3_green_1 11 rfl rfl)
theorem dX3_green_37 : decode cX3_green 37 = .ok (.checkcast 42, 3) := dk_192 0 42 (dk_at dksX3_green_1 14 rfl rfl)
theorem dX3_green_40 : decode cX3_green 40 = .ok (.getfield 103, 3) := dk_180 0 103 (dk_at dksX3_green_1 17 rfl rfl)
theorem dX3_green_43 : decode cX3_green 43 = .ok (.aload_n 0, 1) := dk_42 (dk_at dksX3_green_1 20 rfl rfl)
theorem dX3_green_44 : decode cX3_green 44 = .ok (.getfield 47, 3) := dk_180 0 47 (dk_at dksX3_green_1 21 rfl rfl)
theorem dX3_green_47 : decode cX3_green 47 = .ok (.if_icmp .le 6, 3) := dk_164 0 6 (dk_at dksX3_green_2 0 rfl rfl)
theorem dX3_green_50 : decode cX3_green 50 = .ok (.iinc 2 1, 3) := dk_132 2 1 (dk_at dksX3_green_2 3 rfl rfl)
theorem dX3_green_53 : decode cX3_green 53 = .ok (.iinc 3 1, 3) := dk_132 3 1 (dk_at dksX3_green_2 6 rfl rfl)
theorem dX3_green_56 : decode cX3_green 56 = .ok (.goto (-52), 3) := dk_167 255 204 (dk_at dksX3_green_2 9 rfl rfl)
theorem dX3_green_59 : decode cX3_green 59 = .ok (.iload_n 2, 1) := dk_28 (dk_at dksX3_green_2 12 rfl rfl)
theorem dX3_green_60 : decode cX3_green 60 = .ok (.ireturn, 1) := dk_172 (dk_at dksX3_green_2 13 rfl rfl)
abbrev cX3_worths : ByteArray := prog_5_method_9_code
def yX3_worths : MethodName := ⟨RX3, "worths", "(I)I"⟩
def dkwX3_worths_2 : List UInt8 := [132, 3, 1, 167, 255, 211, 28, 172]
abbrev dktX3_worths_2 : List UInt8 := dkwX3_worths_2 ++ []
def dkwX3_worths_1 : List UInt8 := [153, 0, 23, 28, 42, 180, 0, 15, 180, 0, 19, 29, 182, 0, 38, 192, 0, 42, 180, 0, 100, 96, 61]
abbrev dktX3_worths_1 : List UInt8 := dkwX3_worths_1 ++ dktX3_worths_2
def dkwX3_worths_0 : List UInt8 := [3, 61, 3, 62, 29, 42, 180, 0, 15, 180, 0, 19, 182, 0, 25, 162, 0, 37, 27, 29, 184, 0, 68]
abbrev dktX3_worths_0 : List UInt8 := dkwX3_worths_0 ++ dktX3_worths_1
theorem dksX3_worths_0 : cX3_worths.data.toList.drop 0 = dktX3_worths_0 := by decide +kernel
theorem dksX3_worths_1 : cX3_worths.data.toList.drop 23 = dktX3_worths_1 := dk_seg dksX3_worths_0 23 rfl rfl
theorem dksX3_worths_2 : cX3_worths.data.toList.drop 46 = dktX3_worths_2 := dk_seg dksX3_worths_1 23 rfl rfl
theorem dX3_worths_0 : decode cX3_worths 0 = .ok (.iconst 0, 1) := dk_3 (dk_at dksX3_worths_0 0 rfl rfl)
theorem dX3_worths_1 : decode cX3_worths 1 = .ok (.istore_n 2, 1) := dk_61 (dk_at dksX3_worths_0 1 rfl rfl)
theorem dX3_worths_2 : decode cX3_worths 2 = .ok (.iconst 0, 1) := dk_3 (dk_at dksX3_worths_0 2 rfl rfl)
theorem dX3_worths_3 : decode cX3_worths 3 = .ok (.istore_n 3, 1) := dk_62 (dk_at dksX3_worths_0 3 rfl rfl)
theorem dX3_worths_4 : decode cX3_worths 4 = .ok (.iload_n 3, 1) := dk_29 (dk_at dksX3_worths_0 4 rfl rfl)
theorem dX3_worths_5 : decode cX3_worths 5 = .ok (.aload_n 0, 1) := dk_42 (dk_at dksX3_worths_0 5 rfl rfl)
theorem dX3_worths_6 : decode cX3_worths 6 = .ok (.getfield 15, 3) := dk_180 0 15 (dk_at dksX3_worths_0 6 rfl rfl)
theorem dX3_worths_9 : decode cX3_worths 9 = .ok (.getfield 19, 3) := dk_180 0 19 (dk_at dksX3_worths_0 9 rfl rfl)
theorem dX3_worths_12 : decode cX3_worths 12 = .ok (.invokevirtual 25, 3) := dk_182 0 25 (dk_at dksX3_worths_0 12 rfl rfl)
theorem dX3_worths_15 : decode cX3_worths 15 = .ok (.if_icmp .ge 37, 3) := dk_162 0 37 (dk_at dksX3_worths_0 15 rfl rfl)
theorem dX3_worths_18 : decode cX3_worths 18 = .ok (.iload_n 1, 1) := dk_27 (dk_at dksX3_worths_0 18 rfl rfl)
theorem dX3_worths_19 : decode cX3_worths 19 = .ok (.iload_n 3, 1) := dk_29 (dk_at dksX3_worths_0 19 rfl rfl)
theorem dX3_worths_20 : decode cX3_worths 20 = .ok (.invokestatic 68, 3) := dk_184 0 68 (dk_at dksX3_worths_0 20 rfl rfl)
theorem dX3_worths_23 : decode cX3_worths 23 = .ok (.ifCond .eq 23, 3) := dk_153 0 23 (dk_at dksX3_worths_1 0 rfl rfl)
theorem dX3_worths_26 : decode cX3_worths 26 = .ok (.iload_n 2, 1) := dk_28 (dk_at dksX3_worths_1 3 rfl rfl)
theorem dX3_worths_27 : decode cX3_worths 27 = .ok (.aload_n 0, 1) := dk_42 (dk_at dksX3_worths_1 4 rfl rfl)
theorem dX3_worths_28 : decode cX3_worths 28 = .ok (.getfield 15, 3) := dk_180 0 15 (dk_at dksX3_worths_1 5 rfl rfl)
theorem dX3_worths_31 : decode cX3_worths 31 = .ok (.getfield 19, 3) := dk_180 0 19 (dk_at dksX3_worths_1 8 rfl rfl)
theorem dX3_worths_34 : decode cX3_worths 34 = .ok (.iload_n 3, 1) := dk_29 (dk_at dksX3_worths_1 11 rfl rfl)
theorem dX3_worths_35 : decode cX3_worths 35 = .ok (.invokevirtual 38, 3) := dk_182 0 38 (dk_at dksX3_worths_1 12 rfl rfl)
theorem dX3_worths_38 : decode cX3_worths 38 = .ok (.checkcast 42, 3) := dk_192 0 42 (dk_at dksX3_worths_1 15 rfl rfl)
theorem dX3_worths_41 : decode cX3_worths 41 = .ok (.getfield 100, 3) := dk_180 0 100 (dk_at dksX3_worths_1 18 rfl rfl)
theorem dX3_worths_44 : decode cX3_worths 44 = .ok (.iadd, 1) := dk_96 (dk_at dksX3_worths_1 21 rfl rfl)
theorem dX3_worths_45 : decode cX3_worths 45 = .ok (.istore_n 2, 1) := dk_61 (dk_at dksX3_worths_1 22 rfl rfl)
theorem dX3_worths_46 : decode cX3_worths 46 = .ok (.iinc 3 1, 3) := dk_132 3 1 (dk_at dksX3_worths_2 0 rfl rfl)
theorem dX3_worths_49 : decode cX3_worths 49 = .ok (.goto (-45), 3) := dk_167 255 211 (dk_at dksX3_worths_2 3 rfl rfl)
theorem dX3_worths_52 : decode cX3_worths 52 = .ok (.iload_n 2, 1) := dk_28 (dk_at dksX3_worths_2 6 rfl rfl)
theorem dX3_worths_53 : decode cX3_worths 53 = .ok (.ireturn, 1) := dk_172 (dk_at dksX3_worths_2 7 rfl rfl)
theorem q126 : (Jvm.Cond.initialized "NameOrchard$Boughs") ∈ lw_all := lw_g (lw_at lw_m1 3 rfl) rfl
theorem q269 : (Jvm.Cond.instantiable "NameOrchard$Boughs" (7 : Nat)) ∈ lw_all := lw_g (lw_at lw_m1 146 rfl) rfl
theorem q271 : (Jvm.Cond.instanceMethod ({ cls := "NameOrchard$Boughs", name := "<init>", desc := "()V" } : Jvm.MethodName)) ∈ lw_all := lw_g (lw_at lw_m1 148 rfl) rfl
theorem q272 : (Jvm.Cond.code ({ cls := "NameOrchard$Boughs", name := "<init>", desc := "()V" } : Jvm.MethodName) prog_5_method_1_code (1 : Nat) (Option.none : Option Jvm.ClassFile.FieldType)) ∈ lw_all := lw_g (lw_at lw_m1 149 rfl) rfl
theorem q273 : (Jvm.Cond.methodLink "NameOrchard$Boughs" (3 : Nat) ({ cls := "java/lang/Object", name := "<init>", desc := "()V" } : Jvm.MethodName)) ∈ lw_all := lw_g (lw_at lw_m1 150 rfl) rfl
theorem q275 : (Jvm.Cond.fieldLink "NameOrchard$Boughs" (15 : Nat) "NameOrchard$Boughs" "orchard" "LNameOrchard$Orchard;") ∈ lw_all := lw_g (lw_at lw_m1 152 rfl) rfl
theorem q277 : (Jvm.Cond.fieldLink "NameOrchard$Boughs" (31 : Nat) "NameOrchard$Boughs" "hang" "I") ∈ lw_all := lw_g (lw_at lw_m1 154 rfl) rfl
theorem q280 : (Jvm.Cond.fieldLink "NameOrchard$Boughs" (35 : Nat) "NameOrchard$Boughs" "loose" "I") ∈ lw_all := lw_g (lw_at lw_m1 157 rfl) rfl
theorem q283 : (Jvm.Cond.fieldLink "NameOrchard$Boughs" (9 : Nat) "NameOrchard$Boughs" "sounds" "[I") ∈ lw_all := lw_g (lw_at lw_m1 160 rfl) rfl
theorem q285 : (Jvm.Cond.fieldLink "NameOrchard$Boughs" (47 : Nat) "NameOrchard$Boughs" "day" "I") ∈ lw_all := lw_g (lw_at lw_m1 162 rfl) rfl
theorem q288 : (Jvm.Cond.fieldLink "NameOrchard$Boughs" (50 : Nat) "NameOrchard$Boughs" "had" "I") ∈ lw_all := lw_g (lw_at lw_m1 165 rfl) rfl
theorem q291 : (Jvm.Cond.fieldLink "NameOrchard$Boughs" (53 : Nat) "NameOrchard$Boughs" "isPicked" "Z") ∈ lw_all := lw_g (lw_at lw_m1 168 rfl) rfl
theorem q293 : (Jvm.Cond.lays "NameOrchard$Boughs" "NameOrchard$Boughs" "orchard" "LNameOrchard$Orchard;") ∈ lw_all := lw_g (lw_at lw_m1 170 rfl) rfl
theorem q294 : (Jvm.Cond.soleField "NameOrchard$Boughs" "orchard") ∈ lw_all := lw_g (lw_at lw_m1 171 rfl) rfl
theorem q295 : (Jvm.Cond.lays "NameOrchard$Boughs" "NameOrchard$Boughs" "hang" "I") ∈ lw_all := lw_g (lw_at lw_m1 172 rfl) rfl
theorem q296 : (Jvm.Cond.soleField "NameOrchard$Boughs" "hang") ∈ lw_all := lw_g (lw_at lw_m1 173 rfl) rfl
theorem q297 : (Jvm.Cond.lays "NameOrchard$Boughs" "NameOrchard$Boughs" "loose" "I") ∈ lw_all := lw_g (lw_at lw_m1 174 rfl) rfl
theorem q298 : (Jvm.Cond.soleField "NameOrchard$Boughs" "loose") ∈ lw_all := lw_g (lw_at lw_m1 175 rfl) rfl
theorem q299 : (Jvm.Cond.laysFinal "NameOrchard$Boughs" "NameOrchard$Boughs" "sounds" "[I") ∈ lw_all := lw_g (lw_at lw_m1 176 rfl) rfl
theorem q300 : (Jvm.Cond.soleField "NameOrchard$Boughs" "sounds") ∈ lw_all := lw_g (lw_at lw_m1 177 rfl) rfl
theorem q301 : (Jvm.Cond.lays "NameOrchard$Boughs" "NameOrchard$Boughs" "day" "I") ∈ lw_all := lw_g (lw_at lw_m1 178 rfl) rfl
theorem q302 : (Jvm.Cond.soleField "NameOrchard$Boughs" "day") ∈ lw_all := lw_g (lw_at lw_m1 179 rfl) rfl
theorem q303 : (Jvm.Cond.lays "NameOrchard$Boughs" "NameOrchard$Boughs" "had" "I") ∈ lw_all := lw_g (lw_at lw_m1 180 rfl) rfl
theorem q304 : (Jvm.Cond.soleField "NameOrchard$Boughs" "had") ∈ lw_all := lw_g (lw_at lw_m1 181 rfl) rfl
theorem q305 : (Jvm.Cond.lays "NameOrchard$Boughs" "NameOrchard$Boughs" "isPicked" "Z") ∈ lw_all := lw_g (lw_at lw_m1 182 rfl) rfl
theorem q306 : (Jvm.Cond.soleField "NameOrchard$Boughs" "isPicked") ∈ lw_all := lw_g (lw_at lw_m1 183 rfl) rfl
theorem q307 : (Jvm.Cond.superclass "NameOrchard$Boughs" "java/lang/Object") ∈ lw_all := lw_g (lw_at lw_m1 184 rfl) rfl
theorem q355 : (Jvm.Cond.fieldLink "NameOrchard$Boughs" (19 : Nat) "NameOrchard$Orchard" "apples" "Ljava/util/ArrayList;") ∈ lw_all := lw_g (lw_at lw_m1 232 rfl) rfl
theorem q366 : (Jvm.Cond.fieldLink "NameOrchard$Boughs" (115 : Nat) "NameOrchard$Orchard" "people" "Ljava/util/ArrayList;") ∈ lw_all := lw_g (lw_at lw_m2 3 rfl) rfl
theorem q412 : (Jvm.Cond.instanceMethod ({ cls := "NameOrchard$Boughs", name := "begins", desc := "(LNameOrchard$Orchard;)LNameOrchard$Boughs;" } : Jvm.MethodName)) ∈ lw_all := lw_g (lw_at lw_m2 49 rfl) rfl
theorem q413 : (Jvm.Cond.selects "NameOrchard$Boughs" ({ cls := "NameOrchard$Boughs", name := "begins", desc := "(LNameOrchard$Orchard;)LNameOrchard$Boughs;" } : Jvm.MethodName) ({ cls := "NameOrchard$Boughs", name := "begins", desc := "(LNameOrchard$Orchard;)LNameOrchard$Boughs;" } : Jvm.MethodName)) ∈ lw_all := lw_g (lw_at lw_m2 50 rfl) rfl
theorem q414 : (Jvm.Cond.code ({ cls := "NameOrchard$Boughs", name := "begins", desc := "(LNameOrchard$Orchard;)LNameOrchard$Boughs;" } : Jvm.MethodName) prog_5_method_2_code (3 : Nat) (Option.some (Jvm.ClassFile.FieldType.object "NameOrchard$Boughs"))) ∈ lw_all := lw_g (lw_at lw_m2 51 rfl) rfl
theorem q415 : (Jvm.Cond.methodLink "NameOrchard$Boughs" (25 : Nat) ({ cls := "java/util/ArrayList", name := "size", desc := "()I" } : Jvm.MethodName)) ∈ lw_all := lw_g (lw_at lw_m2 52 rfl) rfl
theorem q419 : (Jvm.Cond.methodLink "NameOrchard$Boughs" (38 : Nat) ({ cls := "java/util/ArrayList", name := "get", desc := "(I)Ljava/lang/Object;" } : Jvm.MethodName)) ∈ lw_all := lw_g (lw_at lw_m2 56 rfl) rfl
theorem q433 : (Jvm.Cond.classLink "NameOrchard$Boughs" (42 : Nat) "NameOrchard$Apple") ∈ lw_all := lw_g (lw_at lw_m2 70 rfl) rfl
theorem q835 : (Jvm.Cond.fieldLink "NameOrchard$Boughs" (44 : Nat) "NameOrchard$Apple" "sound" "I") ∈ lw_all := lw_g (lw_at lw_m3 232 rfl) rfl
theorem q841 : (Jvm.Cond.fieldLink "NameOrchard$Boughs" (72 : Nat) "NameOrchard$Apple" "row" "I") ∈ lw_all := lw_g (lw_at lw_m3 238 rfl) rfl
theorem q845 : (Jvm.Cond.fieldLink "NameOrchard$Boughs" (103 : Nat) "NameOrchard$Apple" "ripe" "I") ∈ lw_all := lw_g (lw_at lw_m4 2 rfl) rfl
theorem q849 : (Jvm.Cond.fieldLink "NameOrchard$Boughs" (100 : Nat) "NameOrchard$Apple" "worth" "I") ∈ lw_all := lw_g (lw_at lw_m4 6 rfl) rfl
theorem q852 : (Jvm.Cond.fieldLink "NameOrchard$Boughs" (93 : Nat) "NameOrchard$Apple" "twin" "I") ∈ lw_all := lw_g (lw_at lw_m4 9 rfl) rfl
theorem q938 : (Jvm.Cond.selects "NameOrchard$Boughs" ({ cls := "java/lang/Object", name := "getClass", desc := "()Ljava/lang/Class;" } : Jvm.MethodName) ({ cls := "java/lang/Object", name := "getClass", desc := "()Ljava/lang/Class;" } : Jvm.MethodName)) ∈ lw_all := lw_g (lw_at lw_m4 95 rfl) rfl
theorem q1044 : (Jvm.Cond.fieldLink "NameOrchard$Boughs" (120 : Nat) "NameOrchard$Person" "lane" "I") ∈ lw_all := lw_g (lw_at lw_m4 201 rfl) rfl
theorem q1047 : (Jvm.Cond.fieldLink "NameOrchard$Boughs" (123 : Nat) "NameOrchard$Person" "loud" "I") ∈ lw_all := lw_g (lw_at lw_m4 204 rfl) rfl
theorem q1336 : (Jvm.Cond.instanceMethod ({ cls := "NameOrchard$Boughs", name := "hangs", desc := "(I)Z" } : Jvm.MethodName)) ∈ lw_all := lw_g (lw_at lw_m6 13 rfl) rfl
theorem q1337 : (Jvm.Cond.selects "NameOrchard$Boughs" ({ cls := "NameOrchard$Boughs", name := "hangs", desc := "(I)Z" } : Jvm.MethodName) ({ cls := "NameOrchard$Boughs", name := "hangs", desc := "(I)Z" } : Jvm.MethodName)) ∈ lw_all := lw_g (lw_at lw_m6 14 rfl) rfl
theorem q1338 : (Jvm.Cond.code ({ cls := "NameOrchard$Boughs", name := "hangs", desc := "(I)Z" } : Jvm.MethodName) prog_5_method_5_code (2 : Nat) (Option.some Jvm.ClassFile.FieldType.boolean)) ∈ lw_all := lw_g (lw_at lw_m6 15 rfl) rfl
theorem q1339 : (Jvm.Cond.methodLinkNest "NameOrchard$Boughs" (68 : Nat) ({ cls := "NameOrchard", name := "has", desc := "(II)Z" } : Jvm.MethodName) "NameOrchard") ∈ lw_tbl := lw_at lw_m6 16 rfl
theorem q1474 : (Jvm.Cond.instanceMethod ({ cls := "NameOrchard$Boughs", name := "copies", desc := "(LNameOrchard$Boughs;)LNameOrchard$Boughs;" } : Jvm.MethodName)) ∈ lw_all := lw_g (lw_at lw_m6 151 rfl) rfl
theorem q1475 : (Jvm.Cond.selects "NameOrchard$Boughs" ({ cls := "NameOrchard$Boughs", name := "copies", desc := "(LNameOrchard$Boughs;)LNameOrchard$Boughs;" } : Jvm.MethodName) ({ cls := "NameOrchard$Boughs", name := "copies", desc := "(LNameOrchard$Boughs;)LNameOrchard$Boughs;" } : Jvm.MethodName)) ∈ lw_all := lw_g (lw_at lw_m6 152 rfl) rfl
theorem q1476 : (Jvm.Cond.code ({ cls := "NameOrchard$Boughs", name := "copies", desc := "(LNameOrchard$Boughs;)LNameOrchard$Boughs;" } : Jvm.MethodName) prog_5_method_4_code (2 : Nat) (Option.some (Jvm.ClassFile.FieldType.object "NameOrchard$Boughs"))) ∈ lw_all := lw_g (lw_at lw_m6 153 rfl) rfl
theorem q1477 : (Jvm.Cond.methodLink "NameOrchard$Boughs" (62 : Nat) ({ cls := "java/lang/System", name := "arraycopy", desc := "(Ljava/lang/Object;ILjava/lang/Object;II)V" } : Jvm.MethodName)) ∈ lw_all := lw_g (lw_at lw_m6 154 rfl) rfl
theorem q1479 : (Jvm.Cond.instanceMethod ({ cls := "NameOrchard$Boughs", name := "calledBy", desc := "(II)I" } : Jvm.MethodName)) ∈ lw_all := lw_g (lw_at lw_m6 156 rfl) rfl
theorem q1480 : (Jvm.Cond.selects "NameOrchard$Boughs" ({ cls := "NameOrchard$Boughs", name := "calledBy", desc := "(II)I" } : Jvm.MethodName) ({ cls := "NameOrchard$Boughs", name := "calledBy", desc := "(II)I" } : Jvm.MethodName)) ∈ lw_all := lw_g (lw_at lw_m6 157 rfl) rfl
theorem q1481 : (Jvm.Cond.code ({ cls := "NameOrchard$Boughs", name := "calledBy", desc := "(II)I" } : Jvm.MethodName) prog_5_method_12_code (3 : Nat) (Option.some Jvm.ClassFile.FieldType.int)) ∈ lw_all := lw_g (lw_at lw_m6 158 rfl) rfl
theorem q1482 : (Jvm.Cond.classLink "NameOrchard$Boughs" (118 : Nat) "NameOrchard$Person") ∈ lw_all := lw_g (lw_at lw_m6 159 rfl) rfl
theorem q1483 : (Jvm.Cond.methodLink "NameOrchard$Boughs" (126 : Nat) ({ cls := "NameOrchard$Boughs", name := "calledBy", desc := "(III)I" } : Jvm.MethodName)) ∈ lw_all := lw_g (lw_at lw_m6 160 rfl) rfl
theorem q1484 : (Jvm.Cond.instanceMethod ({ cls := "NameOrchard$Boughs", name := "calledBy", desc := "(III)I" } : Jvm.MethodName)) ∈ lw_all := lw_g (lw_at lw_m6 161 rfl) rfl
theorem q1485 : (Jvm.Cond.selects "NameOrchard$Boughs" ({ cls := "NameOrchard$Boughs", name := "calledBy", desc := "(III)I" } : Jvm.MethodName) ({ cls := "NameOrchard$Boughs", name := "calledBy", desc := "(III)I" } : Jvm.MethodName)) ∈ lw_all := lw_g (lw_at lw_m6 162 rfl) rfl
theorem q1486 : (Jvm.Cond.code ({ cls := "NameOrchard$Boughs", name := "calledBy", desc := "(III)I" } : Jvm.MethodName) prog_5_method_11_code (5 : Nat) (Option.some Jvm.ClassFile.FieldType.int)) ∈ lw_all := lw_g (lw_at lw_m6 163 rfl) rfl
theorem q1487 : (Jvm.Cond.methodLink "NameOrchard$Boughs" (106 : Nat) ({ cls := "NameOrchard$Boughs", name := "heard", desc := "(IIIZ)I" } : Jvm.MethodName)) ∈ lw_all := lw_g (lw_at lw_m6 164 rfl) rfl
theorem q1488 : (Jvm.Cond.instanceMethod ({ cls := "NameOrchard$Boughs", name := "heard", desc := "(IIIZ)I" } : Jvm.MethodName)) ∈ lw_all := lw_g (lw_at lw_m6 165 rfl) rfl
theorem q1489 : (Jvm.Cond.selects "NameOrchard$Boughs" ({ cls := "NameOrchard$Boughs", name := "heard", desc := "(IIIZ)I" } : Jvm.MethodName) ({ cls := "NameOrchard$Boughs", name := "heard", desc := "(IIIZ)I" } : Jvm.MethodName)) ∈ lw_all := lw_g (lw_at lw_m6 166 rfl) rfl
theorem q1490 : (Jvm.Cond.code ({ cls := "NameOrchard$Boughs", name := "heard", desc := "(IIIZ)I" } : Jvm.MethodName) prog_5_method_6_code (9 : Nat) (Option.some Jvm.ClassFile.FieldType.int)) ∈ lw_all := lw_g (lw_at lw_m6 167 rfl) rfl
theorem q1491 : (Jvm.Cond.methodLink "NameOrchard$Boughs" (75 : Nat) ({ cls := "java/lang/Math", name := "abs", desc := "(I)I" } : Jvm.MethodName)) ∈ lw_all := lw_g (lw_at lw_m6 168 rfl) rfl
theorem q1494 : (Jvm.Cond.methodLink "NameOrchard$Boughs" (81 : Nat) ({ cls := "NameOrchard$Orchard", name := "hears", desc := "(III)Z" } : Jvm.MethodName)) ∈ lw_all := lw_g (lw_at lw_m6 171 rfl) rfl
theorem q1511 : (Jvm.Cond.methodLink "NameOrchard$Boughs" (110 : Nat) ({ cls := "NameOrchard$Boughs", name := "falls", desc := "(II)I" } : Jvm.MethodName)) ∈ lw_all := lw_g (lw_at lw_m6 188 rfl) rfl
theorem q1512 : (Jvm.Cond.instanceMethod ({ cls := "NameOrchard$Boughs", name := "falls", desc := "(II)I" } : Jvm.MethodName)) ∈ lw_all := lw_g (lw_at lw_m6 189 rfl) rfl
theorem q1513 : (Jvm.Cond.selects "NameOrchard$Boughs" ({ cls := "NameOrchard$Boughs", name := "falls", desc := "(II)I" } : Jvm.MethodName) ({ cls := "NameOrchard$Boughs", name := "falls", desc := "(II)I" } : Jvm.MethodName)) ∈ lw_all := lw_g (lw_at lw_m6 190 rfl) rfl
theorem q1514 : (Jvm.Cond.code ({ cls := "NameOrchard$Boughs", name := "falls", desc := "(II)I" } : Jvm.MethodName) prog_5_method_7_code (6 : Nat) (Option.some Jvm.ClassFile.FieldType.int)) ∈ lw_all := lw_g (lw_at lw_m6 191 rfl) rfl
theorem q1515 : (Jvm.Cond.methodLink "NameOrchard$Boughs" (85 : Nat) ({ cls := "NameOrchard$Boughs", name := "hangs", desc := "(I)Z" } : Jvm.MethodName)) ∈ lw_all := lw_g (lw_at lw_m6 192 rfl) rfl
theorem q1516 : (Jvm.Cond.methodLink "NameOrchard$Boughs" (89 : Nat) ({ cls := "NameOrchard$Apple", name := "falls", desc := "(Z)Z" } : Jvm.MethodName)) ∈ lw_all := lw_g (lw_at lw_m6 193 rfl) rfl
theorem q1526 : (Jvm.Cond.methodLink "NameOrchard$Boughs" (112 : Nat) ({ cls := "NameOrchard$Boughs", name := "values", desc := "(I)I" } : Jvm.MethodName)) ∈ lw_all := lw_g (lw_at lw_m6 203 rfl) rfl
theorem q1527 : (Jvm.Cond.instanceMethod ({ cls := "NameOrchard$Boughs", name := "values", desc := "(I)I" } : Jvm.MethodName)) ∈ lw_all := lw_g (lw_at lw_m6 204 rfl) rfl
theorem q1528 : (Jvm.Cond.selects "NameOrchard$Boughs" ({ cls := "NameOrchard$Boughs", name := "values", desc := "(I)I" } : Jvm.MethodName) ({ cls := "NameOrchard$Boughs", name := "values", desc := "(I)I" } : Jvm.MethodName)) ∈ lw_all := lw_g (lw_at lw_m6 205 rfl) rfl
theorem q1529 : (Jvm.Cond.code ({ cls := "NameOrchard$Boughs", name := "values", desc := "(I)I" } : Jvm.MethodName) prog_5_method_8_code (4 : Nat) (Option.some Jvm.ClassFile.FieldType.int)) ∈ lw_all := lw_g (lw_at lw_m6 206 rfl) rfl
theorem q1530 : (Jvm.Cond.methodLink "NameOrchard$Boughs" (96 : Nat) ({ cls := "NameOrchard$Orchard", name := "value", desc := "(II)I" } : Jvm.MethodName)) ∈ lw_all := lw_g (lw_at lw_m6 207 rfl) rfl
theorem q1549 : (Jvm.Cond.instanceMethod ({ cls := "NameOrchard$Boughs", name := "copied", desc := "()LNameOrchard$Boughs;" } : Jvm.MethodName)) ∈ lw_all := lw_g (lw_at lw_m6 226 rfl) rfl
theorem q1550 : (Jvm.Cond.selects "NameOrchard$Boughs" ({ cls := "NameOrchard$Boughs", name := "copied", desc := "()LNameOrchard$Boughs;" } : Jvm.MethodName) ({ cls := "NameOrchard$Boughs", name := "copied", desc := "()LNameOrchard$Boughs;" } : Jvm.MethodName)) ∈ lw_all := lw_g (lw_at lw_m6 227 rfl) rfl
theorem q1551 : (Jvm.Cond.code ({ cls := "NameOrchard$Boughs", name := "copied", desc := "()LNameOrchard$Boughs;" } : Jvm.MethodName) prog_5_method_3_code (1 : Nat) (Option.some (Jvm.ClassFile.FieldType.object "NameOrchard$Boughs"))) ∈ lw_all := lw_g (lw_at lw_m6 228 rfl) rfl
theorem q1552 : (Jvm.Cond.classLink "NameOrchard$Boughs" (10 : Nat) "NameOrchard$Boughs") ∈ lw_all := lw_g (lw_at lw_m6 229 rfl) rfl
theorem q1553 : (Jvm.Cond.methodLink "NameOrchard$Boughs" (57 : Nat) ({ cls := "NameOrchard$Boughs", name := "<init>", desc := "()V" } : Jvm.MethodName)) ∈ lw_all := lw_g (lw_at lw_m6 230 rfl) rfl
theorem q1554 : (Jvm.Cond.methodLink "NameOrchard$Boughs" (58 : Nat) ({ cls := "NameOrchard$Boughs", name := "copies", desc := "(LNameOrchard$Boughs;)LNameOrchard$Boughs;" } : Jvm.MethodName)) ∈ lw_all := lw_g (lw_at lw_m6 231 rfl) rfl
theorem q1561 : (Jvm.Cond.instanceMethod ({ cls := "NameOrchard$Boughs", name := "mayPick", desc := "(I)Z" } : Jvm.MethodName)) ∈ lw_all := lw_g (lw_at lw_m6 238 rfl) rfl
theorem q1562 : (Jvm.Cond.selects "NameOrchard$Boughs" ({ cls := "NameOrchard$Boughs", name := "mayPick", desc := "(I)Z" } : Jvm.MethodName) ({ cls := "NameOrchard$Boughs", name := "mayPick", desc := "(I)Z" } : Jvm.MethodName)) ∈ lw_all := lw_g (lw_at lw_m6 239 rfl) rfl
theorem q1563 : (Jvm.Cond.code ({ cls := "NameOrchard$Boughs", name := "mayPick", desc := "(I)Z" } : Jvm.MethodName) prog_5_method_13_code (2 : Nat) (Option.some Jvm.ClassFile.FieldType.boolean)) ∈ lw_all := lw_g (lw_at lw_m7 0 rfl) rfl
theorem q1565 : (Jvm.Cond.instanceMethod ({ cls := "NameOrchard$Boughs", name := "picks", desc := "(I)I" } : Jvm.MethodName)) ∈ lw_all := lw_g (lw_at lw_m7 2 rfl) rfl
theorem q1566 : (Jvm.Cond.selects "NameOrchard$Boughs" ({ cls := "NameOrchard$Boughs", name := "picks", desc := "(I)I" } : Jvm.MethodName) ({ cls := "NameOrchard$Boughs", name := "picks", desc := "(I)I" } : Jvm.MethodName)) ∈ lw_all := lw_g (lw_at lw_m7 3 rfl) rfl
theorem q1567 : (Jvm.Cond.code ({ cls := "NameOrchard$Boughs", name := "picks", desc := "(I)I" } : Jvm.MethodName) prog_5_method_14_code (3 : Nat) (Option.some Jvm.ClassFile.FieldType.int)) ∈ lw_all := lw_g (lw_at lw_m7 4 rfl) rfl
theorem q1573 : (Jvm.Cond.instanceMethod ({ cls := "NameOrchard$Boughs", name := "mayChristen", desc := "(II)Z" } : Jvm.MethodName)) ∈ lw_all := lw_g (lw_at lw_m7 10 rfl) rfl
theorem q1574 : (Jvm.Cond.selects "NameOrchard$Boughs" ({ cls := "NameOrchard$Boughs", name := "mayChristen", desc := "(II)Z" } : Jvm.MethodName) ({ cls := "NameOrchard$Boughs", name := "mayChristen", desc := "(II)Z" } : Jvm.MethodName)) ∈ lw_all := lw_g (lw_at lw_m7 11 rfl) rfl
theorem q1575 : (Jvm.Cond.code ({ cls := "NameOrchard$Boughs", name := "mayChristen", desc := "(II)Z" } : Jvm.MethodName) prog_5_method_16_code (3 : Nat) (Option.some Jvm.ClassFile.FieldType.boolean)) ∈ lw_all := lw_g (lw_at lw_m7 12 rfl) rfl
theorem q1576 : (Jvm.Cond.methodLink "NameOrchard$Boughs" (130 : Nat) ({ cls := "NameOrchard$Boughs", name := "isFree", desc := "(II)Z" } : Jvm.MethodName)) ∈ lw_all := lw_g (lw_at lw_m7 13 rfl) rfl
theorem q1577 : (Jvm.Cond.instanceMethod ({ cls := "NameOrchard$Boughs", name := "isFree", desc := "(II)Z" } : Jvm.MethodName)) ∈ lw_all := lw_g (lw_at lw_m7 14 rfl) rfl
theorem q1578 : (Jvm.Cond.selects "NameOrchard$Boughs" ({ cls := "NameOrchard$Boughs", name := "isFree", desc := "(II)Z" } : Jvm.MethodName) ({ cls := "NameOrchard$Boughs", name := "isFree", desc := "(II)Z" } : Jvm.MethodName)) ∈ lw_all := lw_g (lw_at lw_m7 15 rfl) rfl
theorem q1579 : (Jvm.Cond.code ({ cls := "NameOrchard$Boughs", name := "isFree", desc := "(II)Z" } : Jvm.MethodName) prog_5_method_15_code (4 : Nat) (Option.some Jvm.ClassFile.FieldType.boolean)) ∈ lw_all := lw_g (lw_at lw_m7 16 rfl) rfl
theorem q1585 : (Jvm.Cond.instanceMethod ({ cls := "NameOrchard$Boughs", name := "passes", desc := "()V" } : Jvm.MethodName)) ∈ lw_all := lw_g (lw_at lw_m7 22 rfl) rfl
theorem q1586 : (Jvm.Cond.selects "NameOrchard$Boughs" ({ cls := "NameOrchard$Boughs", name := "passes", desc := "()V" } : Jvm.MethodName) ({ cls := "NameOrchard$Boughs", name := "passes", desc := "()V" } : Jvm.MethodName)) ∈ lw_all := lw_g (lw_at lw_m7 23 rfl) rfl
theorem q1587 : (Jvm.Cond.code ({ cls := "NameOrchard$Boughs", name := "passes", desc := "()V" } : Jvm.MethodName) prog_5_method_17_code (1 : Nat) (Option.none : Option Jvm.ClassFile.FieldType)) ∈ lw_all := lw_g (lw_at lw_m7 24 rfl) rfl
theorem q1620 : (Jvm.Cond.instanceMethod ({ cls := "NameOrchard$Boughs", name := "green", desc := "(I)I" } : Jvm.MethodName)) ∈ lw_all := lw_g (lw_at lw_m7 57 rfl) rfl
theorem q1621 : (Jvm.Cond.selects "NameOrchard$Boughs" ({ cls := "NameOrchard$Boughs", name := "green", desc := "(I)I" } : Jvm.MethodName) ({ cls := "NameOrchard$Boughs", name := "green", desc := "(I)I" } : Jvm.MethodName)) ∈ lw_all := lw_g (lw_at lw_m7 58 rfl) rfl
theorem q1622 : (Jvm.Cond.code ({ cls := "NameOrchard$Boughs", name := "green", desc := "(I)I" } : Jvm.MethodName) prog_5_method_10_code (4 : Nat) (Option.some Jvm.ClassFile.FieldType.int)) ∈ lw_all := lw_g (lw_at lw_m7 59 rfl) rfl
theorem q1744 : (Jvm.Cond.instanceMethod ({ cls := "NameOrchard$Boughs", name := "worths", desc := "(I)I" } : Jvm.MethodName)) ∈ lw_all := lw_g (lw_at lw_m7 181 rfl) rfl
theorem q1745 : (Jvm.Cond.selects "NameOrchard$Boughs" ({ cls := "NameOrchard$Boughs", name := "worths", desc := "(I)I" } : Jvm.MethodName) ({ cls := "NameOrchard$Boughs", name := "worths", desc := "(I)I" } : Jvm.MethodName)) ∈ lw_all := lw_g (lw_at lw_m7 182 rfl) rfl
theorem q1746 : (Jvm.Cond.code ({ cls := "NameOrchard$Boughs", name := "worths", desc := "(I)I" } : Jvm.MethodName) prog_5_method_9_code (4 : Nat) (Option.some Jvm.ClassFile.FieldType.int)) ∈ lw_all := lw_g (lw_at lw_m7 183 rfl) rfl
theorem q2602 : (Jvm.Cond.castable "NameOrchard$Boughs" "java/lang/Object") ∈ lw_tbl := lw_at lw_m11 79 rfl
theorem in_X3 : ∀ w ∈ wsX30, w ∈ lw_all := lw_in wsX30 [293, 295, 297, 299, 301, 303, 305] (by decide +kernel) (by decide +kernel)
/-! NameOrchard$Orchard -/
set_option maxRecDepth 100000
def RX4 : String := "NameOrchard$Orchard"
def TX4 : u_T := fun k => match k with
  | 0 => ("NameOrchard$Orchard", "apples", "Ljava/util/ArrayList;", true)
  | 1 => ("NameOrchard$Orchard", "sounds", "Ljava/util/ArrayList;", true)
  | 2 => ("NameOrchard$Orchard", "peopleNames", "Ljava/util/ArrayList;", true)
  | 3 => ("NameOrchard$Orchard", "people", "Ljava/util/ArrayList;", true)
  | 4 => ("NameOrchard$Orchard", "strangers", "Ljava/util/ArrayList;", true)
  | 5 => ("NameOrchard$Orchard", "pages", "Ljava/util/ArrayList;", true)
  | 6 => ("NameOrchard$Orchard", "banns", "Ljava/util/ArrayList;", true)
  | 7 => ("NameOrchard$Orchard", "near", "LNameOrchard$Expression;", false)
  | 8 => ("NameOrchard$Orchard", "value", "LNameOrchard$Expression;", false)
  | 9 => ("NameOrchard$Orchard", "others", "I", false)
  | 10 => ("NameOrchard$Orchard", "facts", "LNameOrchard$Facts;", true)
  | _ => ("NameOrchard$Orchard", "row", "[I", true)
def tyX4 : Nat → FieldType := fun k => match k with
  | 0 => .object "java/util/ArrayList"
  | 1 => .object "java/util/ArrayList"
  | 2 => .object "java/util/ArrayList"
  | 3 => .object "java/util/ArrayList"
  | 4 => .object "java/util/ArrayList"
  | 5 => .object "java/util/ArrayList"
  | 6 => .object "java/util/ArrayList"
  | 7 => .object "NameOrchard$Expression"
  | 8 => .object "NameOrchard$Expression"
  | 9 => .int
  | 10 => .object "NameOrchard$Facts"
  | _ => .array .int
abbrev wsX40 : List Cond := u_ws RX4 TX4 12
theorem nmX4 : ∀ a, a < 12 → ∀ b, b < 12 → a ≠ b → (TX4 a).2.1 ≠ (TX4 b).2.1 := by decide +kernel
theorem tyX4_ok : ∀ k, k < 12 → parseFieldDescriptor (TX4 k).2.2.1 = some (tyX4 k) := by decide +kernel
abbrev cX4_init : ByteArray := prog_20_method_1_code
def yX4_init : MethodName := ⟨RX4, "<init>", "()V"⟩
def dkwX4_init_4 : List UInt8 := [183, 0, 40, 181, 0, 41, 42, 16, 9, 188, 10, 181, 0, 45, 177]
abbrev dktX4_init_4 : List UInt8 := dkwX4_init_4 ++ []
def dkwX4_init_3 : List UInt8 := [183, 0, 11, 181, 0, 32, 42, 187, 0, 9, 89, 5, 183, 0, 11, 181, 0, 35, 42, 187, 0, 38, 89]
abbrev dktX4_init_3 : List UInt8 := dkwX4_init_3 ++ dktX4_init_4
def dkwX4_init_2 : List UInt8 := [183, 0, 11, 181, 0, 26, 42, 187, 0, 9, 89, 5, 183, 0, 11, 181, 0, 29, 42, 187, 0, 9, 89, 5]
abbrev dktX4_init_2 : List UInt8 := dkwX4_init_2 ++ dktX4_init_3
def dkwX4_init_1 : List UInt8 := [183, 0, 11, 181, 0, 20, 42, 187, 0, 9, 89, 5, 183, 0, 11, 181, 0, 23, 42, 187, 0, 9, 89, 5]
abbrev dktX4_init_1 : List UInt8 := dkwX4_init_1 ++ dktX4_init_2
def dkwX4_init_0 : List UInt8 := [42, 183, 0, 3, 42, 187, 0, 9, 89, 5, 183, 0, 11, 181, 0, 14, 42, 187, 0, 9, 89, 5]
abbrev dktX4_init_0 : List UInt8 := dkwX4_init_0 ++ dktX4_init_1
theorem dksX4_init_0 : cX4_init.data.toList.drop 0 = dktX4_init_0 := by decide +kernel
theorem dksX4_init_1 : cX4_init.data.toList.drop 22 = dktX4_init_1 := dk_seg dksX4_init_0 22 rfl rfl
theorem dksX4_init_2 : cX4_init.data.toList.drop 46 = dktX4_init_2 := dk_seg dksX4_init_1 24 rfl rfl
theorem dksX4_init_3 : cX4_init.data.toList.drop 70 = dktX4_init_3 := dk_seg dksX4_init_2 24 rfl rfl
theorem dksX4_init_4 : cX4_init.data.toList.drop 93 = dktX4_init_4 := dk_seg dksX4_init_3 23 rfl rfl
theorem dX4_init_0 : decode cX4_init 0 = .ok (.aload_n 0, 1) := dk_42 (dk_at dksX4_init_0 0 rfl rfl)
theorem dX4_init_1 : decode cX4_init 1 = .ok (.invokespecial 3, 3) := dk_183 0 3 (dk_at dksX4_init_0 1 rfl rfl)
theorem dX4_init_4 : decode cX4_init 4 = .ok (.aload_n 0, 1) := dk_42 (dk_at dksX4_init_0 4 rfl rfl)
theorem dX4_init_5 : decode cX4_init 5 = .ok (.new 9, 3) := dk_187 0 9 (dk_at dksX4_init_0 5 rfl rfl)
theorem dX4_init_8 : decode cX4_init 8 = .ok (.dup, 1) := dk_89 (dk_at dksX4_init_0 8 rfl rfl)
theorem dX4_init_9 : decode cX4_init 9 = .ok (.iconst 2, 1) := dk_5 (dk_at dksX4_init_0 9 rfl rfl)
theorem dX4_init_10 : decode cX4_init 10 = .ok (.invokespecial 11, 3) := dk_183 0 11 (dk_at dksX4_init_0 10 rfl rfl)
theorem dX4_init_13 : decode cX4_init 13 = .ok (.putfield 14, 3) := dk_181 0 14 (dk_at dksX4_init_0 13 rfl rfl)
theorem dX4_init_16 : decode cX4_init 16 = .ok (.aload_n 0, 1) := dk_42 (dk_at dksX4_init_0 16 rfl rfl)
theorem dX4_init_17 : decode cX4_init 17 = .ok (.new 9, 3) := dk_187 0 9 (dk_at dksX4_init_0 17 rfl rfl)
theorem dX4_init_20 : decode cX4_init 20 = .ok (.dup, 1) := dk_89 (dk_at dksX4_init_0 20 rfl rfl)
theorem dX4_init_21 : decode cX4_init 21 = .ok (.iconst 2, 1) := dk_5 (dk_at dksX4_init_0 21 rfl rfl)
theorem dX4_init_22 : decode cX4_init 22 = .ok (.invokespecial 11, 3) := dk_183 0 11 (dk_at dksX4_init_1 0 rfl rfl)
theorem dX4_init_25 : decode cX4_init 25 = .ok (.putfield 20, 3) := dk_181 0 20 (dk_at dksX4_init_1 3 rfl rfl)
theorem dX4_init_28 : decode cX4_init 28 = .ok (.aload_n 0, 1) := dk_42 (dk_at dksX4_init_1 6 rfl rfl)
theorem dX4_init_29 : decode cX4_init 29 = .ok (.new 9, 3) := dk_187 0 9 (dk_at dksX4_init_1 7 rfl rfl)
theorem dX4_init_32 : decode cX4_init 32 = .ok (.dup, 1) := dk_89 (dk_at dksX4_init_1 10 rfl rfl)
theorem dX4_init_33 : decode cX4_init 33 = .ok (.iconst 2, 1) := dk_5 (dk_at dksX4_init_1 11 rfl rfl)
theorem dX4_init_34 : decode cX4_init 34 = .ok (.invokespecial 11, 3) := dk_183 0 11 (dk_at dksX4_init_1 12 rfl rfl)
theorem dX4_init_37 : decode cX4_init 37 = .ok (.putfield 23, 3) := dk_181 0 23 (dk_at dksX4_init_1 15 rfl rfl)
theorem dX4_init_40 : decode cX4_init 40 = .ok (.aload_n 0, 1) := dk_42 (dk_at dksX4_init_1 18 rfl rfl)
theorem dX4_init_41 : decode cX4_init 41 = .ok (.new 9, 3) := dk_187 0 9 (dk_at dksX4_init_1 19 rfl rfl)
theorem dX4_init_44 : decode cX4_init 44 = .ok (.dup, 1) := dk_89 (dk_at dksX4_init_1 22 rfl rfl)
theorem dX4_init_45 : decode cX4_init 45 = .ok (.iconst 2, 1) := dk_5 (dk_at dksX4_init_1 23 rfl rfl)
theorem dX4_init_46 : decode cX4_init 46 = .ok (.invokespecial 11, 3) := dk_183 0 11 (dk_at dksX4_init_2 0 rfl rfl)
theorem dX4_init_49 : decode cX4_init 49 = .ok (.putfield 26, 3) := dk_181 0 26 (dk_at dksX4_init_2 3 rfl rfl)
theorem dX4_init_52 : decode cX4_init 52 = .ok (.aload_n 0, 1) := dk_42 (dk_at dksX4_init_2 6 rfl rfl)
theorem dX4_init_53 : decode cX4_init 53 = .ok (.new 9, 3) := dk_187 0 9 (dk_at dksX4_init_2 7 rfl rfl)
theorem dX4_init_56 : decode cX4_init 56 = .ok (.dup, 1) := dk_89 (dk_at dksX4_init_2 10 rfl rfl)
theorem dX4_init_57 : decode cX4_init 57 = .ok (.iconst 2, 1) := dk_5 (dk_at dksX4_init_2 11 rfl rfl)
theorem dX4_init_58 : decode cX4_init 58 = .ok (.invokespecial 11, 3) := dk_183 0 11 (dk_at dksX4_init_2 12 rfl rfl)
theorem dX4_init_61 : decode cX4_init 61 = .ok (.putfield 29, 3) := dk_181 0 29 (dk_at dksX4_init_2 15 rfl rfl)
theorem dX4_init_64 : decode cX4_init 64 = .ok (.aload_n 0, 1) := dk_42 (dk_at dksX4_init_2 18 rfl rfl)
theorem dX4_init_65 : decode cX4_init 65 = .ok (.new 9, 3) := dk_187 0 9 (dk_at dksX4_init_2 19 rfl rfl)
theorem dX4_init_68 : decode cX4_init 68 = .ok (.dup, 1) := dk_89 (dk_at dksX4_init_2 22 rfl rfl)
theorem dX4_init_69 : decode cX4_init 69 = .ok (.iconst 2, 1) := dk_5 (dk_at dksX4_init_2 23 rfl rfl)
theorem dX4_init_70 : decode cX4_init 70 = .ok (.invokespecial 11, 3) := dk_183 0 11 (dk_at dksX4_init_3 0 rfl rfl)
theorem dX4_init_73 : decode cX4_init 73 = .ok (.putfield 32, 3) := dk_181 0 32 (dk_at dksX4_init_3 3 rfl rfl)
theorem dX4_init_76 : decode cX4_init 76 = .ok (.aload_n 0, 1) := dk_42 (dk_at dksX4_init_3 6 rfl rfl)
theorem dX4_init_77 : decode cX4_init 77 = .ok (.new 9, 3) := dk_187 0 9 (dk_at dksX4_init_3 7 rfl rfl)
theorem dX4_init_80 : decode cX4_init 80 = .ok (.dup, 1) := dk_89 (dk_at dksX4_init_3 10 rfl rfl)
theorem dX4_init_81 : decode cX4_init 81 = .ok (.iconst 2, 1) := dk_5 (dk_at dksX4_init_3 11 rfl rfl)
theorem dX4_init_82 : decode cX4_init 82 = .ok (.invokespecial 11, 3) := dk_183 0 11 (dk_at dksX4_init_3 12 rfl rfl)
theorem dX4_init_85 : decode cX4_init 85 = .ok (.putfield 35, 3) := dk_181 0 35 (dk_at dksX4_init_3 15 rfl rfl)
theorem dX4_init_88 : decode cX4_init 88 = .ok (.aload_n 0, 1) := dk_42 (dk_at dksX4_init_3 18 rfl rfl)
theorem dX4_init_89 : decode cX4_init 89 = .ok (.new 38, 3) := dk_187 0 38 (dk_at dksX4_init_3 19 rfl rfl)
theorem dX4_init_92 : decode cX4_init 92 = .ok (.dup, 1) := dk_89 (dk_at dksX4_init_3 22 rfl rfl)
theorem dX4_init_93 : decode cX4_init 93 = .ok (.invokespecial 40, 3) := dk_183 0 40 (dk_at dksX4_init_4 0 rfl rfl)
theorem dX4_init_96 : decode cX4_init 96 = .ok (.putfield 41, 3) := dk_181 0 41 (dk_at dksX4_init_4 3 rfl rfl)
theorem dX4_init_99 : decode cX4_init 99 = .ok (.aload_n 0, 1) := dk_42 (dk_at dksX4_init_4 6 rfl rfl)
theorem dX4_init_100 : decode cX4_init 100 = .ok (.bipush 9, 2) := dk_16 9 (dk_at dksX4_init_4 7 rfl rfl)
theorem dX4_init_102 : decode cX4_init 102 = .ok (.newarray .int, 2) := dk_188_10 (dk_at dksX4_init_4 9 rfl rfl)
theorem dX4_init_104 : decode cX4_init 104 = .ok (.putfield 45, 3) := dk_181 0 45 (dk_at dksX4_init_4 11 rfl rfl)
theorem dX4_init_107 : decode cX4_init 107 = .ok (.return_, 1) := dk_177 (dk_at dksX4_init_4 14 rfl rfl)
abbrev cX4_sound : ByteArray := prog_20_method_2_code
def yX4_sound : MethodName := ⟨RX4, "sound", "(J)I"⟩
def dkwX4_sound_1 : List UInt8 := [180, 0, 59, 31, 148, 154, 0, 5, 29, 172, 132, 3, 1, 167, 255, 221, 2, 172]
abbrev dktX4_sound_1 : List UInt8 := dkwX4_sound_1 ++ []
def dkwX4_sound_0 : List UInt8 := [3, 62, 29, 42, 180, 0, 20, 182, 0, 49, 162, 0, 30, 42, 180, 0, 20, 29, 182, 0, 53, 192, 0, 57]
abbrev dktX4_sound_0 : List UInt8 := dkwX4_sound_0 ++ dktX4_sound_1
theorem dksX4_sound_0 : cX4_sound.data.toList.drop 0 = dktX4_sound_0 := by decide +kernel
theorem dksX4_sound_1 : cX4_sound.data.toList.drop 24 = dktX4_sound_1 := dk_seg dksX4_sound_0 24 rfl rfl
theorem dX4_sound_0 : decode cX4_sound 0 = .ok (.iconst 0, 1) := dk_3 (dk_at dksX4_sound_0 0 rfl rfl)
theorem dX4_sound_1 : decode cX4_sound 1 = .ok (.istore_n 3, 1) := dk_62 (dk_at dksX4_sound_0 1 rfl rfl)
theorem dX4_sound_2 : decode cX4_sound 2 = .ok (.iload_n 3, 1) := dk_29 (dk_at dksX4_sound_0 2 rfl rfl)
theorem dX4_sound_3 : decode cX4_sound 3 = .ok (.aload_n 0, 1) := dk_42 (dk_at dksX4_sound_0 3 rfl rfl)
theorem dX4_sound_4 : decode cX4_sound 4 = .ok (.getfield 20, 3) := dk_180 0 20 (dk_at dksX4_sound_0 4 rfl rfl)
theorem dX4_sound_7 : decode cX4_sound 7 = .ok (.invokevirtual 49, 3) := dk_182 0 49 (dk_at dksX4_sound_0 7 rfl rfl)
theorem dX4_sound_10 : decode cX4_sound 10 = .ok (.if_icmp .ge 30, 3) := dk_162 0 30 (dk_at dksX4_sound_0 10 rfl rfl)
theorem dX4_sound_13 : decode cX4_sound 13 = .ok (.aload_n 0, 1) := dk_42 (dk_at dksX4_sound_0 13 rfl rfl)
theorem dX4_sound_14 : decode cX4_sound 14 = .ok (.getfield 20, 3) := dk_180 0 20 (dk_at dksX4_sound_0 14 rfl rfl)
theorem dX4_sound_17 : decode cX4_sound 17 = .ok (.iload_n 3, 1) := dk_29 (dk_at dksX4_sound_0 17 rfl rfl)
theorem dX4_sound_18 : decode cX4_sound 18 = .ok (.invokevirtual 53, 3) := dk_182 0 53 (dk_at dksX4_sound_0 18 rfl rfl)
theorem dX4_sound_21 : decode cX4_sound 21 = .ok (.checkcast 57, 3) := dk_192 0 57 (dk_at dksX4_sound_0 21 rfl rfl)
theorem dX4_sound_24 : decode cX4_sound 24 = .ok (.getfield 59, 3) := dk_180 0 59 (dk_at dksX4_sound_1 0 rfl rfl)
theorem dX4_sound_27 : decode cX4_sound 27 = .ok (.lload_n 1, 1) := dk_31 (dk_at dksX4_sound_1 3 rfl rfl)
theorem dX4_sound_28 : decode cX4_sound 28 = .ok (.lcmp, 1) := dk_148 (dk_at dksX4_sound_1 4 rfl rfl)
theorem dX4_sound_29 : decode cX4_sound 29 = .ok (.ifCond .ne 5, 3) := dk_154 0 5 (dk_at dksX4_sound_1 5 rfl rfl)
theorem dX4_sound_32 : decode cX4_sound 32 = .ok (.iload_n 3, 1) := dk_29 (dk_at dksX4_sound_1 8 rfl rfl)
theorem dX4_sound_33 : decode cX4_sound 33 = .ok (.ireturn, 1) := dk_172 (dk_at dksX4_sound_1 9 rfl rfl)
theorem dX4_sound_34 : decode cX4_sound 34 = .ok (.iinc 3 1, 3) := dk_132 3 1 (dk_at dksX4_sound_1 10 rfl rfl)
theorem dX4_sound_37 : decode cX4_sound 37 = .ok (.goto (-35), 3) := dk_167 255 221 (dk_at dksX4_sound_1 13 rfl rfl)
theorem dX4_sound_40 : decode cX4_sound 40 = .ok (.iconst (-1), 1) := dk_2 (dk_at dksX4_sound_1 16 rfl rfl)
theorem dX4_sound_41 : decode cX4_sound 41 = .ok (.ireturn, 1) := dk_172 (dk_at dksX4_sound_1 17 rfl rfl)
abbrev cX4_person : ByteArray := prog_20_method_3_code
def yX4_person : MethodName := ⟨RX4, "person", "(J)I"⟩
def dkwX4_person_1 : List UInt8 := [182, 0, 65, 31, 148, 154, 0, 5, 29, 172, 132, 3, 1, 167, 255, 221, 2, 172]
abbrev dktX4_person_1 : List UInt8 := dkwX4_person_1 ++ []
def dkwX4_person_0 : List UInt8 := [3, 62, 29, 42, 180, 0, 23, 182, 0, 49, 162, 0, 30, 42, 180, 0, 23, 29, 182, 0, 53, 192, 0, 63]
abbrev dktX4_person_0 : List UInt8 := dkwX4_person_0 ++ dktX4_person_1
theorem dksX4_person_0 : cX4_person.data.toList.drop 0 = dktX4_person_0 := by decide +kernel
theorem dksX4_person_1 : cX4_person.data.toList.drop 24 = dktX4_person_1 := dk_seg dksX4_person_0 24 rfl rfl
theorem dX4_person_0 : decode cX4_person 0 = .ok (.iconst 0, 1) := dk_3 (dk_at dksX4_person_0 0 rfl rfl)
theorem dX4_person_1 : decode cX4_person 1 = .ok (.istore_n 3, 1) := dk_62 (dk_at dksX4_person_0 1 rfl rfl)
theorem dX4_person_2 : decode cX4_person 2 = .ok (.iload_n 3, 1) := dk_29 (dk_at dksX4_person_0 2 rfl rfl)
theorem dX4_person_3 : decode cX4_person 3 = .ok (.aload_n 0, 1) := dk_42 (dk_at dksX4_person_0 3 rfl rfl)
theorem dX4_person_4 : decode cX4_person 4 = .ok (.getfield 23, 3) := dk_180 0 23 (dk_at dksX4_person_0 4 rfl rfl)
theorem dX4_person_7 : decode cX4_person 7 = .ok (.invokevirtual 49, 3) := dk_182 0 49 (dk_at dksX4_person_0 7 rfl rfl)
theorem dX4_person_10 : decode cX4_person 10 = .ok (.if_icmp .ge 30, 3) := dk_162 0 30 (dk_at dksX4_person_0 10 rfl rfl)
theorem dX4_person_13 : decode cX4_person 13 = .ok (.aload_n 0, 1) := dk_42 (dk_at dksX4_person_0 13 rfl rfl)
theorem dX4_person_14 : decode cX4_person 14 = .ok (.getfield 23, 3) := dk_180 0 23 (dk_at dksX4_person_0 14 rfl rfl)
theorem dX4_person_17 : decode cX4_person 17 = .ok (.iload_n 3, 1) := dk_29 (dk_at dksX4_person_0 17 rfl rfl)
theorem dX4_person_18 : decode cX4_person 18 = .ok (.invokevirtual 53, 3) := dk_182 0 53 (dk_at dksX4_person_0 18 rfl rfl)
theorem dX4_person_21 : decode cX4_person 21 = .ok (.checkcast 63, 3) := dk_192 0 63 (dk_at dksX4_person_0 21 rfl rfl)
theorem dX4_person_24 : decode cX4_person 24 = .ok (.invokevirtual 65, 3) := dk_182 0 65 (dk_at dksX4_person_1 0 rfl rfl)
theorem dX4_person_27 : decode cX4_person 27 = .ok (.lload_n 1, 1) := dk_31 (dk_at dksX4_person_1 3 rfl rfl)
theorem dX4_person_28 : decode cX4_person 28 = .ok (.lcmp, 1) := dk_148 (dk_at dksX4_person_1 4 rfl rfl)
theorem dX4_person_29 : decode cX4_person 29 = .ok (.ifCond .ne 5, 3) := dk_154 0 5 (dk_at dksX4_person_1 5 rfl rfl)
theorem dX4_person_32 : decode cX4_person 32 = .ok (.iload_n 3, 1) := dk_29 (dk_at dksX4_person_1 8 rfl rfl)
theorem dX4_person_33 : decode cX4_person 33 = .ok (.ireturn, 1) := dk_172 (dk_at dksX4_person_1 9 rfl rfl)
theorem dX4_person_34 : decode cX4_person 34 = .ok (.iinc 3 1, 3) := dk_132 3 1 (dk_at dksX4_person_1 10 rfl rfl)
theorem dX4_person_37 : decode cX4_person 37 = .ok (.goto (-35), 3) := dk_167 255 221 (dk_at dksX4_person_1 13 rfl rfl)
theorem dX4_person_40 : decode cX4_person 40 = .ok (.iconst (-1), 1) := dk_2 (dk_at dksX4_person_1 16 rfl rfl)
theorem dX4_person_41 : decode cX4_person 41 = .ok (.ireturn, 1) := dk_172 (dk_at dksX4_person_1 17 rfl rfl)
abbrev cX4_apple : ByteArray := prog_20_method_4_code
def yX4_apple : MethodName := ⟨RX4, "apple", "(I)I"⟩
def dkwX4_apple_1 : List UInt8 := [180, 0, 71, 27, 160, 0, 5, 28, 172, 132, 2, 1, 167, 255, 222, 2, 172]
abbrev dktX4_apple_1 : List UInt8 := dkwX4_apple_1 ++ []
def dkwX4_apple_0 : List UInt8 := [3, 61, 28, 42, 180, 0, 14, 182, 0, 49, 162, 0, 29, 42, 180, 0, 14, 28, 182, 0, 53, 192, 0, 69]
abbrev dktX4_apple_0 : List UInt8 := dkwX4_apple_0 ++ dktX4_apple_1
theorem dksX4_apple_0 : cX4_apple.data.toList.drop 0 = dktX4_apple_0 := by decide +kernel
theorem dksX4_apple_1 : cX4_apple.data.toList.drop 24 = dktX4_apple_1 := dk_seg dksX4_apple_0 24 rfl rfl
theorem dX4_apple_0 : decode cX4_apple 0 = .ok (.iconst 0, 1) := dk_3 (dk_at dksX4_apple_0 0 rfl rfl)
theorem dX4_apple_1 : decode cX4_apple 1 = .ok (.istore_n 2, 1) := dk_61 (dk_at dksX4_apple_0 1 rfl rfl)
theorem dX4_apple_2 : decode cX4_apple 2 = .ok (.iload_n 2, 1) := dk_28 (dk_at dksX4_apple_0 2 rfl rfl)
theorem dX4_apple_3 : decode cX4_apple 3 = .ok (.aload_n 0, 1) := dk_42 (dk_at dksX4_apple_0 3 rfl rfl)
theorem dX4_apple_4 : decode cX4_apple 4 = .ok (.getfield 14, 3) := dk_180 0 14 (dk_at dksX4_apple_0 4 rfl rfl)
theorem dX4_apple_7 : decode cX4_apple 7 = .ok (.invokevirtual 49, 3) := dk_182 0 49 (dk_at dksX4_apple_0 7 rfl rfl)
theorem dX4_apple_10 : decode cX4_apple 10 = .ok (.if_icmp .ge 29, 3) := dk_162 0 29 (dk_at dksX4_apple_0 10 rfl rfl)
theorem dX4_apple_13 : decode cX4_apple 13 = .ok (.aload_n 0, 1) := dk_42 (dk_at dksX4_apple_0 13 rfl rfl)
theorem dX4_apple_14 : decode cX4_apple 14 = .ok (.getfield 14, 3) := dk_180 0 14 (dk_at dksX4_apple_0 14 rfl rfl)
theorem dX4_apple_17 : decode cX4_apple 17 = .ok (.iload_n 2, 1) := dk_28 (dk_at dksX4_apple_0 17 rfl rfl)
theorem dX4_apple_18 : decode cX4_apple 18 = .ok (.invokevirtual 53, 3) := dk_182 0 53 (dk_at dksX4_apple_0 18 rfl rfl)
theorem dX4_apple_21 : decode cX4_apple 21 = .ok (.checkcast 69, 3) := dk_192 0 69 (dk_at dksX4_apple_0 21 rfl rfl)
theorem dX4_apple_24 : decode cX4_apple 24 = .ok (.getfield 71, 3) := dk_180 0 71 (dk_at dksX4_apple_1 0 rfl rfl)
theorem dX4_apple_27 : decode cX4_apple 27 = .ok (.iload_n 1, 1) := dk_27 (dk_at dksX4_apple_1 3 rfl rfl)
theorem dX4_apple_28 : decode cX4_apple 28 = .ok (.if_icmp .ne 5, 3) := dk_160 0 5 (dk_at dksX4_apple_1 4 rfl rfl)
theorem dX4_apple_31 : decode cX4_apple 31 = .ok (.iload_n 2, 1) := dk_28 (dk_at dksX4_apple_1 7 rfl rfl)
theorem dX4_apple_32 : decode cX4_apple 32 = .ok (.ireturn, 1) := dk_172 (dk_at dksX4_apple_1 8 rfl rfl)
theorem dX4_apple_33 : decode cX4_apple 33 = .ok (.iinc 2 1, 3) := dk_132 2 1 (dk_at dksX4_apple_1 9 rfl rfl)
theorem dX4_apple_36 : decode cX4_apple 36 = .ok (.goto (-34), 3) := dk_167 255 222 (dk_at dksX4_apple_1 12 rfl rfl)
theorem dX4_apple_39 : decode cX4_apple 39 = .ok (.iconst (-1), 1) := dk_2 (dk_at dksX4_apple_1 15 rfl rfl)
theorem dX4_apple_40 : decode cX4_apple 40 = .ok (.ireturn, 1) := dk_172 (dk_at dksX4_apple_1 16 rfl rfl)
abbrev cX4_value : ByteArray := prog_20_method_8_code
def yX4_value : MethodName := ⟨RX4, "value", "(II)I"⟩
def dkwX4_value_3 : List UInt8 := [180, 0, 109, 42, 180, 0, 41, 182, 0, 101, 184, 0, 115, 184, 0, 120, 172]
abbrev dktX4_value_3 : List UInt8 := dkwX4_value_3 ++ []
def dkwX4_value_2 : List UInt8 := [3, 45, 180, 0, 112, 79, 42, 180, 0, 41, 180, 0, 90, 4, 21, 4, 79, 3, 17, 3, 231, 42]
abbrev dktX4_value_2 : List UInt8 := dkwX4_value_2 ++ dktX4_value_3
def dkwX4_value_1 : List UInt8 := [199, 0, 17, 21, 4, 156, 0, 7, 3, 167, 0, 7, 45, 180, 0, 112, 172, 42, 180, 0, 41, 180, 0, 90]
abbrev dktX4_value_1 : List UInt8 := dkwX4_value_1 ++ dktX4_value_2
def dkwX4_value_0 : List UInt8 := [42, 180, 0, 14, 27, 182, 0, 53, 192, 0, 69, 78, 28, 45, 180, 0, 106, 100, 54, 4, 42, 180, 0, 109]
abbrev dktX4_value_0 : List UInt8 := dkwX4_value_0 ++ dktX4_value_1
theorem dksX4_value_0 : cX4_value.data.toList.drop 0 = dktX4_value_0 := by decide +kernel
theorem dksX4_value_1 : cX4_value.data.toList.drop 24 = dktX4_value_1 := dk_seg dksX4_value_0 24 rfl rfl
theorem dksX4_value_2 : cX4_value.data.toList.drop 48 = dktX4_value_2 := dk_seg dksX4_value_1 24 rfl rfl
theorem dksX4_value_3 : cX4_value.data.toList.drop 70 = dktX4_value_3 := dk_seg dksX4_value_2 22 rfl rfl
theorem dX4_value_0 : decode cX4_value 0 = .ok (.aload_n 0, 1) := dk_42 (dk_at dksX4_value_0 0 rfl rfl)
theorem dX4_value_1 : decode cX4_value 1 = .ok (.getfield 14, 3) := dk_180 0 14 (dk_at dksX4_value_0 1 rfl rfl)
theorem dX4_value_4 : decode cX4_value 4 = .ok (.iload_n 1, 1) := dk_27 (dk_at dksX4_value_0 4 rfl rfl)
theorem dX4_value_5 : decode cX4_value 5 = .ok (.invokevirtual 53, 3) := dk_182 0 53 (dk_at dksX4_value_0 5 rfl rfl)
theorem dX4_value_8 : decode cX4_value 8 = .ok (.checkcast 69, 3) := dk_192 0 69 (dk_at dksX4_value_0 8 rfl rfl)
theorem dX4_value_11 : decode cX4_value 11 = .ok (.astore_n 3, 1) := dk_78 (dk_at dksX4_value_0 11 rfl rfl)
theorem dX4_value_12 : decode cX4_value 12 = .ok (.iload_n 2, 1) := dk_28 (dk_at dksX4_value_0 12 rfl rfl)
theorem dX4_value_13 : decode cX4_value 13 = .ok (.aload_n 3, 1) := dk_45 (dk_at dksX4_value_0 13 rfl rfl)
theorem dX4_value_14 : decode cX4_value 14 = .ok (.getfield 106, 3) := dk_180 0 106 (dk_at dksX4_value_0 14 rfl rfl)
theorem dX4_value_17 : decode cX4_value 17 = .ok (.isub, 1) := dk_100 (dk_at dksX4_value_0 17 rfl rfl)
theorem dX4_value_18 : decode cX4_value 18 = .ok (.istore 4, 2) := dk_54 4 (dk_at dksX4_value_0 18 rfl rfl)
theorem dX4_value_20 : decode cX4_value 20 = .ok (.aload_n 0, 1) := dk_42 (dk_at dksX4_value_0 20 rfl rfl)
theorem dX4_value_21 : decode cX4_value 21 = .ok (.getfield 109, 3) := dk_180 0 109 (dk_at dksX4_value_0 21 rfl rfl)
theorem dX4_value_24 : decode cX4_value 24 = .ok (.ifnonnull 17, 3) := dk_199 0 17 (dk_at dksX4_value_1 0 rfl rfl)
theorem dX4_value_27 : decode cX4_value 27 = .ok (.iload 4, 2) := dk_21 4 (dk_at dksX4_value_1 3 rfl rfl)
theorem dX4_value_29 : decode cX4_value 29 = .ok (.ifCond .ge 7, 3) := dk_156 0 7 (dk_at dksX4_value_1 5 rfl rfl)
theorem dX4_value_32 : decode cX4_value 32 = .ok (.iconst 0, 1) := dk_3 (dk_at dksX4_value_1 8 rfl rfl)
theorem dX4_value_33 : decode cX4_value 33 = .ok (.goto 7, 3) := dk_167 0 7 (dk_at dksX4_value_1 9 rfl rfl)
theorem dX4_value_36 : decode cX4_value 36 = .ok (.aload_n 3, 1) := dk_45 (dk_at dksX4_value_1 12 rfl rfl)
theorem dX4_value_37 : decode cX4_value 37 = .ok (.getfield 112, 3) := dk_180 0 112 (dk_at dksX4_value_1 13 rfl rfl)
theorem dX4_value_40 : decode cX4_value 40 = .ok (.ireturn, 1) := dk_172 (dk_at dksX4_value_1 16 rfl rfl)
theorem dX4_value_41 : decode cX4_value 41 = .ok (.aload_n 0, 1) := dk_42 (dk_at dksX4_value_1 17 rfl rfl)
theorem dX4_value_42 : decode cX4_value 42 = .ok (.getfield 41, 3) := dk_180 0 41 (dk_at dksX4_value_1 18 rfl rfl)
theorem dX4_value_45 : decode cX4_value 45 = .ok (.getfield 90, 3) := dk_180 0 90 (dk_at dksX4_value_1 21 rfl rfl)
theorem dX4_value_48 : decode cX4_value 48 = .ok (.iconst 0, 1) := dk_3 (dk_at dksX4_value_2 0 rfl rfl)
theorem dX4_value_49 : decode cX4_value 49 = .ok (.aload_n 3, 1) := dk_45 (dk_at dksX4_value_2 1 rfl rfl)
theorem dX4_value_50 : decode cX4_value 50 = .ok (.getfield 112, 3) := dk_180 0 112 (dk_at dksX4_value_2 2 rfl rfl)
theorem dX4_value_53 : decode cX4_value 53 = .ok (.iastore, 1) := dk_79 (dk_at dksX4_value_2 5 rfl rfl)
theorem dX4_value_54 : decode cX4_value 54 = .ok (.aload_n 0, 1) := dk_42 (dk_at dksX4_value_2 6 rfl rfl)
theorem dX4_value_55 : decode cX4_value 55 = .ok (.getfield 41, 3) := dk_180 0 41 (dk_at dksX4_value_2 7 rfl rfl)
theorem dX4_value_58 : decode cX4_value 58 = .ok (.getfield 90, 3) := dk_180 0 90 (dk_at dksX4_value_2 10 rfl rfl)
theorem dX4_value_61 : decode cX4_value 61 = .ok (.iconst 1, 1) := dk_4 (dk_at dksX4_value_2 13 rfl rfl)
theorem dX4_value_62 : decode cX4_value 62 = .ok (.iload 4, 2) := dk_21 4 (dk_at dksX4_value_2 14 rfl rfl)
theorem dX4_value_64 : decode cX4_value 64 = .ok (.iastore, 1) := dk_79 (dk_at dksX4_value_2 16 rfl rfl)
theorem dX4_value_65 : decode cX4_value 65 = .ok (.iconst 0, 1) := dk_3 (dk_at dksX4_value_2 17 rfl rfl)
theorem dX4_value_66 : decode cX4_value 66 = .ok (.sipush 999, 3) := dk_17 3 231 (dk_at dksX4_value_2 18 rfl rfl)
theorem dX4_value_69 : decode cX4_value 69 = .ok (.aload_n 0, 1) := dk_42 (dk_at dksX4_value_2 21 rfl rfl)
theorem dX4_value_70 : decode cX4_value 70 = .ok (.getfield 109, 3) := dk_180 0 109 (dk_at dksX4_value_3 0 rfl rfl)
theorem dX4_value_73 : decode cX4_value 73 = .ok (.aload_n 0, 1) := dk_42 (dk_at dksX4_value_3 3 rfl rfl)
theorem dX4_value_74 : decode cX4_value 74 = .ok (.getfield 41, 3) := dk_180 0 41 (dk_at dksX4_value_3 4 rfl rfl)
theorem dX4_value_77 : decode cX4_value 77 = .ok (.invokevirtual 101, 3) := dk_182 0 101 (dk_at dksX4_value_3 7 rfl rfl)
theorem dX4_value_80 : decode cX4_value 80 = .ok (.invokestatic 115, 3) := dk_184 0 115 (dk_at dksX4_value_3 10 rfl rfl)
theorem dX4_value_83 : decode cX4_value 83 = .ok (.invokestatic 120, 3) := dk_184 0 120 (dk_at dksX4_value_3 13 rfl rfl)
theorem dX4_value_86 : decode cX4_value 86 = .ok (.ireturn, 1) := dk_172 (dk_at dksX4_value_3 16 rfl rfl)
abbrev cX4_edits : ByteArray := prog_20_method_5_code
def yX4_edits : MethodName := ⟨RX4, "edits", "(II)I"⟩
def dkwX4_edits_1 : List UInt8 := [180, 0, 45, 182, 0, 75, 172]
abbrev dktX4_edits_1 : List UInt8 := dkwX4_edits_1 ++ []
def dkwX4_edits_0 : List UInt8 := [42, 180, 0, 20, 27, 182, 0, 53, 192, 0, 57, 42, 180, 0, 20, 28, 182, 0, 53, 192, 0, 57, 42]
abbrev dktX4_edits_0 : List UInt8 := dkwX4_edits_0 ++ dktX4_edits_1
theorem dksX4_edits_0 : cX4_edits.data.toList.drop 0 = dktX4_edits_0 := by decide +kernel
theorem dksX4_edits_1 : cX4_edits.data.toList.drop 23 = dktX4_edits_1 := dk_seg dksX4_edits_0 23 rfl rfl
theorem dX4_edits_0 : decode cX4_edits 0 = .ok (.aload_n 0, 1) := dk_42 (dk_at dksX4_edits_0 0 rfl rfl)
theorem dX4_edits_1 : decode cX4_edits 1 = .ok (.getfield 20, 3) := dk_180 0 20 (dk_at dksX4_edits_0 1 rfl rfl)
theorem dX4_edits_4 : decode cX4_edits 4 = .ok (.iload_n 1, 1) := dk_27 (dk_at dksX4_edits_0 4 rfl rfl)
theorem dX4_edits_5 : decode cX4_edits 5 = .ok (.invokevirtual 53, 3) := dk_182 0 53 (dk_at dksX4_edits_0 5 rfl rfl)
theorem dX4_edits_8 : decode cX4_edits 8 = .ok (.checkcast 57, 3) := dk_192 0 57 (dk_at dksX4_edits_0 8 rfl rfl)
theorem dX4_edits_11 : decode cX4_edits 11 = .ok (.aload_n 0, 1) := dk_42 (dk_at dksX4_edits_0 11 rfl rfl)
theorem dX4_edits_12 : decode cX4_edits 12 = .ok (.getfield 20, 3) := dk_180 0 20 (dk_at dksX4_edits_0 12 rfl rfl)
theorem dX4_edits_15 : decode cX4_edits 15 = .ok (.iload_n 2, 1) := dk_28 (dk_at dksX4_edits_0 15 rfl rfl)
theorem dX4_edits_16 : decode cX4_edits 16 = .ok (.invokevirtual 53, 3) := dk_182 0 53 (dk_at dksX4_edits_0 16 rfl rfl)
theorem dX4_edits_19 : decode cX4_edits 19 = .ok (.checkcast 57, 3) := dk_192 0 57 (dk_at dksX4_edits_0 19 rfl rfl)
theorem dX4_edits_22 : decode cX4_edits 22 = .ok (.aload_n 0, 1) := dk_42 (dk_at dksX4_edits_0 22 rfl rfl)
theorem dX4_edits_23 : decode cX4_edits 23 = .ok (.getfield 45, 3) := dk_180 0 45 (dk_at dksX4_edits_1 0 rfl rfl)
theorem dX4_edits_26 : decode cX4_edits 26 = .ok (.invokevirtual 75, 3) := dk_182 0 75 (dk_at dksX4_edits_1 3 rfl rfl)
theorem dX4_edits_29 : decode cX4_edits 29 = .ok (.ireturn, 1) := dk_172 (dk_at dksX4_edits_1 6 rfl rfl)
abbrev cX4_rhyme : ByteArray := prog_20_method_6_code
def yX4_rhyme : MethodName := ⟨RX4, "rhyme", "(II)I"⟩
def dkwX4_rhyme_1 : List UInt8 := [182, 0, 79, 172]
abbrev dktX4_rhyme_1 : List UInt8 := dkwX4_rhyme_1 ++ []
def dkwX4_rhyme_0 : List UInt8 := [42, 180, 0, 20, 27, 182, 0, 53, 192, 0, 57, 42, 180, 0, 20, 28, 182, 0, 53, 192, 0, 57]
abbrev dktX4_rhyme_0 : List UInt8 := dkwX4_rhyme_0 ++ dktX4_rhyme_1
theorem dksX4_rhyme_0 : cX4_rhyme.data.toList.drop 0 = dktX4_rhyme_0 := by decide +kernel
theorem dksX4_rhyme_1 : cX4_rhyme.data.toList.drop 22 = dktX4_rhyme_1 := dk_seg dksX4_rhyme_0 22 rfl rfl
theorem dX4_rhyme_0 : decode cX4_rhyme 0 = .ok (.aload_n 0, 1) := dk_42 (dk_at dksX4_rhyme_0 0 rfl rfl)
theorem dX4_rhyme_1 : decode cX4_rhyme 1 = .ok (.getfield 20, 3) := dk_180 0 20 (dk_at dksX4_rhyme_0 1 rfl rfl)
theorem dX4_rhyme_4 : decode cX4_rhyme 4 = .ok (.iload_n 1, 1) := dk_27 (dk_at dksX4_rhyme_0 4 rfl rfl)
theorem dX4_rhyme_5 : decode cX4_rhyme 5 = .ok (.invokevirtual 53, 3) := dk_182 0 53 (dk_at dksX4_rhyme_0 5 rfl rfl)
theorem dX4_rhyme_8 : decode cX4_rhyme 8 = .ok (.checkcast 57, 3) := dk_192 0 57 (dk_at dksX4_rhyme_0 8 rfl rfl)
theorem dX4_rhyme_11 : decode cX4_rhyme 11 = .ok (.aload_n 0, 1) := dk_42 (dk_at dksX4_rhyme_0 11 rfl rfl)
theorem dX4_rhyme_12 : decode cX4_rhyme 12 = .ok (.getfield 20, 3) := dk_180 0 20 (dk_at dksX4_rhyme_0 12 rfl rfl)
theorem dX4_rhyme_15 : decode cX4_rhyme 15 = .ok (.iload_n 2, 1) := dk_28 (dk_at dksX4_rhyme_0 15 rfl rfl)
theorem dX4_rhyme_16 : decode cX4_rhyme 16 = .ok (.invokevirtual 53, 3) := dk_182 0 53 (dk_at dksX4_rhyme_0 16 rfl rfl)
theorem dX4_rhyme_19 : decode cX4_rhyme 19 = .ok (.checkcast 57, 3) := dk_192 0 57 (dk_at dksX4_rhyme_0 19 rfl rfl)
theorem dX4_rhyme_22 : decode cX4_rhyme 22 = .ok (.invokevirtual 79, 3) := dk_182 0 79 (dk_at dksX4_rhyme_1 0 rfl rfl)
theorem dX4_rhyme_25 : decode cX4_rhyme 25 = .ok (.ireturn, 1) := dk_172 (dk_at dksX4_rhyme_1 3 rfl rfl)
abbrev cX4_isNear : ByteArray := prog_20_method_7_code
def yX4_isNear : MethodName := ⟨RX4, "isNear", "(II)Z"⟩
def dkwX4_isNear_5 : List UInt8 := [182, 0, 101, 153, 0, 7, 4, 167, 0, 4, 3, 172]
abbrev dktX4_isNear_5 : List UInt8 := dkwX4_isNear_5 ++ []
def dkwX4_isNear_4 : List UInt8 := [180, 0, 20, 27, 182, 0, 53, 192, 0, 57, 182, 0, 98, 79, 42, 180, 0, 86, 42, 180, 0, 41]
abbrev dktX4_isNear_4 : List UInt8 := dkwX4_isNear_4 ++ dktX4_isNear_5
def dkwX4_isNear_3 : List UInt8 := [180, 0, 41, 180, 0, 90, 5, 42, 27, 28, 182, 0, 96, 79, 42, 180, 0, 41, 180, 0, 90, 6, 42]
abbrev dktX4_isNear_3 : List UInt8 := dkwX4_isNear_3 ++ dktX4_isNear_4
def dkwX4_isNear_2 : List UInt8 := [182, 0, 53, 192, 0, 57, 42, 180, 0, 20, 28, 182, 0, 53, 192, 0, 57, 182, 0, 93, 79, 42]
abbrev dktX4_isNear_2 : List UInt8 := dkwX4_isNear_2 ++ dktX4_isNear_3
def dkwX4_isNear_1 : List UInt8 := [42, 180, 0, 41, 180, 0, 90, 3, 29, 79, 42, 180, 0, 41, 180, 0, 90, 4, 42, 180, 0, 20, 27]
abbrev dktX4_isNear_1 : List UInt8 := dkwX4_isNear_1 ++ dktX4_isNear_2
def dkwX4_isNear_0 : List UInt8 := [42, 27, 28, 182, 0, 83, 62, 42, 180, 0, 86, 199, 0, 13, 29, 154, 0, 7, 4, 167, 0, 4, 3, 172]
abbrev dktX4_isNear_0 : List UInt8 := dkwX4_isNear_0 ++ dktX4_isNear_1
theorem dksX4_isNear_0 : cX4_isNear.data.toList.drop 0 = dktX4_isNear_0 := by decide +kernel
theorem dksX4_isNear_1 : cX4_isNear.data.toList.drop 24 = dktX4_isNear_1 := dk_seg dksX4_isNear_0 24 rfl rfl
theorem dksX4_isNear_2 : cX4_isNear.data.toList.drop 47 = dktX4_isNear_2 := dk_seg dksX4_isNear_1 23 rfl rfl
theorem dksX4_isNear_3 : cX4_isNear.data.toList.drop 69 = dktX4_isNear_3 := dk_seg dksX4_isNear_2 22 rfl rfl
theorem dksX4_isNear_4 : cX4_isNear.data.toList.drop 92 = dktX4_isNear_4 := dk_seg dksX4_isNear_3 23 rfl rfl
theorem dksX4_isNear_5 : cX4_isNear.data.toList.drop 114 = dktX4_isNear_5 := dk_seg dksX4_isNear_4 22 rfl rfl
theorem dX4_isNear_0 : decode cX4_isNear 0 = .ok (.aload_n 0, 1) := dk_42 (dk_at dksX4_isNear_0 0 rfl rfl)
theorem dX4_isNear_1 : decode cX4_isNear 1 = .ok (.iload_n 1, 1) := dk_27 (dk_at dksX4_isNear_0 1 rfl rfl)
theorem dX4_isNear_2 : decode cX4_isNear 2 = .ok (.iload_n 2, 1) := dk_28 (dk_at dksX4_isNear_0 2 rfl rfl)
theorem dX4_isNear_3 : decode cX4_isNear 3 = .ok (.invokevirtual 83, 3) := dk_182 0 83 (dk_at dksX4_isNear_0 3 rfl rfl)
theorem dX4_isNear_6 : decode cX4_isNear 6 = .ok (.istore_n 3, 1) := dk_62 (dk_at dksX4_isNear_0 6 rfl rfl)
theorem dX4_isNear_7 : decode cX4_isNear 7 = .ok (.aload_n 0, 1) := dk_42 (dk_at dksX4_isNear_0 7 rfl rfl)
theorem dX4_isNear_8 : decode cX4_isNear 8 = .ok (.getfield 86, 3) := dk_180 0 86 (dk_at dksX4_isNear_0 8 rfl rfl)
theorem dX4_isNear_11 : decode cX4_isNear 11 = .ok (.ifnonnull 13, 3) := dk_199 0 13 (dk_at dksX4_isNear_0 11 rfl rfl)
theorem dX4_isNear_14 : decode cX4_isNear 14 = .ok (.iload_n 3, 1) := dk_29 (dk_at dksX4_isNear_0 14 rfl rfl)
theorem dX4_isNear_15 : decode cX4_isNear 15 = .ok (.ifCond .ne 7, 3) := dk_154 0 7 (dk_at dksX4_isNear_0 15 rfl rfl)
theorem dX4_isNear_18 : decode cX4_isNear 18 = .ok (.iconst 1, 1) := dk_4 (dk_at dksX4_isNear_0 18 rfl rfl)
theorem dX4_isNear_19 : decode cX4_isNear 19 = .ok (.goto 4, 3) := dk_167 0 4 (dk_at dksX4_isNear_0 19 rfl rfl)
theorem dX4_isNear_22 : decode cX4_isNear 22 = .ok (.iconst 0, 1) := dk_3 (dk_at dksX4_isNear_0 22 rfl rfl)
theorem dX4_isNear_23 : decode cX4_isNear 23 = .ok (.ireturn, 1) := dk_172 (dk_at dksX4_isNear_0 23 rfl rfl)
theorem dX4_isNear_24 : decode cX4_isNear 24 = .ok (.aload_n 0, 1) := dk_42 (dk_at dksX4_isNear_1 0 rfl rfl)
theorem dX4_isNear_25 : decode cX4_isNear 25 = .ok (.getfield 41, 3) := dk_180 0 41 (dk_at dksX4_isNear_1 1 rfl rfl)
theorem dX4_isNear_28 : decode cX4_isNear 28 = .ok (.getfield 90, 3) := dk_180 0 90 (dk_at dksX4_isNear_1 4 rfl rfl)
theorem dX4_isNear_31 : decode cX4_isNear 31 = .ok (.iconst 0, 1) := dk_3 (dk_at dksX4_isNear_1 7 rfl rfl)
theorem dX4_isNear_32 : decode cX4_isNear 32 = .ok (.iload_n 3, 1) := dk_29 (dk_at dksX4_isNear_1 8 rfl rfl)
theorem dX4_isNear_33 : decode cX4_isNear 33 = .ok (.iastore, 1) := dk_79 (dk_at dksX4_isNear_1 9 rfl rfl)
theorem dX4_isNear_34 : decode cX4_isNear 34 = .ok (.aload_n 0, 1) := dk_42 (dk_at dksX4_isNear_1 10 rfl rfl)
theorem dX4_isNear_35 : decode cX4_isNear 35 = .ok (.getfield 41, 3) := dk_180 0 41 (dk_at dksX4_isNear_1 11 rfl rfl)
theorem dX4_isNear_38 : decode cX4_isNear 38 = .ok (.getfield 90, 3) := dk_180 0 90 (dk_at dksX4_isNear_1 14 rfl rfl)
theorem dX4_isNear_41 : decode cX4_isNear 41 = .ok (.iconst 1, 1) := dk_4 (dk_at dksX4_isNear_1 17 rfl rfl)
theorem dX4_isNear_42 : decode cX4_isNear 42 = .ok (.aload_n 0, 1) := dk_42 (dk_at dksX4_isNear_1 18 rfl rfl)
theorem dX4_isNear_43 : decode cX4_isNear 43 = .ok (.getfield 20, 3) := dk_180 0 20 (dk_at dksX4_isNear_1 19 rfl rfl)
theorem dX4_isNear_46 : decode cX4_isNear 46 = .ok (.iload_n 1, 1) := dk_27 (dk_at dksX4_isNear_1 22 rfl rfl)
theorem dX4_isNear_47 : decode cX4_isNear 47 = .ok (.invokevirtual 53, 3) := dk_182 0 53 (dk_at dksX4_isNear_2 0 rfl rfl)
theorem dX4_isNear_50 : decode cX4_isNear 50 = .ok (.checkcast 57, 3) := dk_192 0 57 (dk_at dksX4_isNear_2 3 rfl rfl)
theorem dX4_isNear_53 : decode cX4_isNear 53 = .ok (.aload_n 0, 1) := dk_42 (dk_at dksX4_isNear_2 6 rfl rfl)
theorem dX4_isNear_54 : decode cX4_isNear 54 = .ok (.getfield 20, 3) := dk_180 0 20 (dk_at dksX4_isNear_2 7 rfl rfl)
theorem dX4_isNear_57 : decode cX4_isNear 57 = .ok (.iload_n 2, 1) := dk_28 (dk_at dksX4_isNear_2 10 rfl rfl)
theorem dX4_isNear_58 : decode cX4_isNear 58 = .ok (.invokevirtual 53, 3) := dk_182 0 53 (dk_at dksX4_isNear_2 11 rfl rfl)
theorem dX4_isNear_61 : decode cX4_isNear 61 = .ok (.checkcast 57, 3) := dk_192 0 57 (dk_at dksX4_isNear_2 14 rfl rfl)
theorem dX4_isNear_64 : decode cX4_isNear 64 = .ok (.invokevirtual 93, 3) := dk_182 0 93 (dk_at dksX4_isNear_2 17 rfl rfl)
theorem dX4_isNear_67 : decode cX4_isNear 67 = .ok (.iastore, 1) := dk_79 (dk_at dksX4_isNear_2 20 rfl rfl)
theorem dX4_isNear_68 : decode cX4_isNear 68 = .ok (.aload_n 0, 1) := dk_42 (dk_at dksX4_isNear_2 21 rfl rfl)
theorem dX4_isNear_69 : decode cX4_isNear 69 = .ok (.getfield 41, 3) := dk_180 0 41 (dk_at dksX4_isNear_3 0 rfl rfl)
theorem dX4_isNear_72 : decode cX4_isNear 72 = .ok (.getfield 90, 3) := dk_180 0 90 (dk_at dksX4_isNear_3 3 rfl rfl)
theorem dX4_isNear_75 : decode cX4_isNear 75 = .ok (.iconst 2, 1) := dk_5 (dk_at dksX4_isNear_3 6 rfl rfl)
theorem dX4_isNear_76 : decode cX4_isNear 76 = .ok (.aload_n 0, 1) := dk_42 (dk_at dksX4_isNear_3 7 rfl rfl)
theorem dX4_isNear_77 : decode cX4_isNear 77 = .ok (.iload_n 1, 1) := dk_27 (dk_at dksX4_isNear_3 8 rfl rfl)
theorem dX4_isNear_78 : decode cX4_isNear 78 = .ok (.iload_n 2, 1) := dk_28 (dk_at dksX4_isNear_3 9 rfl rfl)
theorem dX4_isNear_79 : decode cX4_isNear 79 = .ok (.invokevirtual 96, 3) := dk_182 0 96 (dk_at dksX4_isNear_3 10 rfl rfl)
theorem dX4_isNear_82 : decode cX4_isNear 82 = .ok (.iastore, 1) := dk_79 (dk_at dksX4_isNear_3 13 rfl rfl)
theorem dX4_isNear_83 : decode cX4_isNear 83 = .ok (.aload_n 0, 1) := dk_42 (dk_at dksX4_isNear_3 14 rfl rfl)
theorem dX4_isNear_84 : decode cX4_isNear 84 = .ok (.getfield 41, 3) := dk_180 0 41 (dk_at dksX4_isNear_3 15 rfl rfl)
theorem dX4_isNear_87 : decode cX4_isNear 87 = .ok (.getfield 90, 3) := dk_180 0 90 (dk_at dksX4_isNear_3 18 rfl rfl)
theorem dX4_isNear_90 : decode cX4_isNear 90 = .ok (.iconst 3, 1) := dk_6 (dk_at dksX4_isNear_3 21 rfl rfl)
theorem dX4_isNear_91 : decode cX4_isNear 91 = .ok (.aload_n 0, 1) := dk_42 (dk_at dksX4_isNear_3 22 rfl rfl)
theorem dX4_isNear_92 : decode cX4_isNear 92 = .ok (.getfield 20, 3) := dk_180 0 20 (dk_at dksX4_isNear_4 0 rfl rfl)
theorem dX4_isNear_95 : decode cX4_isNear 95 = .ok (.iload_n 1, 1) := dk_27 (dk_at dksX4_isNear_4 3 rfl rfl)
theorem dX4_isNear_96 : decode cX4_isNear 96 = .ok (.invokevirtual 53, 3) := dk_182 0 53 (dk_at dksX4_isNear_4 4 rfl rfl)
theorem dX4_isNear_99 : decode cX4_isNear 99 = .ok (.checkcast 57, 3) := dk_192 0 57 (dk_at dksX4_isNear_4 7 rfl rfl)
theorem dX4_isNear_102 : decode cX4_isNear 102 = .ok (.invokevirtual 98, 3) := dk_182 0 98 (dk_at dksX4_isNear_4 10 rfl rfl)
theorem dX4_isNear_105 : decode cX4_isNear 105 = .ok (.iastore, 1) := dk_79 (dk_at dksX4_isNear_4 13 rfl rfl)
theorem dX4_isNear_106 : decode cX4_isNear 106 = .ok (.aload_n 0, 1) := dk_42 (dk_at dksX4_isNear_4 14 rfl rfl)
theorem dX4_isNear_107 : decode cX4_isNear 107 = .ok (.getfield 86, 3) := dk_180 0 86 (dk_at dksX4_isNear_4 15 rfl rfl)
theorem dX4_isNear_110 : decode cX4_isNear 110 = .ok (.aload_n 0, 1) := dk_42 (dk_at dksX4_isNear_4 18 rfl rfl)
theorem dX4_isNear_111 : decode cX4_isNear 111 = .ok (.getfield 41, 3) := dk_180 0 41 (dk_at dksX4_isNear_4 19 rfl rfl)
theorem dX4_isNear_114 : decode cX4_isNear 114 = .ok (.invokevirtual 101, 3) := dk_182 0 101 (dk_at dksX4_isNear_5 0 rfl rfl)
theorem dX4_isNear_117 : decode cX4_isNear 117 = .ok (.ifCond .eq 7, 3) := dk_153 0 7 (dk_at dksX4_isNear_5 3 rfl rfl)
theorem dX4_isNear_120 : decode cX4_isNear 120 = .ok (.iconst 1, 1) := dk_4 (dk_at dksX4_isNear_5 6 rfl rfl)
theorem dX4_isNear_121 : decode cX4_isNear 121 = .ok (.goto 4, 3) := dk_167 0 4 (dk_at dksX4_isNear_5 7 rfl rfl)
theorem dX4_isNear_124 : decode cX4_isNear 124 = .ok (.iconst 0, 1) := dk_3 (dk_at dksX4_isNear_5 10 rfl rfl)
theorem dX4_isNear_125 : decode cX4_isNear 125 = .ok (.ireturn, 1) := dk_172 (dk_at dksX4_isNear_5 11 rfl rfl)
abbrev cX4_says : ByteArray := prog_20_method_9_code
def yX4_says : MethodName := ⟨RX4, "says", "(II)Z"⟩
def dkwX4_says_2 : List UInt8 := [154, 0, 7, 4, 167, 0, 4, 3, 172]
abbrev dktX4_says_2 : List UInt8 := dkwX4_says_2 ++ []
def dkwX4_says_1 : List UInt8 := [182, 0, 53, 192, 0, 57, 42, 180, 0, 26, 27, 182, 0, 53, 192, 0, 123, 180, 0, 125, 182, 0, 128]
abbrev dktX4_says_1 : List UInt8 := dkwX4_says_1 ++ dktX4_says_2
def dkwX4_says_0 : List UInt8 := [42, 180, 0, 26, 27, 182, 0, 53, 192, 0, 123, 180, 0, 125, 2, 159, 0, 34, 42, 180, 0, 20, 28]
abbrev dktX4_says_0 : List UInt8 := dkwX4_says_0 ++ dktX4_says_1
theorem dksX4_says_0 : cX4_says.data.toList.drop 0 = dktX4_says_0 := by decide +kernel
theorem dksX4_says_1 : cX4_says.data.toList.drop 23 = dktX4_says_1 := dk_seg dksX4_says_0 23 rfl rfl
theorem dksX4_says_2 : cX4_says.data.toList.drop 46 = dktX4_says_2 := dk_seg dksX4_says_1 23 rfl rfl
theorem dX4_says_0 : decode cX4_says 0 = .ok (.aload_n 0, 1) := dk_42 (dk_at dksX4_says_0 0 rfl rfl)
theorem dX4_says_1 : decode cX4_says 1 = .ok (.getfield 26, 3) := dk_180 0 26 (dk_at dksX4_says_0 1 rfl rfl)
theorem dX4_says_4 : decode cX4_says 4 = .ok (.iload_n 1, 1) := dk_27 (dk_at dksX4_says_0 4 rfl rfl)
theorem dX4_says_5 : decode cX4_says 5 = .ok (.invokevirtual 53, 3) := dk_182 0 53 (dk_at dksX4_says_0 5 rfl rfl)
theorem dX4_says_8 : decode cX4_says 8 = .ok (.checkcast 123, 3) := dk_192 0 123 (dk_at dksX4_says_0 8 rfl rfl)
theorem dX4_says_11 : decode cX4_says 11 = .ok (.getfield 125, 3) := dk_180 0 125 (dk_at dksX4_says_0 11 rfl rfl)
theorem dX4_says_14 : decode cX4_says 14 = .ok (.iconst (-1), 1) := dk_2 (dk_at dksX4_says_0 14 rfl rfl)
theorem dX4_says_15 : decode cX4_says 15 = .ok (.if_icmp .eq 34, 3) := dk_159 0 34 (dk_at dksX4_says_0 15 rfl rfl)
theorem dX4_says_18 : decode cX4_says 18 = .ok (.aload_n 0, 1) := dk_42 (dk_at dksX4_says_0 18 rfl rfl)
theorem dX4_says_19 : decode cX4_says 19 = .ok (.getfield 20, 3) := dk_180 0 20 (dk_at dksX4_says_0 19 rfl rfl)
theorem dX4_says_22 : decode cX4_says 22 = .ok (.iload_n 2, 1) := dk_28 (dk_at dksX4_says_0 22 rfl rfl)
theorem dX4_says_23 : decode cX4_says 23 = .ok (.invokevirtual 53, 3) := dk_182 0 53 (dk_at dksX4_says_1 0 rfl rfl)
theorem dX4_says_26 : decode cX4_says 26 = .ok (.checkcast 57, 3) := dk_192 0 57 (dk_at dksX4_says_1 3 rfl rfl)
theorem dX4_says_29 : decode cX4_says 29 = .ok (.aload_n 0, 1) := dk_42 (dk_at dksX4_says_1 6 rfl rfl)
theorem dX4_says_30 : decode cX4_says 30 = .ok (.getfield 26, 3) := dk_180 0 26 (dk_at dksX4_says_1 7 rfl rfl)
theorem dX4_says_33 : decode cX4_says 33 = .ok (.iload_n 1, 1) := dk_27 (dk_at dksX4_says_1 10 rfl rfl)
theorem dX4_says_34 : decode cX4_says 34 = .ok (.invokevirtual 53, 3) := dk_182 0 53 (dk_at dksX4_says_1 11 rfl rfl)
theorem dX4_says_37 : decode cX4_says 37 = .ok (.checkcast 123, 3) := dk_192 0 123 (dk_at dksX4_says_1 14 rfl rfl)
theorem dX4_says_40 : decode cX4_says 40 = .ok (.getfield 125, 3) := dk_180 0 125 (dk_at dksX4_says_1 17 rfl rfl)
theorem dX4_says_43 : decode cX4_says 43 = .ok (.invokevirtual 128, 3) := dk_182 0 128 (dk_at dksX4_says_1 20 rfl rfl)
theorem dX4_says_46 : decode cX4_says 46 = .ok (.ifCond .ne 7, 3) := dk_154 0 7 (dk_at dksX4_says_2 0 rfl rfl)
theorem dX4_says_49 : decode cX4_says 49 = .ok (.iconst 1, 1) := dk_4 (dk_at dksX4_says_2 3 rfl rfl)
theorem dX4_says_50 : decode cX4_says 50 = .ok (.goto 4, 3) := dk_167 0 4 (dk_at dksX4_says_2 4 rfl rfl)
theorem dX4_says_53 : decode cX4_says 53 = .ok (.iconst 0, 1) := dk_3 (dk_at dksX4_says_2 7 rfl rfl)
theorem dX4_says_54 : decode cX4_says 54 = .ok (.ireturn, 1) := dk_172 (dk_at dksX4_says_2 8 rfl rfl)
abbrev cX4_hears : ByteArray := prog_20_method_10_code
def yX4_hears : MethodName := ⟨RX4, "hears", "(III)Z"⟩
def dkwX4_hears_1 : List UInt8 := [167, 0, 4, 3, 182, 0, 136, 172]
abbrev dktX4_hears_1 : List UInt8 := dkwX4_hears_1 ++ []
def dkwX4_hears_0 : List UInt8 := [42, 180, 0, 14, 27, 182, 0, 53, 192, 0, 69, 42, 28, 29, 182, 0, 132, 28, 29, 160, 0, 7, 4]
abbrev dktX4_hears_0 : List UInt8 := dkwX4_hears_0 ++ dktX4_hears_1
theorem dksX4_hears_0 : cX4_hears.data.toList.drop 0 = dktX4_hears_0 := by decide +kernel
theorem dksX4_hears_1 : cX4_hears.data.toList.drop 23 = dktX4_hears_1 := dk_seg dksX4_hears_0 23 rfl rfl
theorem dX4_hears_0 : decode cX4_hears 0 = .ok (.aload_n 0, 1) := dk_42 (dk_at dksX4_hears_0 0 rfl rfl)
theorem dX4_hears_1 : decode cX4_hears 1 = .ok (.getfield 14, 3) := dk_180 0 14 (dk_at dksX4_hears_0 1 rfl rfl)
theorem dX4_hears_4 : decode cX4_hears 4 = .ok (.iload_n 1, 1) := dk_27 (dk_at dksX4_hears_0 4 rfl rfl)
theorem dX4_hears_5 : decode cX4_hears 5 = .ok (.invokevirtual 53, 3) := dk_182 0 53 (dk_at dksX4_hears_0 5 rfl rfl)
theorem dX4_hears_8 : decode cX4_hears 8 = .ok (.checkcast 69, 3) := dk_192 0 69 (dk_at dksX4_hears_0 8 rfl rfl)
theorem dX4_hears_11 : decode cX4_hears 11 = .ok (.aload_n 0, 1) := dk_42 (dk_at dksX4_hears_0 11 rfl rfl)
theorem dX4_hears_12 : decode cX4_hears 12 = .ok (.iload_n 2, 1) := dk_28 (dk_at dksX4_hears_0 12 rfl rfl)
theorem dX4_hears_13 : decode cX4_hears 13 = .ok (.iload_n 3, 1) := dk_29 (dk_at dksX4_hears_0 13 rfl rfl)
theorem dX4_hears_14 : decode cX4_hears 14 = .ok (.invokevirtual 132, 3) := dk_182 0 132 (dk_at dksX4_hears_0 14 rfl rfl)
theorem dX4_hears_17 : decode cX4_hears 17 = .ok (.iload_n 2, 1) := dk_28 (dk_at dksX4_hears_0 17 rfl rfl)
theorem dX4_hears_18 : decode cX4_hears 18 = .ok (.iload_n 3, 1) := dk_29 (dk_at dksX4_hears_0 18 rfl rfl)
theorem dX4_hears_19 : decode cX4_hears 19 = .ok (.if_icmp .ne 7, 3) := dk_160 0 7 (dk_at dksX4_hears_0 19 rfl rfl)
theorem dX4_hears_22 : decode cX4_hears 22 = .ok (.iconst 1, 1) := dk_4 (dk_at dksX4_hears_0 22 rfl rfl)
theorem dX4_hears_23 : decode cX4_hears 23 = .ok (.goto 4, 3) := dk_167 0 4 (dk_at dksX4_hears_1 0 rfl rfl)
theorem dX4_hears_26 : decode cX4_hears 26 = .ok (.iconst 0, 1) := dk_3 (dk_at dksX4_hears_1 3 rfl rfl)
theorem dX4_hears_27 : decode cX4_hears 27 = .ok (.invokevirtual 136, 3) := dk_182 0 136 (dk_at dksX4_hears_1 4 rfl rfl)
theorem dX4_hears_30 : decode cX4_hears 30 = .ok (.ireturn, 1) := dk_172 (dk_at dksX4_hears_1 7 rfl rfl)
theorem q127 : (Jvm.Cond.initialized "NameOrchard$Orchard") ∈ lw_all := lw_g (lw_at lw_m1 4 rfl) rfl
theorem q309 : (Jvm.Cond.instantiable "NameOrchard$Orchard" (12 : Nat)) ∈ lw_all := lw_g (lw_at lw_m1 186 rfl) rfl
theorem q311 : (Jvm.Cond.instanceMethod ({ cls := "NameOrchard$Orchard", name := "<init>", desc := "()V" } : Jvm.MethodName)) ∈ lw_all := lw_g (lw_at lw_m1 188 rfl) rfl
theorem q312 : (Jvm.Cond.code ({ cls := "NameOrchard$Orchard", name := "<init>", desc := "()V" } : Jvm.MethodName) prog_20_method_1_code (1 : Nat) (Option.none : Option Jvm.ClassFile.FieldType)) ∈ lw_all := lw_g (lw_at lw_m1 189 rfl) rfl
theorem q313 : (Jvm.Cond.methodLink "NameOrchard$Orchard" (3 : Nat) ({ cls := "java/lang/Object", name := "<init>", desc := "()V" } : Jvm.MethodName)) ∈ lw_all := lw_g (lw_at lw_m1 190 rfl) rfl
theorem q314 : (Jvm.Cond.classLink "NameOrchard$Orchard" (9 : Nat) "java/util/ArrayList") ∈ lw_all := lw_g (lw_at lw_m1 191 rfl) rfl
theorem q316 : (Jvm.Cond.methodLink "NameOrchard$Orchard" (11 : Nat) ({ cls := "java/util/ArrayList", name := "<init>", desc := "(I)V" } : Jvm.MethodName)) ∈ lw_all := lw_g (lw_at lw_m1 193 rfl) rfl
theorem q342 : (Jvm.Cond.classLink "NameOrchard$Orchard" (38 : Nat) "NameOrchard$Facts") ∈ lw_all := lw_g (lw_at lw_m1 219 rfl) rfl
theorem q344 : (Jvm.Cond.methodLinkNest "NameOrchard$Orchard" (40 : Nat) ({ cls := "NameOrchard$Facts", name := "<init>", desc := "()V" } : Jvm.MethodName) "NameOrchard") ∈ lw_tbl := lw_at lw_m1 221 rfl
theorem q350 : (Jvm.Cond.fieldLink "NameOrchard$Orchard" (90 : Nat) "NameOrchard$Facts" "of" "[I") ∈ lw_all := lw_g (lw_at lw_m1 227 rfl) rfl
theorem q354 : (Jvm.Cond.fieldLink "NameOrchard$Orchard" (14 : Nat) "NameOrchard$Orchard" "apples" "Ljava/util/ArrayList;") ∈ lw_all := lw_g (lw_at lw_m1 231 rfl) rfl
theorem q359 : (Jvm.Cond.fieldLink "NameOrchard$Orchard" (20 : Nat) "NameOrchard$Orchard" "sounds" "Ljava/util/ArrayList;") ∈ lw_all := lw_g (lw_at lw_m1 236 rfl) rfl
theorem q362 : (Jvm.Cond.fieldLink "NameOrchard$Orchard" (23 : Nat) "NameOrchard$Orchard" "peopleNames" "Ljava/util/ArrayList;") ∈ lw_all := lw_g (lw_at lw_m1 239 rfl) rfl
theorem q364 : (Jvm.Cond.fieldLink "NameOrchard$Orchard" (26 : Nat) "NameOrchard$Orchard" "people" "Ljava/util/ArrayList;") ∈ lw_all := lw_g (lw_at lw_m2 1 rfl) rfl
theorem q369 : (Jvm.Cond.fieldLink "NameOrchard$Orchard" (29 : Nat) "NameOrchard$Orchard" "strangers" "Ljava/util/ArrayList;") ∈ lw_all := lw_g (lw_at lw_m2 6 rfl) rfl
theorem q372 : (Jvm.Cond.fieldLink "NameOrchard$Orchard" (32 : Nat) "NameOrchard$Orchard" "pages" "Ljava/util/ArrayList;") ∈ lw_all := lw_g (lw_at lw_m2 9 rfl) rfl
theorem q375 : (Jvm.Cond.fieldLink "NameOrchard$Orchard" (35 : Nat) "NameOrchard$Orchard" "banns" "Ljava/util/ArrayList;") ∈ lw_all := lw_g (lw_at lw_m2 12 rfl) rfl
theorem q379 : (Jvm.Cond.fieldLink "NameOrchard$Orchard" (86 : Nat) "NameOrchard$Orchard" "near" "LNameOrchard$Expression;") ∈ lw_all := lw_g (lw_at lw_m2 16 rfl) rfl
theorem q381 : (Jvm.Cond.fieldLink "NameOrchard$Orchard" (109 : Nat) "NameOrchard$Orchard" "value" "LNameOrchard$Expression;") ∈ lw_all := lw_g (lw_at lw_m2 18 rfl) rfl
theorem q384 : (Jvm.Cond.fieldLink "NameOrchard$Orchard" (41 : Nat) "NameOrchard$Orchard" "facts" "LNameOrchard$Facts;") ∈ lw_all := lw_g (lw_at lw_m2 21 rfl) rfl
theorem q385 : (Jvm.Cond.fieldLink "NameOrchard$Orchard" (45 : Nat) "NameOrchard$Orchard" "row" "[I") ∈ lw_all := lw_g (lw_at lw_m2 22 rfl) rfl
theorem q386 : (Jvm.Cond.laysFinal "NameOrchard$Orchard" "NameOrchard$Orchard" "apples" "Ljava/util/ArrayList;") ∈ lw_all := lw_g (lw_at lw_m2 23 rfl) rfl
theorem q387 : (Jvm.Cond.soleField "NameOrchard$Orchard" "apples") ∈ lw_all := lw_g (lw_at lw_m2 24 rfl) rfl
theorem q388 : (Jvm.Cond.laysFinal "NameOrchard$Orchard" "NameOrchard$Orchard" "sounds" "Ljava/util/ArrayList;") ∈ lw_all := lw_g (lw_at lw_m2 25 rfl) rfl
theorem q389 : (Jvm.Cond.soleField "NameOrchard$Orchard" "sounds") ∈ lw_all := lw_g (lw_at lw_m2 26 rfl) rfl
theorem q390 : (Jvm.Cond.laysFinal "NameOrchard$Orchard" "NameOrchard$Orchard" "peopleNames" "Ljava/util/ArrayList;") ∈ lw_all := lw_g (lw_at lw_m2 27 rfl) rfl
theorem q391 : (Jvm.Cond.soleField "NameOrchard$Orchard" "peopleNames") ∈ lw_all := lw_g (lw_at lw_m2 28 rfl) rfl
theorem q392 : (Jvm.Cond.laysFinal "NameOrchard$Orchard" "NameOrchard$Orchard" "people" "Ljava/util/ArrayList;") ∈ lw_all := lw_g (lw_at lw_m2 29 rfl) rfl
theorem q393 : (Jvm.Cond.soleField "NameOrchard$Orchard" "people") ∈ lw_all := lw_g (lw_at lw_m2 30 rfl) rfl
theorem q394 : (Jvm.Cond.laysFinal "NameOrchard$Orchard" "NameOrchard$Orchard" "strangers" "Ljava/util/ArrayList;") ∈ lw_all := lw_g (lw_at lw_m2 31 rfl) rfl
theorem q395 : (Jvm.Cond.soleField "NameOrchard$Orchard" "strangers") ∈ lw_all := lw_g (lw_at lw_m2 32 rfl) rfl
theorem q396 : (Jvm.Cond.laysFinal "NameOrchard$Orchard" "NameOrchard$Orchard" "pages" "Ljava/util/ArrayList;") ∈ lw_all := lw_g (lw_at lw_m2 33 rfl) rfl
theorem q397 : (Jvm.Cond.soleField "NameOrchard$Orchard" "pages") ∈ lw_all := lw_g (lw_at lw_m2 34 rfl) rfl
theorem q398 : (Jvm.Cond.laysFinal "NameOrchard$Orchard" "NameOrchard$Orchard" "banns" "Ljava/util/ArrayList;") ∈ lw_all := lw_g (lw_at lw_m2 35 rfl) rfl
theorem q399 : (Jvm.Cond.soleField "NameOrchard$Orchard" "banns") ∈ lw_all := lw_g (lw_at lw_m2 36 rfl) rfl
theorem q400 : (Jvm.Cond.lays "NameOrchard$Orchard" "NameOrchard$Orchard" "near" "LNameOrchard$Expression;") ∈ lw_all := lw_g (lw_at lw_m2 37 rfl) rfl
theorem q401 : (Jvm.Cond.soleField "NameOrchard$Orchard" "near") ∈ lw_all := lw_g (lw_at lw_m2 38 rfl) rfl
theorem q402 : (Jvm.Cond.lays "NameOrchard$Orchard" "NameOrchard$Orchard" "value" "LNameOrchard$Expression;") ∈ lw_all := lw_g (lw_at lw_m2 39 rfl) rfl
theorem q403 : (Jvm.Cond.soleField "NameOrchard$Orchard" "value") ∈ lw_all := lw_g (lw_at lw_m2 40 rfl) rfl
theorem q404 : (Jvm.Cond.lays "NameOrchard$Orchard" "NameOrchard$Orchard" "others" "I") ∈ lw_all := lw_g (lw_at lw_m2 41 rfl) rfl
theorem q405 : (Jvm.Cond.soleField "NameOrchard$Orchard" "others") ∈ lw_all := lw_g (lw_at lw_m2 42 rfl) rfl
theorem q406 : (Jvm.Cond.laysFinal "NameOrchard$Orchard" "NameOrchard$Orchard" "facts" "LNameOrchard$Facts;") ∈ lw_all := lw_g (lw_at lw_m2 43 rfl) rfl
theorem q407 : (Jvm.Cond.soleField "NameOrchard$Orchard" "facts") ∈ lw_all := lw_g (lw_at lw_m2 44 rfl) rfl
theorem q408 : (Jvm.Cond.laysFinal "NameOrchard$Orchard" "NameOrchard$Orchard" "row" "[I") ∈ lw_all := lw_g (lw_at lw_m2 45 rfl) rfl
theorem q409 : (Jvm.Cond.soleField "NameOrchard$Orchard" "row") ∈ lw_all := lw_g (lw_at lw_m2 46 rfl) rfl
theorem q410 : (Jvm.Cond.superclass "NameOrchard$Orchard" "java/lang/Object") ∈ lw_all := lw_g (lw_at lw_m2 47 rfl) rfl
theorem q791 : (Jvm.Cond.instanceMethod ({ cls := "NameOrchard$Orchard", name := "sound", desc := "(J)I" } : Jvm.MethodName)) ∈ lw_all := lw_g (lw_at lw_m3 188 rfl) rfl
theorem q792 : (Jvm.Cond.selects "NameOrchard$Orchard" ({ cls := "NameOrchard$Orchard", name := "sound", desc := "(J)I" } : Jvm.MethodName) ({ cls := "NameOrchard$Orchard", name := "sound", desc := "(J)I" } : Jvm.MethodName)) ∈ lw_all := lw_g (lw_at lw_m3 189 rfl) rfl
theorem q793 : (Jvm.Cond.code ({ cls := "NameOrchard$Orchard", name := "sound", desc := "(J)I" } : Jvm.MethodName) prog_20_method_2_code (4 : Nat) (Option.some Jvm.ClassFile.FieldType.int)) ∈ lw_all := lw_g (lw_at lw_m3 190 rfl) rfl
theorem q794 : (Jvm.Cond.methodLink "NameOrchard$Orchard" (49 : Nat) ({ cls := "java/util/ArrayList", name := "size", desc := "()I" } : Jvm.MethodName)) ∈ lw_all := lw_g (lw_at lw_m3 191 rfl) rfl
theorem q795 : (Jvm.Cond.methodLink "NameOrchard$Orchard" (53 : Nat) ({ cls := "java/util/ArrayList", name := "get", desc := "(I)Ljava/lang/Object;" } : Jvm.MethodName)) ∈ lw_all := lw_g (lw_at lw_m3 192 rfl) rfl
theorem q796 : (Jvm.Cond.classLink "NameOrchard$Orchard" (57 : Nat) "NameOrchard$Sound") ∈ lw_all := lw_g (lw_at lw_m3 193 rfl) rfl
theorem q798 : (Jvm.Cond.instanceMethod ({ cls := "NameOrchard$Orchard", name := "person", desc := "(J)I" } : Jvm.MethodName)) ∈ lw_all := lw_g (lw_at lw_m3 195 rfl) rfl
theorem q799 : (Jvm.Cond.selects "NameOrchard$Orchard" ({ cls := "NameOrchard$Orchard", name := "person", desc := "(J)I" } : Jvm.MethodName) ({ cls := "NameOrchard$Orchard", name := "person", desc := "(J)I" } : Jvm.MethodName)) ∈ lw_all := lw_g (lw_at lw_m3 196 rfl) rfl
theorem q800 : (Jvm.Cond.code ({ cls := "NameOrchard$Orchard", name := "person", desc := "(J)I" } : Jvm.MethodName) prog_20_method_3_code (4 : Nat) (Option.some Jvm.ClassFile.FieldType.int)) ∈ lw_all := lw_g (lw_at lw_m3 197 rfl) rfl
theorem q801 : (Jvm.Cond.classLink "NameOrchard$Orchard" (63 : Nat) "java/lang/Long") ∈ lw_all := lw_g (lw_at lw_m3 198 rfl) rfl
theorem q802 : (Jvm.Cond.methodLink "NameOrchard$Orchard" (65 : Nat) ({ cls := "java/lang/Long", name := "longValue", desc := "()J" } : Jvm.MethodName)) ∈ lw_all := lw_g (lw_at lw_m3 199 rfl) rfl
theorem q836 : (Jvm.Cond.fieldLink "NameOrchard$Orchard" (71 : Nat) "NameOrchard$Apple" "sound" "I") ∈ lw_all := lw_g (lw_at lw_m3 233 rfl) rfl
theorem q844 : (Jvm.Cond.fieldLink "NameOrchard$Orchard" (106 : Nat) "NameOrchard$Apple" "ripe" "I") ∈ lw_all := lw_g (lw_at lw_m4 1 rfl) rfl
theorem q848 : (Jvm.Cond.fieldLink "NameOrchard$Orchard" (112 : Nat) "NameOrchard$Apple" "worth" "I") ∈ lw_all := lw_g (lw_at lw_m4 5 rfl) rfl
theorem q950 : (Jvm.Cond.selects "NameOrchard$Orchard" ({ cls := "java/lang/Object", name := "getClass", desc := "()Ljava/lang/Class;" } : Jvm.MethodName) ({ cls := "java/lang/Object", name := "getClass", desc := "()Ljava/lang/Class;" } : Jvm.MethodName)) ∈ lw_all := lw_g (lw_at lw_m4 107 rfl) rfl
theorem q987 : (Jvm.Cond.fieldLink "NameOrchard$Orchard" (59 : Nat) "NameOrchard$Sound" "name" "J") ∈ lw_all := lw_g (lw_at lw_m4 144 rfl) rfl
theorem q1010 : (Jvm.Cond.instanceMethod ({ cls := "NameOrchard$Orchard", name := "apple", desc := "(I)I" } : Jvm.MethodName)) ∈ lw_all := lw_g (lw_at lw_m4 167 rfl) rfl
theorem q1011 : (Jvm.Cond.selects "NameOrchard$Orchard" ({ cls := "NameOrchard$Orchard", name := "apple", desc := "(I)I" } : Jvm.MethodName) ({ cls := "NameOrchard$Orchard", name := "apple", desc := "(I)I" } : Jvm.MethodName)) ∈ lw_all := lw_g (lw_at lw_m4 168 rfl) rfl
theorem q1012 : (Jvm.Cond.code ({ cls := "NameOrchard$Orchard", name := "apple", desc := "(I)I" } : Jvm.MethodName) prog_20_method_4_code (3 : Nat) (Option.some Jvm.ClassFile.FieldType.int)) ∈ lw_all := lw_g (lw_at lw_m4 169 rfl) rfl
theorem q1013 : (Jvm.Cond.classLink "NameOrchard$Orchard" (69 : Nat) "NameOrchard$Apple") ∈ lw_all := lw_g (lw_at lw_m4 170 rfl) rfl
theorem q1049 : (Jvm.Cond.fieldLink "NameOrchard$Orchard" (125 : Nat) "NameOrchard$Person" "mute" "I") ∈ lw_all := lw_g (lw_at lw_m4 206 rfl) rfl
theorem q1342 : (Jvm.Cond.instanceMethod ({ cls := "NameOrchard$Orchard", name := "value", desc := "(II)I" } : Jvm.MethodName)) ∈ lw_all := lw_g (lw_at lw_m6 19 rfl) rfl
theorem q1343 : (Jvm.Cond.selects "NameOrchard$Orchard" ({ cls := "NameOrchard$Orchard", name := "value", desc := "(II)I" } : Jvm.MethodName) ({ cls := "NameOrchard$Orchard", name := "value", desc := "(II)I" } : Jvm.MethodName)) ∈ lw_all := lw_g (lw_at lw_m6 20 rfl) rfl
theorem q1344 : (Jvm.Cond.code ({ cls := "NameOrchard$Orchard", name := "value", desc := "(II)I" } : Jvm.MethodName) prog_20_method_8_code (5 : Nat) (Option.some Jvm.ClassFile.FieldType.int)) ∈ lw_all := lw_g (lw_at lw_m6 21 rfl) rfl
theorem q1345 : (Jvm.Cond.methodLink "NameOrchard$Orchard" (101 : Nat) ({ cls := "NameOrchard$Expression", name := "of", desc := "(LNameOrchard$Facts;)I" } : Jvm.MethodName)) ∈ lw_all := lw_g (lw_at lw_m6 22 rfl) rfl
theorem q1401 : (Jvm.Cond.methodLink "NameOrchard$Orchard" (115 : Nat) ({ cls := "java/lang/Math", name := "min", desc := "(II)I" } : Jvm.MethodName)) ∈ lw_all := lw_g (lw_at lw_m6 78 rfl) rfl
theorem q1402 : (Jvm.Cond.methodLink "NameOrchard$Orchard" (120 : Nat) ({ cls := "java/lang/Math", name := "max", desc := "(II)I" } : Jvm.MethodName)) ∈ lw_all := lw_g (lw_at lw_m6 79 rfl) rfl
theorem q1416 : (Jvm.Cond.instanceMethod ({ cls := "NameOrchard$Orchard", name := "edits", desc := "(II)I" } : Jvm.MethodName)) ∈ lw_all := lw_g (lw_at lw_m6 93 rfl) rfl
theorem q1417 : (Jvm.Cond.selects "NameOrchard$Orchard" ({ cls := "NameOrchard$Orchard", name := "edits", desc := "(II)I" } : Jvm.MethodName) ({ cls := "NameOrchard$Orchard", name := "edits", desc := "(II)I" } : Jvm.MethodName)) ∈ lw_all := lw_g (lw_at lw_m6 94 rfl) rfl
theorem q1418 : (Jvm.Cond.code ({ cls := "NameOrchard$Orchard", name := "edits", desc := "(II)I" } : Jvm.MethodName) prog_20_method_5_code (3 : Nat) (Option.some Jvm.ClassFile.FieldType.int)) ∈ lw_all := lw_g (lw_at lw_m6 95 rfl) rfl
theorem q1419 : (Jvm.Cond.methodLink "NameOrchard$Orchard" (75 : Nat) ({ cls := "NameOrchard$Sound", name := "edits", desc := "(LNameOrchard$Sound;[I)I" } : Jvm.MethodName)) ∈ lw_all := lw_g (lw_at lw_m6 96 rfl) rfl
theorem q1430 : (Jvm.Cond.instanceMethod ({ cls := "NameOrchard$Orchard", name := "rhyme", desc := "(II)I" } : Jvm.MethodName)) ∈ lw_all := lw_g (lw_at lw_m6 107 rfl) rfl
theorem q1431 : (Jvm.Cond.selects "NameOrchard$Orchard" ({ cls := "NameOrchard$Orchard", name := "rhyme", desc := "(II)I" } : Jvm.MethodName) ({ cls := "NameOrchard$Orchard", name := "rhyme", desc := "(II)I" } : Jvm.MethodName)) ∈ lw_all := lw_g (lw_at lw_m6 108 rfl) rfl
theorem q1432 : (Jvm.Cond.code ({ cls := "NameOrchard$Orchard", name := "rhyme", desc := "(II)I" } : Jvm.MethodName) prog_20_method_6_code (3 : Nat) (Option.some Jvm.ClassFile.FieldType.int)) ∈ lw_all := lw_g (lw_at lw_m6 109 rfl) rfl
theorem q1433 : (Jvm.Cond.methodLink "NameOrchard$Orchard" (79 : Nat) ({ cls := "NameOrchard$Sound", name := "rhyme", desc := "(LNameOrchard$Sound;)I" } : Jvm.MethodName)) ∈ lw_all := lw_g (lw_at lw_m6 110 rfl) rfl
theorem q1438 : (Jvm.Cond.instanceMethod ({ cls := "NameOrchard$Orchard", name := "isNear", desc := "(II)Z" } : Jvm.MethodName)) ∈ lw_all := lw_g (lw_at lw_m6 115 rfl) rfl
theorem q1439 : (Jvm.Cond.selects "NameOrchard$Orchard" ({ cls := "NameOrchard$Orchard", name := "isNear", desc := "(II)Z" } : Jvm.MethodName) ({ cls := "NameOrchard$Orchard", name := "isNear", desc := "(II)Z" } : Jvm.MethodName)) ∈ lw_all := lw_g (lw_at lw_m6 116 rfl) rfl
theorem q1440 : (Jvm.Cond.code ({ cls := "NameOrchard$Orchard", name := "isNear", desc := "(II)Z" } : Jvm.MethodName) prog_20_method_7_code (4 : Nat) (Option.some Jvm.ClassFile.FieldType.boolean)) ∈ lw_all := lw_g (lw_at lw_m6 117 rfl) rfl
theorem q1441 : (Jvm.Cond.methodLink "NameOrchard$Orchard" (83 : Nat) ({ cls := "NameOrchard$Orchard", name := "edits", desc := "(II)I" } : Jvm.MethodName)) ∈ lw_all := lw_g (lw_at lw_m6 118 rfl) rfl
theorem q1442 : (Jvm.Cond.methodLink "NameOrchard$Orchard" (93 : Nat) ({ cls := "NameOrchard$Sound", name := "start", desc := "(LNameOrchard$Sound;)I" } : Jvm.MethodName)) ∈ lw_all := lw_g (lw_at lw_m6 119 rfl) rfl
theorem q1443 : (Jvm.Cond.methodLink "NameOrchard$Orchard" (96 : Nat) ({ cls := "NameOrchard$Orchard", name := "rhyme", desc := "(II)I" } : Jvm.MethodName)) ∈ lw_all := lw_g (lw_at lw_m6 120 rfl) rfl
theorem q1444 : (Jvm.Cond.methodLink "NameOrchard$Orchard" (98 : Nat) ({ cls := "NameOrchard$Sound", name := "many", desc := "()I" } : Jvm.MethodName)) ∈ lw_all := lw_g (lw_at lw_m6 121 rfl) rfl
theorem q1457 : (Jvm.Cond.instanceMethod ({ cls := "NameOrchard$Orchard", name := "says", desc := "(II)Z" } : Jvm.MethodName)) ∈ lw_all := lw_g (lw_at lw_m6 134 rfl) rfl
theorem q1458 : (Jvm.Cond.selects "NameOrchard$Orchard" ({ cls := "NameOrchard$Orchard", name := "says", desc := "(II)Z" } : Jvm.MethodName) ({ cls := "NameOrchard$Orchard", name := "says", desc := "(II)Z" } : Jvm.MethodName)) ∈ lw_all := lw_g (lw_at lw_m6 135 rfl) rfl
theorem q1459 : (Jvm.Cond.code ({ cls := "NameOrchard$Orchard", name := "says", desc := "(II)Z" } : Jvm.MethodName) prog_20_method_9_code (3 : Nat) (Option.some Jvm.ClassFile.FieldType.boolean)) ∈ lw_all := lw_g (lw_at lw_m6 136 rfl) rfl
theorem q1460 : (Jvm.Cond.classLink "NameOrchard$Orchard" (123 : Nat) "NameOrchard$Person") ∈ lw_all := lw_g (lw_at lw_m6 137 rfl) rfl
theorem q1461 : (Jvm.Cond.methodLink "NameOrchard$Orchard" (128 : Nat) ({ cls := "NameOrchard$Sound", name := "holds", desc := "(I)Z" } : Jvm.MethodName)) ∈ lw_all := lw_g (lw_at lw_m6 138 rfl) rfl
theorem q1495 : (Jvm.Cond.instanceMethod ({ cls := "NameOrchard$Orchard", name := "hears", desc := "(III)Z" } : Jvm.MethodName)) ∈ lw_all := lw_g (lw_at lw_m6 172 rfl) rfl
theorem q1496 : (Jvm.Cond.selects "NameOrchard$Orchard" ({ cls := "NameOrchard$Orchard", name := "hears", desc := "(III)Z" } : Jvm.MethodName) ({ cls := "NameOrchard$Orchard", name := "hears", desc := "(III)Z" } : Jvm.MethodName)) ∈ lw_all := lw_g (lw_at lw_m6 173 rfl) rfl
theorem q1497 : (Jvm.Cond.code ({ cls := "NameOrchard$Orchard", name := "hears", desc := "(III)Z" } : Jvm.MethodName) prog_20_method_10_code (4 : Nat) (Option.some Jvm.ClassFile.FieldType.boolean)) ∈ lw_all := lw_g (lw_at lw_m6 174 rfl) rfl
theorem q1498 : (Jvm.Cond.methodLink "NameOrchard$Orchard" (132 : Nat) ({ cls := "NameOrchard$Orchard", name := "isNear", desc := "(II)Z" } : Jvm.MethodName)) ∈ lw_all := lw_g (lw_at lw_m6 175 rfl) rfl
theorem q1499 : (Jvm.Cond.methodLink "NameOrchard$Orchard" (136 : Nat) ({ cls := "NameOrchard$Apple", name := "hears", desc := "(ZZ)Z" } : Jvm.MethodName)) ∈ lw_all := lw_g (lw_at lw_m6 176 rfl) rfl
theorem q2606 : (Jvm.Cond.castable "NameOrchard$Orchard" "java/lang/Object") ∈ lw_tbl := lw_at lw_m11 83 rfl
theorem in_X4 : ∀ w ∈ wsX40, w ∈ lw_all := lw_in wsX40 [386, 388, 390, 392, 394, 396, 398, 400, 402, 404, 406, 408] (by decide +kernel) (by decide +kernel)
/-! NameOrchard$Facts -/
set_option maxRecDepth 100000
def RX5 : String := "NameOrchard$Facts"
def TX5 : u_T := fun k => match k with
  | _ => ("NameOrchard$Facts", "of", "[I", true)
def tyX5 : Nat → FieldType := fun k => match k with
  | _ => .array .int
abbrev wsX50 : List Cond := u_ws RX5 TX5 1
theorem nmX5 : ∀ a, a < 1 → ∀ b, b < 1 → a ≠ b → (TX5 a).2.1 ≠ (TX5 b).2.1 := by decide +kernel
theorem tyX5_ok : ∀ k, k < 1 → parseFieldDescriptor (TX5 k).2.2.1 = some (tyX5 k) := by decide +kernel
abbrev cX5_init : ByteArray := prog_12_method_1_code
def yX5_init : MethodName := ⟨RX5, "<init>", "()V"⟩
def dkwX5_init_0 : List UInt8 := [42, 183, 0, 1, 42, 7, 188, 10, 181, 0, 9, 177]
abbrev dktX5_init_0 : List UInt8 := dkwX5_init_0 ++ []
theorem dksX5_init_0 : cX5_init.data.toList.drop 0 = dktX5_init_0 := by decide +kernel
theorem dX5_init_0 : decode cX5_init 0 = .ok (.aload_n 0, 1) := dk_42 (dk_at dksX5_init_0 0 rfl rfl)
theorem dX5_init_1 : decode cX5_init 1 = .ok (.invokespecial 1, 3) := dk_183 0 1 (dk_at dksX5_init_0 1 rfl rfl)
theorem dX5_init_4 : decode cX5_init 4 = .ok (.aload_n 0, 1) := dk_42 (dk_at dksX5_init_0 4 rfl rfl)
theorem dX5_init_5 : decode cX5_init 5 = .ok (.iconst 4, 1) := dk_7 (dk_at dksX5_init_0 5 rfl rfl)
theorem dX5_init_6 : decode cX5_init 6 = .ok (.newarray .int, 2) := dk_188_10 (dk_at dksX5_init_0 6 rfl rfl)
theorem dX5_init_8 : decode cX5_init 8 = .ok (.putfield 9, 3) := dk_181 0 9 (dk_at dksX5_init_0 8 rfl rfl)
theorem dX5_init_11 : decode cX5_init 11 = .ok (.return_, 1) := dk_177 (dk_at dksX5_init_0 11 rfl rfl)
theorem q131 : (Jvm.Cond.initialized "NameOrchard$Facts") ∈ lw_all := lw_g (lw_at lw_m1 8 rfl) rfl
theorem q343 : (Jvm.Cond.instantiable "NameOrchard$Facts" (1 : Nat)) ∈ lw_all := lw_g (lw_at lw_m1 220 rfl) rfl
theorem q345 : (Jvm.Cond.instanceMethod ({ cls := "NameOrchard$Facts", name := "<init>", desc := "()V" } : Jvm.MethodName)) ∈ lw_all := lw_g (lw_at lw_m1 222 rfl) rfl
theorem q346 : (Jvm.Cond.code ({ cls := "NameOrchard$Facts", name := "<init>", desc := "()V" } : Jvm.MethodName) prog_12_method_1_code (1 : Nat) (Option.none : Option Jvm.ClassFile.FieldType)) ∈ lw_all := lw_g (lw_at lw_m1 223 rfl) rfl
theorem q347 : (Jvm.Cond.methodLink "NameOrchard$Facts" (1 : Nat) ({ cls := "java/lang/Object", name := "<init>", desc := "()V" } : Jvm.MethodName)) ∈ lw_all := lw_g (lw_at lw_m1 224 rfl) rfl
theorem q348 : (Jvm.Cond.fieldLink "NameOrchard$Facts" (9 : Nat) "NameOrchard$Facts" "of" "[I") ∈ lw_all := lw_g (lw_at lw_m1 225 rfl) rfl
theorem q351 : (Jvm.Cond.laysFinal "NameOrchard$Facts" "NameOrchard$Facts" "of" "[I") ∈ lw_all := lw_g (lw_at lw_m1 228 rfl) rfl
theorem q352 : (Jvm.Cond.soleField "NameOrchard$Facts" "of") ∈ lw_all := lw_g (lw_at lw_m1 229 rfl) rfl
theorem q353 : (Jvm.Cond.superclass "NameOrchard$Facts" "java/lang/Object") ∈ lw_all := lw_g (lw_at lw_m1 230 rfl) rfl
theorem q944 : (Jvm.Cond.selects "NameOrchard$Facts" ({ cls := "java/lang/Object", name := "getClass", desc := "()Ljava/lang/Class;" } : Jvm.MethodName) ({ cls := "java/lang/Object", name := "getClass", desc := "()Ljava/lang/Class;" } : Jvm.MethodName)) ∈ lw_all := lw_g (lw_at lw_m4 101 rfl) rfl
theorem q2608 : (Jvm.Cond.castable "NameOrchard$Facts" "java/lang/Object") ∈ lw_tbl := lw_at lw_m11 85 rfl
theorem in_X5 : ∀ w ∈ wsX50, w ∈ lw_all := lw_in wsX50 [351] (by decide +kernel) (by decide +kernel)
/-! NameOrchard$Reach -/
set_option maxRecDepth 100000
def RX6 : String := "NameOrchard$Reach"
def TX6 : u_T := fun k => match k with
  | 0 => ("NameOrchard$Reach", "wholly", "[I", true)
  | 1 => ("NameOrchard$Reach", "echo", "[I", true)
  | 2 => ("NameOrchard$Reach", "may", "[Z", true)
  | _ => ("NameOrchard$Reach", "this$0", "LNameOrchard;", true)
def tyX6 : Nat → FieldType := fun k => match k with
  | 0 => .array .int
  | 1 => .array .int
  | 2 => .array .boolean
  | _ => .object "NameOrchard"
abbrev wsX60 : List Cond := u_ws RX6 TX6 4
theorem nmX6 : ∀ a, a < 4 → ∀ b, b < 4 → a ≠ b → (TX6 a).2.1 ≠ (TX6 b).2.1 := by decide +kernel
theorem tyX6_ok : ∀ k, k < 4 → parseFieldDescriptor (TX6 k).2.2.1 = some (tyX6 k) := by decide +kernel
abbrev cX6_init : ByteArray := prog_26_method_1_code
def yX6_init : MethodName := ⟨RX6, "<init>", "(LNameOrchard;)V"⟩
def dkwX6_init_1 : List UInt8 := [181, 0, 19, 42, 16, 80, 188, 4, 181, 0, 22, 177]
abbrev dktX6_init_1 : List UInt8 := dkwX6_init_1 ++ []
def dkwX6_init_0 : List UInt8 := [42, 43, 181, 0, 3, 42, 183, 0, 9, 42, 16, 80, 188, 10, 181, 0, 15, 42, 16, 80, 188, 10]
abbrev dktX6_init_0 : List UInt8 := dkwX6_init_0 ++ dktX6_init_1
theorem dksX6_init_0 : cX6_init.data.toList.drop 0 = dktX6_init_0 := by decide +kernel
theorem dksX6_init_1 : cX6_init.data.toList.drop 22 = dktX6_init_1 := dk_seg dksX6_init_0 22 rfl rfl
theorem dX6_init_0 : decode cX6_init 0 = .ok (.aload_n 0, 1) := dk_42 (dk_at dksX6_init_0 0 rfl rfl)
theorem dX6_init_1 : decode cX6_init 1 = .ok (.aload_n 1, 1) := dk_43 (dk_at dksX6_init_0 1 rfl rfl)
theorem dX6_init_2 : decode cX6_init 2 = .ok (.putfield 3, 3) := dk_181 0 3 (dk_at dksX6_init_0 2 rfl rfl)
theorem dX6_init_5 : decode cX6_init 5 = .ok (.aload_n 0, 1) := dk_42 (dk_at dksX6_init_0 5 rfl rfl)
theorem dX6_init_6 : decode cX6_init 6 = .ok (.invokespecial 9, 3) := dk_183 0 9 (dk_at dksX6_init_0 6 rfl rfl)
theorem dX6_init_9 : decode cX6_init 9 = .ok (.aload_n 0, 1) := dk_42 (dk_at dksX6_init_0 9 rfl rfl)
theorem dX6_init_10 : decode cX6_init 10 = .ok (.bipush 80, 2) := dk_16 80 (dk_at dksX6_init_0 10 rfl rfl)
theorem dX6_init_12 : decode cX6_init 12 = .ok (.newarray .int, 2) := dk_188_10 (dk_at dksX6_init_0 12 rfl rfl)
theorem dX6_init_14 : decode cX6_init 14 = .ok (.putfield 15, 3) := dk_181 0 15 (dk_at dksX6_init_0 14 rfl rfl)
theorem dX6_init_17 : decode cX6_init 17 = .ok (.aload_n 0, 1) := dk_42 (dk_at dksX6_init_0 17 rfl rfl)
theorem dX6_init_18 : decode cX6_init 18 = .ok (.bipush 80, 2) := dk_16 80 (dk_at dksX6_init_0 18 rfl rfl)
theorem dX6_init_20 : decode cX6_init 20 = .ok (.newarray .int, 2) := dk_188_10 (dk_at dksX6_init_0 20 rfl rfl)
theorem dX6_init_22 : decode cX6_init 22 = .ok (.putfield 19, 3) := dk_181 0 19 (dk_at dksX6_init_1 0 rfl rfl)
theorem dX6_init_25 : decode cX6_init 25 = .ok (.aload_n 0, 1) := dk_42 (dk_at dksX6_init_1 3 rfl rfl)
theorem dX6_init_26 : decode cX6_init 26 = .ok (.bipush 80, 2) := dk_16 80 (dk_at dksX6_init_1 4 rfl rfl)
theorem dX6_init_28 : decode cX6_init 28 = .ok (.newarray .boolean, 2) := dk_188_4 (dk_at dksX6_init_1 6 rfl rfl)
theorem dX6_init_30 : decode cX6_init 30 = .ok (.putfield 22, 3) := dk_181 0 22 (dk_at dksX6_init_1 8 rfl rfl)
theorem dX6_init_33 : decode cX6_init 33 = .ok (.return_, 1) := dk_177 (dk_at dksX6_init_1 11 rfl rfl)
abbrev cX6_lays : ByteArray := prog_26_method_2_code
def yX6_lays : MethodName := ⟨RX6, "lays", "()V"⟩
def dkwX6_lays_6 : List UInt8 := [167, 255, 118, 177]
abbrev dktX6_lays_6 : List UInt8 := dkwX6_lays_6 ++ []
def dkwX6_lays_5 : List UInt8 := [180, 0, 59, 44, 180, 0, 63, 29, 3, 182, 0, 66, 79, 132, 3, 1, 167, 255, 161, 132, 1, 1]
abbrev dktX6_lays_5 : List UInt8 := dkwX6_lays_5 ++ dktX6_lays_6
def dkwX6_lays_4 : List UInt8 := [180, 0, 63, 29, 4, 182, 0, 66, 79, 42, 180, 0, 19, 21, 4, 42, 180, 0, 3, 180, 0, 55, 44]
abbrev dktX6_lays_4 : List UInt8 := dkwX6_lays_4 ++ dktX6_lays_5
def dkwX6_lays_3 : List UInt8 := [27, 29, 182, 0, 51, 84, 42, 180, 0, 15, 21, 4, 42, 180, 0, 3, 180, 0, 55, 44, 180, 0, 59, 44]
abbrev dktX6_lays_3 : List UInt8 := dkwX6_lays_3 ++ dktX6_lays_4
def dkwX6_lays_2 : List UInt8 := [162, 0, 90, 16, 16, 27, 104, 29, 96, 54, 4, 42, 180, 0, 22, 21, 4, 42, 180, 0, 3, 182, 0, 26]
abbrev dktX6_lays_2 : List UInt8 := dkwX6_lays_2 ++ dktX6_lays_3
def dkwX6_lays_1 : List UInt8 := [182, 0, 26, 180, 0, 30, 27, 182, 0, 42, 192, 0, 46, 77, 3, 62, 29, 42, 180, 0, 3, 182, 0, 48]
abbrev dktX6_lays_1 : List UInt8 := dkwX6_lays_1 ++ dktX6_lays_2
def dkwX6_lays_0 : List UInt8 := [3, 60, 27, 42, 180, 0, 3, 182, 0, 26, 180, 0, 30, 182, 0, 36, 162, 0, 127, 42, 180, 0, 3]
abbrev dktX6_lays_0 : List UInt8 := dkwX6_lays_0 ++ dktX6_lays_1
theorem dksX6_lays_0 : cX6_lays.data.toList.drop 0 = dktX6_lays_0 := by decide +kernel
theorem dksX6_lays_1 : cX6_lays.data.toList.drop 23 = dktX6_lays_1 := dk_seg dksX6_lays_0 23 rfl rfl
theorem dksX6_lays_2 : cX6_lays.data.toList.drop 47 = dktX6_lays_2 := dk_seg dksX6_lays_1 24 rfl rfl
theorem dksX6_lays_3 : cX6_lays.data.toList.drop 71 = dktX6_lays_3 := dk_seg dksX6_lays_2 24 rfl rfl
theorem dksX6_lays_4 : cX6_lays.data.toList.drop 95 = dktX6_lays_4 := dk_seg dksX6_lays_3 24 rfl rfl
theorem dksX6_lays_5 : cX6_lays.data.toList.drop 118 = dktX6_lays_5 := dk_seg dksX6_lays_4 23 rfl rfl
theorem dksX6_lays_6 : cX6_lays.data.toList.drop 140 = dktX6_lays_6 := dk_seg dksX6_lays_5 22 rfl rfl
theorem dX6_lays_0 : decode cX6_lays 0 = .ok (.iconst 0, 1) := dk_3 (dk_at dksX6_lays_0 0 rfl rfl)
theorem dX6_lays_1 : decode cX6_lays 1 = .ok (.istore_n 1, 1) := dk_60 (dk_at dksX6_lays_0 1 rfl rfl)
theorem dX6_lays_2 : decode cX6_lays 2 = .ok (.iload_n 1, 1) := dk_27 (dk_at dksX6_lays_0 2 rfl rfl)
theorem dX6_lays_3 : decode cX6_lays 3 = .ok (.aload_n 0, 1) := dk_42 (dk_at dksX6_lays_0 3 rfl rfl)
theorem dX6_lays_4 : decode cX6_lays 4 = .ok (.getfield 3, 3) := dk_180 0 3 (dk_at dksX6_lays_0 4 rfl rfl)
theorem dX6_lays_7 : decode cX6_lays 7 = .ok (.invokevirtual 26, 3) := dk_182 0 26 (dk_at dksX6_lays_0 7 rfl rfl)
theorem dX6_lays_10 : decode cX6_lays 10 = .ok (.getfield 30, 3) := dk_180 0 30 (dk_at dksX6_lays_0 10 rfl rfl)
theorem dX6_lays_13 : decode cX6_lays 13 = .ok (.invokevirtual 36, 3) := dk_182 0 36 (dk_at dksX6_lays_0 13 rfl rfl)
theorem dX6_lays_16 : decode cX6_lays 16 = .ok (.if_icmp .ge 127, 3) := dk_162 0 127 (dk_at dksX6_lays_0 16 rfl rfl)
theorem dX6_lays_19 : decode cX6_lays 19 = .ok (.aload_n 0, 1) := dk_42 (dk_at dksX6_lays_0 19 rfl rfl)
theorem dX6_lays_20 : decode cX6_lays 20 = .ok (.getfield 3, 3) := dk_180 0 3 (dk_at dksX6_lays_0 20 rfl rfl)
theorem dX6_lays_23 : decode cX6_lays 23 = .ok (.invokevirtual 26, 3) := dk_182 0 26 (dk_at dksX6_lays_1 0 rfl rfl)
theorem dX6_lays_26 : decode cX6_lays 26 = .ok (.getfield 30, 3) := dk_180 0 30 (dk_at dksX6_lays_1 3 rfl rfl)
theorem dX6_lays_29 : decode cX6_lays 29 = .ok (.iload_n 1, 1) := dk_27 (dk_at dksX6_lays_1 6 rfl rfl)
theorem dX6_lays_30 : decode cX6_lays 30 = .ok (.invokevirtual 42, 3) := dk_182 0 42 (dk_at dksX6_lays_1 7 rfl rfl)
theorem dX6_lays_33 : decode cX6_lays 33 = .ok (.checkcast 46, 3) := dk_192 0 46 (dk_at dksX6_lays_1 10 rfl rfl)
theorem dX6_lays_36 : decode cX6_lays 36 = .ok (.astore_n 2, 1) := dk_77 (dk_at dksX6_lays_1 13 rfl rfl)
theorem dX6_lays_37 : decode cX6_lays 37 = .ok (.iconst 0, 1) := dk_3 (dk_at dksX6_lays_1 14 rfl rfl)
theorem dX6_lays_38 : decode cX6_lays 38 = .ok (.istore_n 3, 1) := dk_62 (dk_at dksX6_lays_1 15 rfl rfl)
theorem dX6_lays_39 : decode cX6_lays 39 = .ok (.iload_n 3, 1) := dk_29 (dk_at dksX6_lays_1 16 rfl rfl)
theorem dX6_lays_40 : decode cX6_lays 40 = .ok (.aload_n 0, 1) := dk_42 (dk_at dksX6_lays_1 17 rfl rfl)
theorem dX6_lays_41 : decode cX6_lays 41 = .ok (.getfield 3, 3) := dk_180 0 3 (dk_at dksX6_lays_1 18 rfl rfl)
theorem dX6_lays_44 : decode cX6_lays 44 = .ok (.invokevirtual 48, 3) := dk_182 0 48 (dk_at dksX6_lays_1 21 rfl rfl)
theorem dX6_lays_47 : decode cX6_lays 47 = .ok (.if_icmp .ge 90, 3) := dk_162 0 90 (dk_at dksX6_lays_2 0 rfl rfl)
theorem dX6_lays_50 : decode cX6_lays 50 = .ok (.bipush 16, 2) := dk_16 16 (dk_at dksX6_lays_2 3 rfl rfl)
theorem dX6_lays_52 : decode cX6_lays 52 = .ok (.iload_n 1, 1) := dk_27 (dk_at dksX6_lays_2 5 rfl rfl)
theorem dX6_lays_53 : decode cX6_lays 53 = .ok (.imul, 1) := dk_104 (dk_at dksX6_lays_2 6 rfl rfl)
theorem dX6_lays_54 : decode cX6_lays 54 = .ok (.iload_n 3, 1) := dk_29 (dk_at dksX6_lays_2 7 rfl rfl)
theorem dX6_lays_55 : decode cX6_lays 55 = .ok (.iadd, 1) := dk_96 (dk_at dksX6_lays_2 8 rfl rfl)
theorem dX6_lays_56 : decode cX6_lays 56 = .ok (.istore 4, 2) := dk_54 4 (dk_at dksX6_lays_2 9 rfl rfl)
theorem dX6_lays_58 : decode cX6_lays 58 = .ok (.aload_n 0, 1) := dk_42 (dk_at dksX6_lays_2 11 rfl rfl)
theorem dX6_lays_59 : decode cX6_lays 59 = .ok (.getfield 22, 3) := dk_180 0 22 (dk_at dksX6_lays_2 12 rfl rfl)
theorem dX6_lays_62 : decode cX6_lays 62 = .ok (.iload 4, 2) := dk_21 4 (dk_at dksX6_lays_2 15 rfl rfl)
theorem dX6_lays_64 : decode cX6_lays 64 = .ok (.aload_n 0, 1) := dk_42 (dk_at dksX6_lays_2 17 rfl rfl)
theorem dX6_lays_65 : decode cX6_lays 65 = .ok (.getfield 3, 3) := dk_180 0 3 (dk_at dksX6_lays_2 18 rfl rfl)
theorem dX6_lays_68 : decode cX6_lays 68 = .ok (.invokevirtual 26, 3) := dk_182 0 26 (dk_at dksX6_lays_2 21 rfl rfl)
theorem dX6_lays_71 : decode cX6_lays 71 = .ok (.iload_n 1, 1) := dk_27 (dk_at dksX6_lays_3 0 rfl rfl)
theorem dX6_lays_72 : decode cX6_lays 72 = .ok (.iload_n 3, 1) := dk_29 (dk_at dksX6_lays_3 1 rfl rfl)
theorem dX6_lays_73 : decode cX6_lays 73 = .ok (.invokevirtual 51, 3) := dk_182 0 51 (dk_at dksX6_lays_3 2 rfl rfl)
theorem dX6_lays_76 : decode cX6_lays 76 = .ok (.bastore, 1) := dk_84 (dk_at dksX6_lays_3 5 rfl rfl)
theorem dX6_lays_77 : decode cX6_lays 77 = .ok (.aload_n 0, 1) := dk_42 (dk_at dksX6_lays_3 6 rfl rfl)
theorem dX6_lays_78 : decode cX6_lays 78 = .ok (.getfield 15, 3) := dk_180 0 15 (dk_at dksX6_lays_3 7 rfl rfl)
theorem dX6_lays_81 : decode cX6_lays 81 = .ok (.iload 4, 2) := dk_21 4 (dk_at dksX6_lays_3 10 rfl rfl)
theorem dX6_lays_83 : decode cX6_lays 83 = .ok (.aload_n 0, 1) := dk_42 (dk_at dksX6_lays_3 12 rfl rfl)
theorem dX6_lays_84 : decode cX6_lays 84 = .ok (.getfield 3, 3) := dk_180 0 3 (dk_at dksX6_lays_3 13 rfl rfl)
theorem dX6_lays_87 : decode cX6_lays 87 = .ok (.getfield 55, 3) := dk_180 0 55 (dk_at dksX6_lays_3 16 rfl rfl)
theorem dX6_lays_90 : decode cX6_lays 90 = .ok (.aload_n 2, 1) := dk_44 (dk_at dksX6_lays_3 19 rfl rfl)
theorem dX6_lays_91 : decode cX6_lays 91 = .ok (.getfield 59, 3) := dk_180 0 59 (dk_at dksX6_lays_3 20 rfl rfl)
theorem dX6_lays_94 : decode cX6_lays 94 = .ok (.aload_n 2, 1) := dk_44 (dk_at dksX6_lays_3 23 rfl rfl)
theorem dX6_lays_95 : decode cX6_lays 95 = .ok (.getfield 63, 3) := dk_180 0 63 (dk_at dksX6_lays_4 0 rfl rfl)
theorem dX6_lays_98 : decode cX6_lays 98 = .ok (.iload_n 3, 1) := dk_29 (dk_at dksX6_lays_4 3 rfl rfl)
theorem dX6_lays_99 : decode cX6_lays 99 = .ok (.iconst 1, 1) := dk_4 (dk_at dksX6_lays_4 4 rfl rfl)
theorem dX6_lays_100 : decode cX6_lays 100 = .ok (.invokevirtual 66, 3) := dk_182 0 66 (dk_at dksX6_lays_4 5 rfl rfl)
theorem dX6_lays_103 : decode cX6_lays 103 = .ok (.iastore, 1) := dk_79 (dk_at dksX6_lays_4 8 rfl rfl)
theorem dX6_lays_104 : decode cX6_lays 104 = .ok (.aload_n 0, 1) := dk_42 (dk_at dksX6_lays_4 9 rfl rfl)
theorem dX6_lays_105 : decode cX6_lays 105 = .ok (.getfield 19, 3) := dk_180 0 19 (dk_at dksX6_lays_4 10 rfl rfl)
theorem dX6_lays_108 : decode cX6_lays 108 = .ok (.iload 4, 2) := dk_21 4 (dk_at dksX6_lays_4 13 rfl rfl)
theorem dX6_lays_110 : decode cX6_lays 110 = .ok (.aload_n 0, 1) := dk_42 (dk_at dksX6_lays_4 15 rfl rfl)
theorem dX6_lays_111 : decode cX6_lays 111 = .ok (.getfield 3, 3) := dk_180 0 3 (dk_at dksX6_lays_4 16 rfl rfl)
theorem dX6_lays_114 : decode cX6_lays 114 = .ok (.getfield 55, 3) := dk_180 0 55 (dk_at dksX6_lays_4 19 rfl rfl)
theorem dX6_lays_117 : decode cX6_lays 117 = .ok (.aload_n 2, 1) := dk_44 (dk_at dksX6_lays_4 22 rfl rfl)
theorem dX6_lays_118 : decode cX6_lays 118 = .ok (.getfield 59, 3) := dk_180 0 59 (dk_at dksX6_lays_5 0 rfl rfl)
theorem dX6_lays_121 : decode cX6_lays 121 = .ok (.aload_n 2, 1) := dk_44 (dk_at dksX6_lays_5 3 rfl rfl)
theorem dX6_lays_122 : decode cX6_lays 122 = .ok (.getfield 63, 3) := dk_180 0 63 (dk_at dksX6_lays_5 4 rfl rfl)
theorem dX6_lays_125 : decode cX6_lays 125 = .ok (.iload_n 3, 1) := dk_29 (dk_at dksX6_lays_5 7 rfl rfl)
theorem dX6_lays_126 : decode cX6_lays 126 = .ok (.iconst 0, 1) := dk_3 (dk_at dksX6_lays_5 8 rfl rfl)
theorem dX6_lays_127 : decode cX6_lays 127 = .ok (.invokevirtual 66, 3) := dk_182 0 66 (dk_at dksX6_lays_5 9 rfl rfl)
theorem dX6_lays_130 : decode cX6_lays 130 = .ok (.iastore, 1) := dk_79 (dk_at dksX6_lays_5 12 rfl rfl)
theorem dX6_lays_131 : decode cX6_lays 131 = .ok (.iinc 3 1, 3) := dk_132 3 1 (dk_at dksX6_lays_5 13 rfl rfl)
theorem dX6_lays_134 : decode cX6_lays 134 = .ok (.goto (-95), 3) := dk_167 255 161 (dk_at dksX6_lays_5 16 rfl rfl)
theorem dX6_lays_137 : decode cX6_lays 137 = .ok (.iinc 1 1, 3) := dk_132 1 1 (dk_at dksX6_lays_5 19 rfl rfl)
theorem dX6_lays_140 : decode cX6_lays 140 = .ok (.goto (-138), 3) := dk_167 255 118 (dk_at dksX6_lays_6 0 rfl rfl)
theorem dX6_lays_143 : decode cX6_lays 143 = .ok (.return_, 1) := dk_177 (dk_at dksX6_lays_6 3 rfl rfl)
abbrev cX6_all : ByteArray := prog_26_method_3_code
def yX6_all : MethodName := ⟨RX6, "all", "()I"⟩
def dkwX6_all_0 : List UInt8 := [16, 16, 42, 180, 0, 3, 182, 0, 26, 180, 0, 30, 182, 0, 36, 104, 172]
abbrev dktX6_all_0 : List UInt8 := dkwX6_all_0 ++ []
theorem dksX6_all_0 : cX6_all.data.toList.drop 0 = dktX6_all_0 := by decide +kernel
theorem dX6_all_0 : decode cX6_all 0 = .ok (.bipush 16, 2) := dk_16 16 (dk_at dksX6_all_0 0 rfl rfl)
theorem dX6_all_2 : decode cX6_all 2 = .ok (.aload_n 0, 1) := dk_42 (dk_at dksX6_all_0 2 rfl rfl)
theorem dX6_all_3 : decode cX6_all 3 = .ok (.getfield 3, 3) := dk_180 0 3 (dk_at dksX6_all_0 3 rfl rfl)
theorem dX6_all_6 : decode cX6_all 6 = .ok (.invokevirtual 26, 3) := dk_182 0 26 (dk_at dksX6_all_0 6 rfl rfl)
theorem dX6_all_9 : decode cX6_all 9 = .ok (.getfield 30, 3) := dk_180 0 30 (dk_at dksX6_all_0 9 rfl rfl)
theorem dX6_all_12 : decode cX6_all 12 = .ok (.invokevirtual 36, 3) := dk_182 0 36 (dk_at dksX6_all_0 12 rfl rfl)
theorem dX6_all_15 : decode cX6_all 15 = .ok (.imul, 1) := dk_104 (dk_at dksX6_all_0 15 rfl rfl)
theorem dX6_all_16 : decode cX6_all 16 = .ok (.ireturn, 1) := dk_172 (dk_at dksX6_all_0 16 rfl rfl)
abbrev cX6_isNew : ByteArray := prog_26_method_6_code
def yX6_isNew : MethodName := ⟨RX6, "isNew", "(I)Z"⟩
def dkwX6_isNew_3 : List UInt8 := [172, 132, 2, 1, 167, 255, 208, 4, 172]
abbrev dktX6_isNew_3 : List UInt8 := dkwX6_isNew_3 ++ []
def dkwX6_isNew_2 : List UInt8 := [180, 0, 15, 27, 46, 160, 0, 20, 42, 180, 0, 19, 28, 46, 42, 180, 0, 19, 27, 46, 160, 0, 5, 3]
abbrev dktX6_isNew_2 : List UInt8 := dkwX6_isNew_2 ++ dktX6_isNew_3
def dkwX6_isNew_1 : List UInt8 := [3, 172, 3, 61, 28, 27, 162, 0, 49, 42, 28, 182, 0, 76, 153, 0, 35, 42, 180, 0, 15, 28, 46, 42]
abbrev dktX6_isNew_1 : List UInt8 := dkwX6_isNew_1 ++ dktX6_isNew_2
def dkwX6_isNew_0 : List UInt8 := [42, 27, 182, 0, 76, 153, 0, 19, 42, 180, 0, 15, 27, 46, 42, 180, 0, 19, 27, 46, 128, 154, 0, 5]
abbrev dktX6_isNew_0 : List UInt8 := dkwX6_isNew_0 ++ dktX6_isNew_1
theorem dksX6_isNew_0 : cX6_isNew.data.toList.drop 0 = dktX6_isNew_0 := by decide +kernel
theorem dksX6_isNew_1 : cX6_isNew.data.toList.drop 24 = dktX6_isNew_1 := dk_seg dksX6_isNew_0 24 rfl rfl
theorem dksX6_isNew_2 : cX6_isNew.data.toList.drop 48 = dktX6_isNew_2 := dk_seg dksX6_isNew_1 24 rfl rfl
theorem dksX6_isNew_3 : cX6_isNew.data.toList.drop 72 = dktX6_isNew_3 := dk_seg dksX6_isNew_2 24 rfl rfl
theorem dX6_isNew_0 : decode cX6_isNew 0 = .ok (.aload_n 0, 1) := dk_42 (dk_at dksX6_isNew_0 0 rfl rfl)
theorem dX6_isNew_1 : decode cX6_isNew 1 = .ok (.iload_n 1, 1) := dk_27 (dk_at dksX6_isNew_0 1 rfl rfl)
theorem dX6_isNew_2 : decode cX6_isNew 2 = .ok (.invokevirtual 76, 3) := dk_182 0 76 (dk_at dksX6_isNew_0 2 rfl rfl)
theorem dX6_isNew_5 : decode cX6_isNew 5 = .ok (.ifCond .eq 19, 3) := dk_153 0 19 (dk_at dksX6_isNew_0 5 rfl rfl)
theorem dX6_isNew_8 : decode cX6_isNew 8 = .ok (.aload_n 0, 1) := dk_42 (dk_at dksX6_isNew_0 8 rfl rfl)
theorem dX6_isNew_9 : decode cX6_isNew 9 = .ok (.getfield 15, 3) := dk_180 0 15 (dk_at dksX6_isNew_0 9 rfl rfl)
theorem dX6_isNew_12 : decode cX6_isNew 12 = .ok (.iload_n 1, 1) := dk_27 (dk_at dksX6_isNew_0 12 rfl rfl)
theorem dX6_isNew_13 : decode cX6_isNew 13 = .ok (.iaload, 1) := dk_46 (dk_at dksX6_isNew_0 13 rfl rfl)
theorem dX6_isNew_14 : decode cX6_isNew 14 = .ok (.aload_n 0, 1) := dk_42 (dk_at dksX6_isNew_0 14 rfl rfl)
theorem dX6_isNew_15 : decode cX6_isNew 15 = .ok (.getfield 19, 3) := dk_180 0 19 (dk_at dksX6_isNew_0 15 rfl rfl)
theorem dX6_isNew_18 : decode cX6_isNew 18 = .ok (.iload_n 1, 1) := dk_27 (dk_at dksX6_isNew_0 18 rfl rfl)
theorem dX6_isNew_19 : decode cX6_isNew 19 = .ok (.iaload, 1) := dk_46 (dk_at dksX6_isNew_0 19 rfl rfl)
theorem dX6_isNew_20 : decode cX6_isNew 20 = .ok (.ior, 1) := dk_128 (dk_at dksX6_isNew_0 20 rfl rfl)
theorem dX6_isNew_21 : decode cX6_isNew 21 = .ok (.ifCond .ne 5, 3) := dk_154 0 5 (dk_at dksX6_isNew_0 21 rfl rfl)
theorem dX6_isNew_24 : decode cX6_isNew 24 = .ok (.iconst 0, 1) := dk_3 (dk_at dksX6_isNew_1 0 rfl rfl)
theorem dX6_isNew_25 : decode cX6_isNew 25 = .ok (.ireturn, 1) := dk_172 (dk_at dksX6_isNew_1 1 rfl rfl)
theorem dX6_isNew_26 : decode cX6_isNew 26 = .ok (.iconst 0, 1) := dk_3 (dk_at dksX6_isNew_1 2 rfl rfl)
theorem dX6_isNew_27 : decode cX6_isNew 27 = .ok (.istore_n 2, 1) := dk_61 (dk_at dksX6_isNew_1 3 rfl rfl)
theorem dX6_isNew_28 : decode cX6_isNew 28 = .ok (.iload_n 2, 1) := dk_28 (dk_at dksX6_isNew_1 4 rfl rfl)
theorem dX6_isNew_29 : decode cX6_isNew 29 = .ok (.iload_n 1, 1) := dk_27 (dk_at dksX6_isNew_1 5 rfl rfl)
theorem dX6_isNew_30 : decode cX6_isNew 30 = .ok (.if_icmp .ge 49, 3) := dk_162 0 49 (dk_at dksX6_isNew_1 6 rfl rfl)
theorem dX6_isNew_33 : decode cX6_isNew 33 = .ok (.aload_n 0, 1) := dk_42 (dk_at dksX6_isNew_1 9 rfl rfl)
theorem dX6_isNew_34 : decode cX6_isNew 34 = .ok (.iload_n 2, 1) := dk_28 (dk_at dksX6_isNew_1 10 rfl rfl)
theorem dX6_isNew_35 : decode cX6_isNew 35 = .ok (.invokevirtual 76, 3) := dk_182 0 76 (dk_at dksX6_isNew_1 11 rfl rfl)
theorem dX6_isNew_38 : decode cX6_isNew 38 = .ok (.ifCond .eq 35, 3) := dk_153 0 35 (dk_at dksX6_isNew_1 14 rfl rfl)
theorem dX6_isNew_41 : decode cX6_isNew 41 = .ok (.aload_n 0, 1) := dk_42 (dk_at dksX6_isNew_1 17 rfl rfl)
theorem dX6_isNew_42 : decode cX6_isNew 42 = .ok (.getfield 15, 3) := dk_180 0 15 (dk_at dksX6_isNew_1 18 rfl rfl)
theorem dX6_isNew_45 : decode cX6_isNew 45 = .ok (.iload_n 2, 1) := dk_28 (dk_at dksX6_isNew_1 21 rfl rfl)
theorem dX6_isNew_46 : decode cX6_isNew 46 = .ok (.iaload, 1) := dk_46 (dk_at dksX6_isNew_1 22 rfl rfl)
theorem dX6_isNew_47 : decode cX6_isNew 47 = .ok (.aload_n 0, 1) := dk_42 (dk_at dksX6_isNew_1 23 rfl rfl)
theorem dX6_isNew_48 : decode cX6_isNew 48 = .ok (.getfield 15, 3) := dk_180 0 15 (dk_at dksX6_isNew_2 0 rfl rfl)
theorem dX6_isNew_51 : decode cX6_isNew 51 = .ok (.iload_n 1, 1) := dk_27 (dk_at dksX6_isNew_2 3 rfl rfl)
theorem dX6_isNew_52 : decode cX6_isNew 52 = .ok (.iaload, 1) := dk_46 (dk_at dksX6_isNew_2 4 rfl rfl)
theorem dX6_isNew_53 : decode cX6_isNew 53 = .ok (.if_icmp .ne 20, 3) := dk_160 0 20 (dk_at dksX6_isNew_2 5 rfl rfl)
theorem dX6_isNew_56 : decode cX6_isNew 56 = .ok (.aload_n 0, 1) := dk_42 (dk_at dksX6_isNew_2 8 rfl rfl)
theorem dX6_isNew_57 : decode cX6_isNew 57 = .ok (.getfield 19, 3) := dk_180 0 19 (dk_at dksX6_isNew_2 9 rfl rfl)
theorem dX6_isNew_60 : decode cX6_isNew 60 = .ok (.iload_n 2, 1) := dk_28 (dk_at dksX6_isNew_2 12 rfl rfl)
theorem dX6_isNew_61 : decode cX6_isNew 61 = .ok (.iaload, 1) := dk_46 (dk_at dksX6_isNew_2 13 rfl rfl)
theorem dX6_isNew_62 : decode cX6_isNew 62 = .ok (.aload_n 0, 1) := dk_42 (dk_at dksX6_isNew_2 14 rfl rfl)
theorem dX6_isNew_63 : decode cX6_isNew 63 = .ok (.getfield 19, 3) := dk_180 0 19 (dk_at dksX6_isNew_2 15 rfl rfl)
theorem dX6_isNew_66 : decode cX6_isNew 66 = .ok (.iload_n 1, 1) := dk_27 (dk_at dksX6_isNew_2 18 rfl rfl)
theorem dX6_isNew_67 : decode cX6_isNew 67 = .ok (.iaload, 1) := dk_46 (dk_at dksX6_isNew_2 19 rfl rfl)
theorem dX6_isNew_68 : decode cX6_isNew 68 = .ok (.if_icmp .ne 5, 3) := dk_160 0 5 (dk_at dksX6_isNew_2 20 rfl rfl)
theorem dX6_isNew_71 : decode cX6_isNew 71 = .ok (.iconst 0, 1) := dk_3 (dk_at dksX6_isNew_2 23 rfl rfl)
theorem dX6_isNew_72 : decode cX6_isNew 72 = .ok (.ireturn, 1) := dk_172 (dk_at dksX6_isNew_3 0 rfl rfl)
theorem dX6_isNew_73 : decode cX6_isNew 73 = .ok (.iinc 2 1, 3) := dk_132 2 1 (dk_at dksX6_isNew_3 1 rfl rfl)
theorem dX6_isNew_76 : decode cX6_isNew 76 = .ok (.goto (-48), 3) := dk_167 255 208 (dk_at dksX6_isNew_3 4 rfl rfl)
theorem dX6_isNew_79 : decode cX6_isNew 79 = .ok (.iconst 1, 1) := dk_4 (dk_at dksX6_isNew_3 7 rfl rfl)
theorem dX6_isNew_80 : decode cX6_isNew 80 = .ok (.ireturn, 1) := dk_172 (dk_at dksX6_isNew_3 8 rfl rfl)
abbrev cX6_may : ByteArray := prog_26_method_4_code
def yX6_may : MethodName := ⟨RX6, "may", "(I)Z"⟩
def dkwX6_may_1 : List UInt8 := [167, 0, 4, 3, 172]
abbrev dktX6_may_1 : List UInt8 := dkwX6_may_1 ++ []
def dkwX6_may_0 : List UInt8 := [27, 16, 16, 112, 42, 180, 0, 3, 182, 0, 48, 162, 0, 16, 42, 180, 0, 22, 27, 51, 153, 0, 7, 4]
abbrev dktX6_may_0 : List UInt8 := dkwX6_may_0 ++ dktX6_may_1
theorem dksX6_may_0 : cX6_may.data.toList.drop 0 = dktX6_may_0 := by decide +kernel
theorem dksX6_may_1 : cX6_may.data.toList.drop 24 = dktX6_may_1 := dk_seg dksX6_may_0 24 rfl rfl
theorem dX6_may_0 : decode cX6_may 0 = .ok (.iload_n 1, 1) := dk_27 (dk_at dksX6_may_0 0 rfl rfl)
theorem dX6_may_1 : decode cX6_may 1 = .ok (.bipush 16, 2) := dk_16 16 (dk_at dksX6_may_0 1 rfl rfl)
theorem dX6_may_3 : decode cX6_may 3 = .ok (.irem, 1) := dk_112 (dk_at dksX6_may_0 3 rfl rfl)
theorem dX6_may_4 : decode cX6_may 4 = .ok (.aload_n 0, 1) := dk_42 (dk_at dksX6_may_0 4 rfl rfl)
theorem dX6_may_5 : decode cX6_may 5 = .ok (.getfield 3, 3) := dk_180 0 3 (dk_at dksX6_may_0 5 rfl rfl)
theorem dX6_may_8 : decode cX6_may 8 = .ok (.invokevirtual 48, 3) := dk_182 0 48 (dk_at dksX6_may_0 8 rfl rfl)
theorem dX6_may_11 : decode cX6_may 11 = .ok (.if_icmp .ge 16, 3) := dk_162 0 16 (dk_at dksX6_may_0 11 rfl rfl)
theorem dX6_may_14 : decode cX6_may 14 = .ok (.aload_n 0, 1) := dk_42 (dk_at dksX6_may_0 14 rfl rfl)
theorem dX6_may_15 : decode cX6_may 15 = .ok (.getfield 22, 3) := dk_180 0 22 (dk_at dksX6_may_0 15 rfl rfl)
theorem dX6_may_18 : decode cX6_may 18 = .ok (.iload_n 1, 1) := dk_27 (dk_at dksX6_may_0 18 rfl rfl)
theorem dX6_may_19 : decode cX6_may 19 = .ok (.baload, 1) := dk_51 (dk_at dksX6_may_0 19 rfl rfl)
theorem dX6_may_20 : decode cX6_may 20 = .ok (.ifCond .eq 7, 3) := dk_153 0 7 (dk_at dksX6_may_0 20 rfl rfl)
theorem dX6_may_23 : decode cX6_may 23 = .ok (.iconst 1, 1) := dk_4 (dk_at dksX6_may_0 23 rfl rfl)
theorem dX6_may_24 : decode cX6_may 24 = .ok (.goto 4, 3) := dk_167 0 4 (dk_at dksX6_may_1 0 rfl rfl)
theorem dX6_may_27 : decode cX6_may 27 = .ok (.iconst 0, 1) := dk_3 (dk_at dksX6_may_1 3 rfl rfl)
theorem dX6_may_28 : decode cX6_may 28 = .ok (.ireturn, 1) := dk_172 (dk_at dksX6_may_1 4 rfl rfl)
abbrev cX6_falls : ByteArray := prog_26_method_5_code
def yX6_falls : MethodName := ⟨RX6, "falls", "(LNameOrchard$Boughs;I)I"⟩
def dkwX6_falls_0 : List UInt8 := [43, 42, 180, 0, 15, 28, 46, 42, 180, 0, 19, 28, 46, 182, 0, 72, 172]
abbrev dktX6_falls_0 : List UInt8 := dkwX6_falls_0 ++ []
theorem dksX6_falls_0 : cX6_falls.data.toList.drop 0 = dktX6_falls_0 := by decide +kernel
theorem dX6_falls_0 : decode cX6_falls 0 = .ok (.aload_n 1, 1) := dk_43 (dk_at dksX6_falls_0 0 rfl rfl)
theorem dX6_falls_1 : decode cX6_falls 1 = .ok (.aload_n 0, 1) := dk_42 (dk_at dksX6_falls_0 1 rfl rfl)
theorem dX6_falls_2 : decode cX6_falls 2 = .ok (.getfield 15, 3) := dk_180 0 15 (dk_at dksX6_falls_0 2 rfl rfl)
theorem dX6_falls_5 : decode cX6_falls 5 = .ok (.iload_n 2, 1) := dk_28 (dk_at dksX6_falls_0 5 rfl rfl)
theorem dX6_falls_6 : decode cX6_falls 6 = .ok (.iaload, 1) := dk_46 (dk_at dksX6_falls_0 6 rfl rfl)
theorem dX6_falls_7 : decode cX6_falls 7 = .ok (.aload_n 0, 1) := dk_42 (dk_at dksX6_falls_0 7 rfl rfl)
theorem dX6_falls_8 : decode cX6_falls 8 = .ok (.getfield 19, 3) := dk_180 0 19 (dk_at dksX6_falls_0 8 rfl rfl)
theorem dX6_falls_11 : decode cX6_falls 11 = .ok (.iload_n 2, 1) := dk_28 (dk_at dksX6_falls_0 11 rfl rfl)
theorem dX6_falls_12 : decode cX6_falls 12 = .ok (.iaload, 1) := dk_46 (dk_at dksX6_falls_0 12 rfl rfl)
theorem dX6_falls_13 : decode cX6_falls 13 = .ok (.invokevirtual 72, 3) := dk_182 0 72 (dk_at dksX6_falls_0 13 rfl rfl)
theorem dX6_falls_16 : decode cX6_falls 16 = .ok (.ireturn, 1) := dk_172 (dk_at dksX6_falls_0 16 rfl rfl)
theorem q134 : (Jvm.Cond.initialized "NameOrchard$Reach") ∈ lw_all := lw_g (lw_at lw_m1 11 rfl) rfl
theorem q365 : (Jvm.Cond.fieldLink "NameOrchard$Reach" (30 : Nat) "NameOrchard$Orchard" "people" "Ljava/util/ArrayList;") ∈ lw_all := lw_g (lw_at lw_m2 2 rfl) rfl
theorem q442 : (Jvm.Cond.instantiable "NameOrchard$Reach" (4 : Nat)) ∈ lw_all := lw_g (lw_at lw_m2 79 rfl) rfl
theorem q444 : (Jvm.Cond.instanceMethod ({ cls := "NameOrchard$Reach", name := "<init>", desc := "(LNameOrchard;)V" } : Jvm.MethodName)) ∈ lw_all := lw_g (lw_at lw_m2 81 rfl) rfl
theorem q445 : (Jvm.Cond.code ({ cls := "NameOrchard$Reach", name := "<init>", desc := "(LNameOrchard;)V" } : Jvm.MethodName) prog_26_method_1_code (2 : Nat) (Option.none : Option Jvm.ClassFile.FieldType)) ∈ lw_all := lw_g (lw_at lw_m2 82 rfl) rfl
theorem q446 : (Jvm.Cond.methodLink "NameOrchard$Reach" (9 : Nat) ({ cls := "java/lang/Object", name := "<init>", desc := "()V" } : Jvm.MethodName)) ∈ lw_all := lw_g (lw_at lw_m2 83 rfl) rfl
theorem q447 : (Jvm.Cond.fieldLink "NameOrchard$Reach" (15 : Nat) "NameOrchard$Reach" "wholly" "[I") ∈ lw_all := lw_g (lw_at lw_m2 84 rfl) rfl
theorem q448 : (Jvm.Cond.fieldLink "NameOrchard$Reach" (19 : Nat) "NameOrchard$Reach" "echo" "[I") ∈ lw_all := lw_g (lw_at lw_m2 85 rfl) rfl
theorem q449 : (Jvm.Cond.fieldLink "NameOrchard$Reach" (22 : Nat) "NameOrchard$Reach" "may" "[Z") ∈ lw_all := lw_g (lw_at lw_m2 86 rfl) rfl
theorem q450 : (Jvm.Cond.fieldLink "NameOrchard$Reach" (3 : Nat) "NameOrchard$Reach" "this$0" "LNameOrchard;") ∈ lw_all := lw_g (lw_at lw_m2 87 rfl) rfl
theorem q451 : (Jvm.Cond.laysFinal "NameOrchard$Reach" "NameOrchard$Reach" "wholly" "[I") ∈ lw_all := lw_g (lw_at lw_m2 88 rfl) rfl
theorem q452 : (Jvm.Cond.soleField "NameOrchard$Reach" "wholly") ∈ lw_all := lw_g (lw_at lw_m2 89 rfl) rfl
theorem q453 : (Jvm.Cond.laysFinal "NameOrchard$Reach" "NameOrchard$Reach" "echo" "[I") ∈ lw_all := lw_g (lw_at lw_m2 90 rfl) rfl
theorem q454 : (Jvm.Cond.soleField "NameOrchard$Reach" "echo") ∈ lw_all := lw_g (lw_at lw_m2 91 rfl) rfl
theorem q455 : (Jvm.Cond.laysFinal "NameOrchard$Reach" "NameOrchard$Reach" "may" "[Z") ∈ lw_all := lw_g (lw_at lw_m2 92 rfl) rfl
theorem q456 : (Jvm.Cond.soleField "NameOrchard$Reach" "may") ∈ lw_all := lw_g (lw_at lw_m2 93 rfl) rfl
theorem q457 : (Jvm.Cond.laysFinal "NameOrchard$Reach" "NameOrchard$Reach" "this$0" "LNameOrchard;") ∈ lw_all := lw_g (lw_at lw_m2 94 rfl) rfl
theorem q458 : (Jvm.Cond.soleField "NameOrchard$Reach" "this$0") ∈ lw_all := lw_g (lw_at lw_m2 95 rfl) rfl
theorem q459 : (Jvm.Cond.superclass "NameOrchard$Reach" "java/lang/Object") ∈ lw_all := lw_g (lw_at lw_m2 96 rfl) rfl
theorem q520 : (Jvm.Cond.fieldLinkNest "NameOrchard$Reach" (55 : Nat) "NameOrchard" "boughs" "LNameOrchard$Boughs;" "NameOrchard") ∈ lw_tbl := lw_at lw_m2 157 rfl
theorem q956 : (Jvm.Cond.selects "NameOrchard$Reach" ({ cls := "java/lang/Object", name := "getClass", desc := "()Ljava/lang/Class;" } : Jvm.MethodName) ({ cls := "java/lang/Object", name := "getClass", desc := "()Ljava/lang/Class;" } : Jvm.MethodName)) ∈ lw_all := lw_g (lw_at lw_m4 113 rfl) rfl
theorem q1043 : (Jvm.Cond.fieldLink "NameOrchard$Reach" (59 : Nat) "NameOrchard$Person" "lane" "I") ∈ lw_all := lw_g (lw_at lw_m4 200 rfl) rfl
theorem q1046 : (Jvm.Cond.fieldLink "NameOrchard$Reach" (63 : Nat) "NameOrchard$Person" "loud" "I") ∈ lw_all := lw_g (lw_at lw_m4 203 rfl) rfl
theorem q1632 : (Jvm.Cond.instanceMethod ({ cls := "NameOrchard$Reach", name := "lays", desc := "()V" } : Jvm.MethodName)) ∈ lw_all := lw_g (lw_at lw_m7 69 rfl) rfl
theorem q1633 : (Jvm.Cond.selects "NameOrchard$Reach" ({ cls := "NameOrchard$Reach", name := "lays", desc := "()V" } : Jvm.MethodName) ({ cls := "NameOrchard$Reach", name := "lays", desc := "()V" } : Jvm.MethodName)) ∈ lw_all := lw_g (lw_at lw_m7 70 rfl) rfl
theorem q1634 : (Jvm.Cond.code ({ cls := "NameOrchard$Reach", name := "lays", desc := "()V" } : Jvm.MethodName) prog_26_method_2_code (5 : Nat) (Option.none : Option Jvm.ClassFile.FieldType)) ∈ lw_all := lw_g (lw_at lw_m7 71 rfl) rfl
theorem q1635 : (Jvm.Cond.methodLinkNest "NameOrchard$Reach" (26 : Nat) ({ cls := "NameOrchard", name := "now", desc := "()LNameOrchard$Orchard;" } : Jvm.MethodName) "NameOrchard") ∈ lw_tbl := lw_at lw_m7 72 rfl
theorem q1636 : (Jvm.Cond.methodLink "NameOrchard$Reach" (36 : Nat) ({ cls := "java/util/ArrayList", name := "size", desc := "()I" } : Jvm.MethodName)) ∈ lw_all := lw_g (lw_at lw_m7 73 rfl) rfl
theorem q1637 : (Jvm.Cond.methodLink "NameOrchard$Reach" (42 : Nat) ({ cls := "java/util/ArrayList", name := "get", desc := "(I)Ljava/lang/Object;" } : Jvm.MethodName)) ∈ lw_all := lw_g (lw_at lw_m7 74 rfl) rfl
theorem q1638 : (Jvm.Cond.classLink "NameOrchard$Reach" (46 : Nat) "NameOrchard$Person") ∈ lw_all := lw_g (lw_at lw_m7 75 rfl) rfl
theorem q1639 : (Jvm.Cond.methodLinkNest "NameOrchard$Reach" (48 : Nat) ({ cls := "NameOrchard", name := "sounds", desc := "()I" } : Jvm.MethodName) "NameOrchard") ∈ lw_tbl := lw_at lw_m7 76 rfl
theorem q1640 : (Jvm.Cond.methodLink "NameOrchard$Reach" (51 : Nat) ({ cls := "NameOrchard$Orchard", name := "says", desc := "(II)Z" } : Jvm.MethodName)) ∈ lw_all := lw_g (lw_at lw_m7 77 rfl) rfl
theorem q1641 : (Jvm.Cond.methodLink "NameOrchard$Reach" (66 : Nat) ({ cls := "NameOrchard$Boughs", name := "heard", desc := "(IIIZ)I" } : Jvm.MethodName)) ∈ lw_all := lw_g (lw_at lw_m7 78 rfl) rfl
theorem q1643 : (Jvm.Cond.instanceMethod ({ cls := "NameOrchard$Reach", name := "all", desc := "()I" } : Jvm.MethodName)) ∈ lw_all := lw_g (lw_at lw_m7 80 rfl) rfl
theorem q1644 : (Jvm.Cond.selects "NameOrchard$Reach" ({ cls := "NameOrchard$Reach", name := "all", desc := "()I" } : Jvm.MethodName) ({ cls := "NameOrchard$Reach", name := "all", desc := "()I" } : Jvm.MethodName)) ∈ lw_all := lw_g (lw_at lw_m7 81 rfl) rfl
theorem q1645 : (Jvm.Cond.code ({ cls := "NameOrchard$Reach", name := "all", desc := "()I" } : Jvm.MethodName) prog_26_method_3_code (1 : Nat) (Option.some Jvm.ClassFile.FieldType.int)) ∈ lw_all := lw_g (lw_at lw_m7 82 rfl) rfl
theorem q1647 : (Jvm.Cond.instanceMethod ({ cls := "NameOrchard$Reach", name := "isNew", desc := "(I)Z" } : Jvm.MethodName)) ∈ lw_all := lw_g (lw_at lw_m7 84 rfl) rfl
theorem q1648 : (Jvm.Cond.selects "NameOrchard$Reach" ({ cls := "NameOrchard$Reach", name := "isNew", desc := "(I)Z" } : Jvm.MethodName) ({ cls := "NameOrchard$Reach", name := "isNew", desc := "(I)Z" } : Jvm.MethodName)) ∈ lw_all := lw_g (lw_at lw_m7 85 rfl) rfl
theorem q1649 : (Jvm.Cond.code ({ cls := "NameOrchard$Reach", name := "isNew", desc := "(I)Z" } : Jvm.MethodName) prog_26_method_6_code (3 : Nat) (Option.some Jvm.ClassFile.FieldType.boolean)) ∈ lw_all := lw_g (lw_at lw_m7 86 rfl) rfl
theorem q1650 : (Jvm.Cond.methodLink "NameOrchard$Reach" (76 : Nat) ({ cls := "NameOrchard$Reach", name := "may", desc := "(I)Z" } : Jvm.MethodName)) ∈ lw_all := lw_g (lw_at lw_m7 87 rfl) rfl
theorem q1651 : (Jvm.Cond.instanceMethod ({ cls := "NameOrchard$Reach", name := "may", desc := "(I)Z" } : Jvm.MethodName)) ∈ lw_all := lw_g (lw_at lw_m7 88 rfl) rfl
theorem q1652 : (Jvm.Cond.selects "NameOrchard$Reach" ({ cls := "NameOrchard$Reach", name := "may", desc := "(I)Z" } : Jvm.MethodName) ({ cls := "NameOrchard$Reach", name := "may", desc := "(I)Z" } : Jvm.MethodName)) ∈ lw_all := lw_g (lw_at lw_m7 89 rfl) rfl
theorem q1653 : (Jvm.Cond.code ({ cls := "NameOrchard$Reach", name := "may", desc := "(I)Z" } : Jvm.MethodName) prog_26_method_4_code (2 : Nat) (Option.some Jvm.ClassFile.FieldType.boolean)) ∈ lw_all := lw_g (lw_at lw_m7 90 rfl) rfl
theorem q1660 : (Jvm.Cond.instanceMethod ({ cls := "NameOrchard$Reach", name := "falls", desc := "(LNameOrchard$Boughs;I)I" } : Jvm.MethodName)) ∈ lw_all := lw_g (lw_at lw_m7 97 rfl) rfl
theorem q1661 : (Jvm.Cond.selects "NameOrchard$Reach" ({ cls := "NameOrchard$Reach", name := "falls", desc := "(LNameOrchard$Boughs;I)I" } : Jvm.MethodName) ({ cls := "NameOrchard$Reach", name := "falls", desc := "(LNameOrchard$Boughs;I)I" } : Jvm.MethodName)) ∈ lw_all := lw_g (lw_at lw_m7 98 rfl) rfl
theorem q1662 : (Jvm.Cond.code ({ cls := "NameOrchard$Reach", name := "falls", desc := "(LNameOrchard$Boughs;I)I" } : Jvm.MethodName) prog_26_method_5_code (3 : Nat) (Option.some Jvm.ClassFile.FieldType.int)) ∈ lw_all := lw_g (lw_at lw_m7 99 rfl) rfl
theorem q1663 : (Jvm.Cond.methodLink "NameOrchard$Reach" (72 : Nat) ({ cls := "NameOrchard$Boughs", name := "falls", desc := "(II)I" } : Jvm.MethodName)) ∈ lw_all := lw_g (lw_at lw_m7 100 rfl) rfl
theorem q2609 : (Jvm.Cond.castable "NameOrchard$Reach" "java/lang/Object") ∈ lw_tbl := lw_at lw_m11 86 rfl
theorem in_X6 : ∀ w ∈ wsX60, w ∈ lw_all := lw_in wsX60 [451, 453, 455, 457] (by decide +kernel) (by decide +kernel)
/-! NameOrchard$Crops -/
set_option maxRecDepth 100000
def RX7 : String := "NameOrchard$Crops"
def TX7 : u_T := fun k => match k with
  | 0 => ("NameOrchard$Crops", "steps", "[LNameOrchard$Boughs;", true)
  | 1 => ("NameOrchard$Crops", "isNew", "[Z", true)
  | 2 => ("NameOrchard$Crops", "first", "I", false)
  | _ => ("NameOrchard$Crops", "this$0", "LNameOrchard;", true)
def tyX7 : Nat → FieldType := fun k => match k with
  | 0 => .array (.object "NameOrchard$Boughs")
  | 1 => .array .boolean
  | 2 => .int
  | _ => .object "NameOrchard"
abbrev wsX70 : List Cond := u_ws RX7 TX7 4
theorem nmX7 : ∀ a, a < 4 → ∀ b, b < 4 → a ≠ b → (TX7 a).2.1 ≠ (TX7 b).2.1 := by decide +kernel
theorem tyX7_ok : ∀ k, k < 4 → parseFieldDescriptor (TX7 k).2.2.1 = some (tyX7 k) := by decide +kernel
abbrev cX7_init : ByteArray := prog_8_method_1_code
def yX7_init : MethodName := ⟨RX7, "<init>", "(LNameOrchard;)V"⟩
def dkwX7_init_2 : List UInt8 := [187, 0, 15, 89, 183, 0, 17, 83, 181, 0, 18, 42, 16, 80, 188, 4, 181, 0, 22, 177]
abbrev dktX7_init_2 : List UInt8 := dkwX7_init_2 ++ []
def dkwX7_init_1 : List UInt8 := [89, 4, 187, 0, 15, 89, 183, 0, 17, 83, 89, 5, 187, 0, 15, 89, 183, 0, 17, 83, 89, 6]
abbrev dktX7_init_1 : List UInt8 := dkwX7_init_1 ++ dktX7_init_2
def dkwX7_init_0 : List UInt8 := [42, 43, 181, 0, 3, 42, 183, 0, 9, 42, 7, 189, 0, 15, 89, 3, 187, 0, 15, 89, 183, 0, 17, 83]
abbrev dktX7_init_0 : List UInt8 := dkwX7_init_0 ++ dktX7_init_1
theorem dksX7_init_0 : cX7_init.data.toList.drop 0 = dktX7_init_0 := by decide +kernel
theorem dksX7_init_1 : cX7_init.data.toList.drop 24 = dktX7_init_1 := dk_seg dksX7_init_0 24 rfl rfl
theorem dksX7_init_2 : cX7_init.data.toList.drop 46 = dktX7_init_2 := dk_seg dksX7_init_1 22 rfl rfl
theorem dX7_init_0 : decode cX7_init 0 = .ok (.aload_n 0, 1) := dk_42 (dk_at dksX7_init_0 0 rfl rfl)
theorem dX7_init_1 : decode cX7_init 1 = .ok (.aload_n 1, 1) := dk_43 (dk_at dksX7_init_0 1 rfl rfl)
theorem dX7_init_2 : decode cX7_init 2 = .ok (.putfield 3, 3) := dk_181 0 3 (dk_at dksX7_init_0 2 rfl rfl)
theorem dX7_init_5 : decode cX7_init 5 = .ok (.aload_n 0, 1) := dk_42 (dk_at dksX7_init_0 5 rfl rfl)
theorem dX7_init_6 : decode cX7_init 6 = .ok (.invokespecial 9, 3) := dk_183 0 9 (dk_at dksX7_init_0 6 rfl rfl)
theorem dX7_init_9 : decode cX7_init 9 = .ok (.aload_n 0, 1) := dk_42 (dk_at dksX7_init_0 9 rfl rfl)
theorem dX7_init_10 : decode cX7_init 10 = .ok (.iconst 4, 1) := dk_7 (dk_at dksX7_init_0 10 rfl rfl)
theorem dX7_init_11 : decode cX7_init 11 = .ok (.anewarray 15, 3) := dk_189 0 15 (dk_at dksX7_init_0 11 rfl rfl)
theorem dX7_init_14 : decode cX7_init 14 = .ok (.dup, 1) := dk_89 (dk_at dksX7_init_0 14 rfl rfl)
theorem dX7_init_15 : decode cX7_init 15 = .ok (.iconst 0, 1) := dk_3 (dk_at dksX7_init_0 15 rfl rfl)
theorem dX7_init_16 : decode cX7_init 16 = .ok (.new 15, 3) := dk_187 0 15 (dk_at dksX7_init_0 16 rfl rfl)
theorem dX7_init_19 : decode cX7_init 19 = .ok (.dup, 1) := dk_89 (dk_at dksX7_init_0 19 rfl rfl)
theorem dX7_init_20 : decode cX7_init 20 = .ok (.invokespecial 17, 3) := dk_183 0 17 (dk_at dksX7_init_0 20 rfl rfl)
theorem dX7_init_23 : decode cX7_init 23 = .ok (.aastore, 1) := dk_83 (dk_at dksX7_init_0 23 rfl rfl)
theorem dX7_init_24 : decode cX7_init 24 = .ok (.dup, 1) := dk_89 (dk_at dksX7_init_1 0 rfl rfl)
theorem dX7_init_25 : decode cX7_init 25 = .ok (.iconst 1, 1) := dk_4 (dk_at dksX7_init_1 1 rfl rfl)
theorem dX7_init_26 : decode cX7_init 26 = .ok (.new 15, 3) := dk_187 0 15 (dk_at dksX7_init_1 2 rfl rfl)
theorem dX7_init_29 : decode cX7_init 29 = .ok (.dup, 1) := dk_89 (dk_at dksX7_init_1 5 rfl rfl)
theorem dX7_init_30 : decode cX7_init 30 = .ok (.invokespecial 17, 3) := dk_183 0 17 (dk_at dksX7_init_1 6 rfl rfl)
theorem dX7_init_33 : decode cX7_init 33 = .ok (.aastore, 1) := dk_83 (dk_at dksX7_init_1 9 rfl rfl)
theorem dX7_init_34 : decode cX7_init 34 = .ok (.dup, 1) := dk_89 (dk_at dksX7_init_1 10 rfl rfl)
theorem dX7_init_35 : decode cX7_init 35 = .ok (.iconst 2, 1) := dk_5 (dk_at dksX7_init_1 11 rfl rfl)
theorem dX7_init_36 : decode cX7_init 36 = .ok (.new 15, 3) := dk_187 0 15 (dk_at dksX7_init_1 12 rfl rfl)
theorem dX7_init_39 : decode cX7_init 39 = .ok (.dup, 1) := dk_89 (dk_at dksX7_init_1 15 rfl rfl)
theorem dX7_init_40 : decode cX7_init 40 = .ok (.invokespecial 17, 3) := dk_183 0 17 (dk_at dksX7_init_1 16 rfl rfl)
theorem dX7_init_43 : decode cX7_init 43 = .ok (.aastore, 1) := dk_83 (dk_at dksX7_init_1 19 rfl rfl)
theorem dX7_init_44 : decode cX7_init 44 = .ok (.dup, 1) := dk_89 (dk_at dksX7_init_1 20 rfl rfl)
theorem dX7_init_45 : decode cX7_init 45 = .ok (.iconst 3, 1) := dk_6 (dk_at dksX7_init_1 21 rfl rfl)
theorem dX7_init_46 : decode cX7_init 46 = .ok (.new 15, 3) := dk_187 0 15 (dk_at dksX7_init_2 0 rfl rfl)
theorem dX7_init_49 : decode cX7_init 49 = .ok (.dup, 1) := dk_89 (dk_at dksX7_init_2 3 rfl rfl)
theorem dX7_init_50 : decode cX7_init 50 = .ok (.invokespecial 17, 3) := dk_183 0 17 (dk_at dksX7_init_2 4 rfl rfl)
theorem dX7_init_53 : decode cX7_init 53 = .ok (.aastore, 1) := dk_83 (dk_at dksX7_init_2 7 rfl rfl)
theorem dX7_init_54 : decode cX7_init 54 = .ok (.putfield 18, 3) := dk_181 0 18 (dk_at dksX7_init_2 8 rfl rfl)
theorem dX7_init_57 : decode cX7_init 57 = .ok (.aload_n 0, 1) := dk_42 (dk_at dksX7_init_2 11 rfl rfl)
theorem dX7_init_58 : decode cX7_init 58 = .ok (.bipush 80, 2) := dk_16 80 (dk_at dksX7_init_2 12 rfl rfl)
theorem dX7_init_60 : decode cX7_init 60 = .ok (.newarray .boolean, 2) := dk_188_4 (dk_at dksX7_init_2 14 rfl rfl)
theorem dX7_init_62 : decode cX7_init 62 = .ok (.putfield 22, 3) := dk_181 0 22 (dk_at dksX7_init_2 16 rfl rfl)
theorem dX7_init_65 : decode cX7_init 65 = .ok (.return_, 1) := dk_177 (dk_at dksX7_init_2 19 rfl rfl)
abbrev cX7_lays : ByteArray := prog_8_method_2_code
def yX7_lays : MethodName := ⟨RX7, "lays", "()V"⟩
def dkwX7_lays_2 : List UInt8 := [167, 255, 222, 177]
abbrev dktX7_lays_2 : List UInt8 := dkwX7_lays_2 ++ []
def dkwX7_lays_1 : List UInt8 := [162, 0, 26, 42, 180, 0, 22, 27, 42, 180, 0, 3, 180, 0, 26, 27, 182, 0, 39, 84, 132, 1, 1]
abbrev dktX7_lays_1 : List UInt8 := dkwX7_lays_1 ++ dktX7_lays_2
def dkwX7_lays_0 : List UInt8 := [42, 180, 0, 3, 180, 0, 26, 182, 0, 30, 3, 60, 27, 42, 180, 0, 3, 180, 0, 26, 182, 0, 35]
abbrev dktX7_lays_0 : List UInt8 := dkwX7_lays_0 ++ dktX7_lays_1
theorem dksX7_lays_0 : cX7_lays.data.toList.drop 0 = dktX7_lays_0 := by decide +kernel
theorem dksX7_lays_1 : cX7_lays.data.toList.drop 23 = dktX7_lays_1 := dk_seg dksX7_lays_0 23 rfl rfl
theorem dksX7_lays_2 : cX7_lays.data.toList.drop 46 = dktX7_lays_2 := dk_seg dksX7_lays_1 23 rfl rfl
theorem dX7_lays_0 : decode cX7_lays 0 = .ok (.aload_n 0, 1) := dk_42 (dk_at dksX7_lays_0 0 rfl rfl)
theorem dX7_lays_1 : decode cX7_lays 1 = .ok (.getfield 3, 3) := dk_180 0 3 (dk_at dksX7_lays_0 1 rfl rfl)
theorem dX7_lays_4 : decode cX7_lays 4 = .ok (.getfield 26, 3) := dk_180 0 26 (dk_at dksX7_lays_0 4 rfl rfl)
theorem dX7_lays_7 : decode cX7_lays 7 = .ok (.invokevirtual 30, 3) := dk_182 0 30 (dk_at dksX7_lays_0 7 rfl rfl)
theorem dX7_lays_10 : decode cX7_lays 10 = .ok (.iconst 0, 1) := dk_3 (dk_at dksX7_lays_0 10 rfl rfl)
theorem dX7_lays_11 : decode cX7_lays 11 = .ok (.istore_n 1, 1) := dk_60 (dk_at dksX7_lays_0 11 rfl rfl)
theorem dX7_lays_12 : decode cX7_lays 12 = .ok (.iload_n 1, 1) := dk_27 (dk_at dksX7_lays_0 12 rfl rfl)
theorem dX7_lays_13 : decode cX7_lays 13 = .ok (.aload_n 0, 1) := dk_42 (dk_at dksX7_lays_0 13 rfl rfl)
theorem dX7_lays_14 : decode cX7_lays 14 = .ok (.getfield 3, 3) := dk_180 0 3 (dk_at dksX7_lays_0 14 rfl rfl)
theorem dX7_lays_17 : decode cX7_lays 17 = .ok (.getfield 26, 3) := dk_180 0 26 (dk_at dksX7_lays_0 17 rfl rfl)
theorem dX7_lays_20 : decode cX7_lays 20 = .ok (.invokevirtual 35, 3) := dk_182 0 35 (dk_at dksX7_lays_0 20 rfl rfl)
theorem dX7_lays_23 : decode cX7_lays 23 = .ok (.if_icmp .ge 26, 3) := dk_162 0 26 (dk_at dksX7_lays_1 0 rfl rfl)
theorem dX7_lays_26 : decode cX7_lays 26 = .ok (.aload_n 0, 1) := dk_42 (dk_at dksX7_lays_1 3 rfl rfl)
theorem dX7_lays_27 : decode cX7_lays 27 = .ok (.getfield 22, 3) := dk_180 0 22 (dk_at dksX7_lays_1 4 rfl rfl)
theorem dX7_lays_30 : decode cX7_lays 30 = .ok (.iload_n 1, 1) := dk_27 (dk_at dksX7_lays_1 7 rfl rfl)
theorem dX7_lays_31 : decode cX7_lays 31 = .ok (.aload_n 0, 1) := dk_42 (dk_at dksX7_lays_1 8 rfl rfl)
theorem dX7_lays_32 : decode cX7_lays 32 = .ok (.getfield 3, 3) := dk_180 0 3 (dk_at dksX7_lays_1 9 rfl rfl)
theorem dX7_lays_35 : decode cX7_lays 35 = .ok (.getfield 26, 3) := dk_180 0 26 (dk_at dksX7_lays_1 12 rfl rfl)
theorem dX7_lays_38 : decode cX7_lays 38 = .ok (.iload_n 1, 1) := dk_27 (dk_at dksX7_lays_1 15 rfl rfl)
theorem dX7_lays_39 : decode cX7_lays 39 = .ok (.invokevirtual 39, 3) := dk_182 0 39 (dk_at dksX7_lays_1 16 rfl rfl)
theorem dX7_lays_42 : decode cX7_lays 42 = .ok (.bastore, 1) := dk_84 (dk_at dksX7_lays_1 19 rfl rfl)
theorem dX7_lays_43 : decode cX7_lays 43 = .ok (.iinc 1 1, 3) := dk_132 1 1 (dk_at dksX7_lays_1 20 rfl rfl)
theorem dX7_lays_46 : decode cX7_lays 46 = .ok (.goto (-34), 3) := dk_167 255 222 (dk_at dksX7_lays_2 0 rfl rfl)
theorem dX7_lays_49 : decode cX7_lays 49 = .ok (.return_, 1) := dk_177 (dk_at dksX7_lays_2 3 rfl rfl)
abbrev cX7_most : ByteArray := prog_8_method_3_code
def yX7_most : MethodName := ⟨RX7, "most", "(LNameOrchard$Boughs;I)I"⟩
def dkwX7_most_6 : List UInt8 := [167, 255, 134, 42, 29, 181, 0, 60, 21, 4, 172]
abbrev dktX7_most_6 : List UInt8 := dkwX7_most_6 ++ []
def dkwX7_most_5 : List UInt8 := [159, 0, 13, 21, 7, 21, 4, 163, 0, 6, 167, 0, 10, 21, 5, 62, 21, 7, 54, 4, 132, 5, 1]
abbrev dktX7_most_5 : List UInt8 := dkwX7_most_5 ++ dktX7_most_6
def dkwX7_most_4 : List UInt8 := [25, 6, 182, 0, 54, 21, 7, 42, 25, 6, 28, 4, 100, 182, 0, 57, 96, 54, 7, 21, 5, 2]
abbrev dktX7_most_4 : List UInt8 := dkwX7_most_4 ++ dktX7_most_5
def dkwX7_most_3 : List UInt8 := [167, 0, 22, 25, 6, 42, 180, 0, 3, 180, 0, 26, 25, 6, 21, 5, 182, 0, 46, 182, 0, 50, 54, 7]
abbrev dktX7_most_3 : List UInt8 := dkwX7_most_3 ++ dktX7_most_4
def dkwX7_most_2 : List UInt8 := [167, 0, 88, 42, 180, 0, 18, 28, 50, 43, 182, 0, 42, 58, 6, 21, 5, 2, 160, 0, 7, 3]
abbrev dktX7_most_2 : List UInt8 := dkwX7_most_2 ++ dktX7_most_3
def dkwX7_most_1 : List UInt8 := [182, 0, 35, 162, 0, 113, 21, 5, 2, 159, 0, 16, 42, 180, 0, 22, 21, 5, 51, 154, 0, 6]
abbrev dktX7_most_1 : List UInt8 := dkwX7_most_1 ++ dktX7_most_2
def dkwX7_most_0 : List UInt8 := [28, 154, 0, 5, 3, 172, 2, 62, 3, 54, 4, 2, 54, 5, 21, 5, 42, 180, 0, 3, 180, 0, 26]
abbrev dktX7_most_0 : List UInt8 := dkwX7_most_0 ++ dktX7_most_1
theorem dksX7_most_0 : cX7_most.data.toList.drop 0 = dktX7_most_0 := by decide +kernel
theorem dksX7_most_1 : cX7_most.data.toList.drop 23 = dktX7_most_1 := dk_seg dksX7_most_0 23 rfl rfl
theorem dksX7_most_2 : cX7_most.data.toList.drop 45 = dktX7_most_2 := dk_seg dksX7_most_1 22 rfl rfl
theorem dksX7_most_3 : cX7_most.data.toList.drop 67 = dktX7_most_3 := dk_seg dksX7_most_2 22 rfl rfl
theorem dksX7_most_4 : cX7_most.data.toList.drop 91 = dktX7_most_4 := dk_seg dksX7_most_3 24 rfl rfl
theorem dksX7_most_5 : cX7_most.data.toList.drop 113 = dktX7_most_5 := dk_seg dksX7_most_4 22 rfl rfl
theorem dksX7_most_6 : cX7_most.data.toList.drop 136 = dktX7_most_6 := dk_seg dksX7_most_5 23 rfl rfl
theorem dX7_most_0 : decode cX7_most 0 = .ok (.iload_n 2, 1) := dk_28 (dk_at dksX7_most_0 0 rfl rfl)
theorem dX7_most_1 : decode cX7_most 1 = .ok (.ifCond .ne 5, 3) := dk_154 0 5 (dk_at dksX7_most_0 1 rfl rfl)
theorem dX7_most_4 : decode cX7_most 4 = .ok (.iconst 0, 1) := dk_3 (dk_at dksX7_most_0 4 rfl rfl)
theorem dX7_most_5 : decode cX7_most 5 = .ok (.ireturn, 1) := dk_172 (dk_at dksX7_most_0 5 rfl rfl)
theorem dX7_most_6 : decode cX7_most 6 = .ok (.iconst (-1), 1) := dk_2 (dk_at dksX7_most_0 6 rfl rfl)
theorem dX7_most_7 : decode cX7_most 7 = .ok (.istore_n 3, 1) := dk_62 (dk_at dksX7_most_0 7 rfl rfl)
theorem dX7_most_8 : decode cX7_most 8 = .ok (.iconst 0, 1) := dk_3 (dk_at dksX7_most_0 8 rfl rfl)
theorem dX7_most_9 : decode cX7_most 9 = .ok (.istore 4, 2) := dk_54 4 (dk_at dksX7_most_0 9 rfl rfl)
theorem dX7_most_11 : decode cX7_most 11 = .ok (.iconst (-1), 1) := dk_2 (dk_at dksX7_most_0 11 rfl rfl)
theorem dX7_most_12 : decode cX7_most 12 = .ok (.istore 5, 2) := dk_54 5 (dk_at dksX7_most_0 12 rfl rfl)
theorem dX7_most_14 : decode cX7_most 14 = .ok (.iload 5, 2) := dk_21 5 (dk_at dksX7_most_0 14 rfl rfl)
theorem dX7_most_16 : decode cX7_most 16 = .ok (.aload_n 0, 1) := dk_42 (dk_at dksX7_most_0 16 rfl rfl)
theorem dX7_most_17 : decode cX7_most 17 = .ok (.getfield 3, 3) := dk_180 0 3 (dk_at dksX7_most_0 17 rfl rfl)
theorem dX7_most_20 : decode cX7_most 20 = .ok (.getfield 26, 3) := dk_180 0 26 (dk_at dksX7_most_0 20 rfl rfl)
theorem dX7_most_23 : decode cX7_most 23 = .ok (.invokevirtual 35, 3) := dk_182 0 35 (dk_at dksX7_most_1 0 rfl rfl)
theorem dX7_most_26 : decode cX7_most 26 = .ok (.if_icmp .ge 113, 3) := dk_162 0 113 (dk_at dksX7_most_1 3 rfl rfl)
theorem dX7_most_29 : decode cX7_most 29 = .ok (.iload 5, 2) := dk_21 5 (dk_at dksX7_most_1 6 rfl rfl)
theorem dX7_most_31 : decode cX7_most 31 = .ok (.iconst (-1), 1) := dk_2 (dk_at dksX7_most_1 8 rfl rfl)
theorem dX7_most_32 : decode cX7_most 32 = .ok (.if_icmp .eq 16, 3) := dk_159 0 16 (dk_at dksX7_most_1 9 rfl rfl)
theorem dX7_most_35 : decode cX7_most 35 = .ok (.aload_n 0, 1) := dk_42 (dk_at dksX7_most_1 12 rfl rfl)
theorem dX7_most_36 : decode cX7_most 36 = .ok (.getfield 22, 3) := dk_180 0 22 (dk_at dksX7_most_1 13 rfl rfl)
theorem dX7_most_39 : decode cX7_most 39 = .ok (.iload 5, 2) := dk_21 5 (dk_at dksX7_most_1 16 rfl rfl)
theorem dX7_most_41 : decode cX7_most 41 = .ok (.baload, 1) := dk_51 (dk_at dksX7_most_1 18 rfl rfl)
theorem dX7_most_42 : decode cX7_most 42 = .ok (.ifCond .ne 6, 3) := dk_154 0 6 (dk_at dksX7_most_1 19 rfl rfl)
theorem dX7_most_45 : decode cX7_most 45 = .ok (.goto 88, 3) := dk_167 0 88 (dk_at dksX7_most_2 0 rfl rfl)
theorem dX7_most_48 : decode cX7_most 48 = .ok (.aload_n 0, 1) := dk_42 (dk_at dksX7_most_2 3 rfl rfl)
theorem dX7_most_49 : decode cX7_most 49 = .ok (.getfield 18, 3) := dk_180 0 18 (dk_at dksX7_most_2 4 rfl rfl)
theorem dX7_most_52 : decode cX7_most 52 = .ok (.iload_n 2, 1) := dk_28 (dk_at dksX7_most_2 7 rfl rfl)
theorem dX7_most_53 : decode cX7_most 53 = .ok (.aaload, 1) := dk_50 (dk_at dksX7_most_2 8 rfl rfl)
theorem dX7_most_54 : decode cX7_most 54 = .ok (.aload_n 1, 1) := dk_43 (dk_at dksX7_most_2 9 rfl rfl)
theorem dX7_most_55 : decode cX7_most 55 = .ok (.invokevirtual 42, 3) := dk_182 0 42 (dk_at dksX7_most_2 10 rfl rfl)
theorem dX7_most_58 : decode cX7_most 58 = .ok (.astore 6, 2) := dk_58 6 (dk_at dksX7_most_2 13 rfl rfl)
theorem dX7_most_60 : decode cX7_most 60 = .ok (.iload 5, 2) := dk_21 5 (dk_at dksX7_most_2 15 rfl rfl)
theorem dX7_most_62 : decode cX7_most 62 = .ok (.iconst (-1), 1) := dk_2 (dk_at dksX7_most_2 17 rfl rfl)
theorem dX7_most_63 : decode cX7_most 63 = .ok (.if_icmp .ne 7, 3) := dk_160 0 7 (dk_at dksX7_most_2 18 rfl rfl)
theorem dX7_most_66 : decode cX7_most 66 = .ok (.iconst 0, 1) := dk_3 (dk_at dksX7_most_2 21 rfl rfl)
theorem dX7_most_67 : decode cX7_most 67 = .ok (.goto 22, 3) := dk_167 0 22 (dk_at dksX7_most_3 0 rfl rfl)
theorem dX7_most_70 : decode cX7_most 70 = .ok (.aload 6, 2) := dk_25 6 (dk_at dksX7_most_3 3 rfl rfl)
theorem dX7_most_72 : decode cX7_most 72 = .ok (.aload_n 0, 1) := dk_42 (dk_at dksX7_most_3 5 rfl rfl)
theorem dX7_most_73 : decode cX7_most 73 = .ok (.getfield 3, 3) := dk_180 0 3 (dk_at dksX7_most_3 6 rfl rfl)
theorem dX7_most_76 : decode cX7_most 76 = .ok (.getfield 26, 3) := dk_180 0 26 (dk_at dksX7_most_3 9 rfl rfl)
theorem dX7_most_79 : decode cX7_most 79 = .ok (.aload 6, 2) := dk_25 6 (dk_at dksX7_most_3 12 rfl rfl)
theorem dX7_most_81 : decode cX7_most 81 = .ok (.iload 5, 2) := dk_21 5 (dk_at dksX7_most_3 14 rfl rfl)
theorem dX7_most_83 : decode cX7_most 83 = .ok (.invokevirtual 46, 3) := dk_182 0 46 (dk_at dksX7_most_3 16 rfl rfl)
theorem dX7_most_86 : decode cX7_most 86 = .ok (.invokevirtual 50, 3) := dk_182 0 50 (dk_at dksX7_most_3 19 rfl rfl)
theorem dX7_most_89 : decode cX7_most 89 = .ok (.istore 7, 2) := dk_54 7 (dk_at dksX7_most_3 22 rfl rfl)
theorem dX7_most_91 : decode cX7_most 91 = .ok (.aload 6, 2) := dk_25 6 (dk_at dksX7_most_4 0 rfl rfl)
theorem dX7_most_93 : decode cX7_most 93 = .ok (.invokevirtual 54, 3) := dk_182 0 54 (dk_at dksX7_most_4 2 rfl rfl)
theorem dX7_most_96 : decode cX7_most 96 = .ok (.iload 7, 2) := dk_21 7 (dk_at dksX7_most_4 5 rfl rfl)
theorem dX7_most_98 : decode cX7_most 98 = .ok (.aload_n 0, 1) := dk_42 (dk_at dksX7_most_4 7 rfl rfl)
theorem dX7_most_99 : decode cX7_most 99 = .ok (.aload 6, 2) := dk_25 6 (dk_at dksX7_most_4 8 rfl rfl)
theorem dX7_most_101 : decode cX7_most 101 = .ok (.iload_n 2, 1) := dk_28 (dk_at dksX7_most_4 10 rfl rfl)
theorem dX7_most_102 : decode cX7_most 102 = .ok (.iconst 1, 1) := dk_4 (dk_at dksX7_most_4 11 rfl rfl)
theorem dX7_most_103 : decode cX7_most 103 = .ok (.isub, 1) := dk_100 (dk_at dksX7_most_4 12 rfl rfl)
theorem dX7_most_104 : decode cX7_most 104 = .ok (.invokevirtual 57, 3) := dk_182 0 57 (dk_at dksX7_most_4 13 rfl rfl)
theorem dX7_most_107 : decode cX7_most 107 = .ok (.iadd, 1) := dk_96 (dk_at dksX7_most_4 16 rfl rfl)
theorem dX7_most_108 : decode cX7_most 108 = .ok (.istore 7, 2) := dk_54 7 (dk_at dksX7_most_4 17 rfl rfl)
theorem dX7_most_110 : decode cX7_most 110 = .ok (.iload 5, 2) := dk_21 5 (dk_at dksX7_most_4 19 rfl rfl)
theorem dX7_most_112 : decode cX7_most 112 = .ok (.iconst (-1), 1) := dk_2 (dk_at dksX7_most_4 21 rfl rfl)
theorem dX7_most_113 : decode cX7_most 113 = .ok (.if_icmp .eq 13, 3) := dk_159 0 13 (dk_at dksX7_most_5 0 rfl rfl)
theorem dX7_most_116 : decode cX7_most 116 = .ok (.iload 7, 2) := dk_21 7 (dk_at dksX7_most_5 3 rfl rfl)
theorem dX7_most_118 : decode cX7_most 118 = .ok (.iload 4, 2) := dk_21 4 (dk_at dksX7_most_5 5 rfl rfl)
theorem dX7_most_120 : decode cX7_most 120 = .ok (.if_icmp .gt 6, 3) := dk_163 0 6 (dk_at dksX7_most_5 7 rfl rfl)
theorem dX7_most_123 : decode cX7_most 123 = .ok (.goto 10, 3) := dk_167 0 10 (dk_at dksX7_most_5 10 rfl rfl)
theorem dX7_most_126 : decode cX7_most 126 = .ok (.iload 5, 2) := dk_21 5 (dk_at dksX7_most_5 13 rfl rfl)
theorem dX7_most_128 : decode cX7_most 128 = .ok (.istore_n 3, 1) := dk_62 (dk_at dksX7_most_5 15 rfl rfl)
theorem dX7_most_129 : decode cX7_most 129 = .ok (.iload 7, 2) := dk_21 7 (dk_at dksX7_most_5 16 rfl rfl)
theorem dX7_most_131 : decode cX7_most 131 = .ok (.istore 4, 2) := dk_54 4 (dk_at dksX7_most_5 18 rfl rfl)
theorem dX7_most_133 : decode cX7_most 133 = .ok (.iinc 5 1, 3) := dk_132 5 1 (dk_at dksX7_most_5 20 rfl rfl)
theorem dX7_most_136 : decode cX7_most 136 = .ok (.goto (-122), 3) := dk_167 255 134 (dk_at dksX7_most_6 0 rfl rfl)
theorem dX7_most_139 : decode cX7_most 139 = .ok (.aload_n 0, 1) := dk_42 (dk_at dksX7_most_6 3 rfl rfl)
theorem dX7_most_140 : decode cX7_most 140 = .ok (.iload_n 3, 1) := dk_29 (dk_at dksX7_most_6 4 rfl rfl)
theorem dX7_most_141 : decode cX7_most 141 = .ok (.putfield 60, 3) := dk_181 0 60 (dk_at dksX7_most_6 5 rfl rfl)
theorem dX7_most_144 : decode cX7_most 144 = .ok (.iload 4, 2) := dk_21 4 (dk_at dksX7_most_6 8 rfl rfl)
theorem dX7_most_146 : decode cX7_most 146 = .ok (.ireturn, 1) := dk_172 (dk_at dksX7_most_6 10 rfl rfl)
abbrev cX7_isFetched : ByteArray := prog_8_method_4_code
def yX7_isFetched : MethodName := ⟨RX7, "isFetched", "(LNameOrchard$Boughs;I)Z"⟩
def dkwX7_isFetched_7 : List UInt8 := [25, 5, 28, 4, 100, 182, 0, 96, 153, 0, 5, 4, 172, 132, 4, 1, 167, 255, 158, 3, 172]
abbrev dktX7_isFetched_7 : List UInt8 := dkwX7_isFetched_7 ++ []
def dkwX7_isFetched_6 : List UInt8 := [180, 0, 90, 43, 180, 0, 90, 160, 0, 15, 25, 5, 180, 0, 93, 43, 180, 0, 93, 159, 0, 17, 42]
abbrev dktX7_isFetched_6 : List UInt8 := dkwX7_isFetched_6 ++ dktX7_isFetched_7
def dkwX7_isFetched_5 : List UInt8 := [43, 182, 0, 42, 58, 5, 42, 180, 0, 3, 180, 0, 26, 25, 5, 21, 4, 182, 0, 46, 87, 25, 5]
abbrev dktX7_isFetched_5 : List UInt8 := dkwX7_isFetched_5 ++ dktX7_isFetched_6
def dkwX7_isFetched_4 : List UInt8 := [162, 0, 89, 42, 180, 0, 22, 21, 4, 51, 154, 0, 6, 167, 0, 70, 42, 180, 0, 18, 28, 4, 100, 50]
abbrev dktX7_isFetched_4 : List UInt8 := dkwX7_isFetched_4 ++ dktX7_isFetched_5
def dkwX7_isFetched_3 : List UInt8 := [154, 0, 7, 4, 167, 0, 4, 3, 172, 3, 54, 4, 21, 4, 42, 180, 0, 3, 180, 0, 26, 182, 0, 35]
abbrev dktX7_isFetched_3 : List UInt8 := dkwX7_isFetched_3 ++ dktX7_isFetched_4
def dkwX7_isFetched_2 : List UInt8 := [6, 159, 0, 6, 132, 3, 1, 132, 4, 1, 167, 255, 204, 29, 153, 0, 7, 28, 154, 0, 13, 29]
abbrev dktX7_isFetched_2 : List UInt8 := dkwX7_isFetched_2 ++ dktX7_isFetched_3
def dkwX7_isFetched_1 : List UInt8 := [153, 0, 31, 42, 180, 0, 3, 182, 0, 70, 180, 0, 74, 21, 4, 182, 0, 79, 192, 0, 85, 182, 0, 87]
abbrev dktX7_isFetched_1 : List UInt8 := dkwX7_isFetched_1 ++ dktX7_isFetched_2
def dkwX7_isFetched_0 : List UInt8 := [3, 62, 3, 54, 4, 21, 4, 42, 180, 0, 3, 182, 0, 64, 162, 0, 46, 43, 21, 4, 182, 0, 67]
abbrev dktX7_isFetched_0 : List UInt8 := dkwX7_isFetched_0 ++ dktX7_isFetched_1
theorem dksX7_isFetched_0 : cX7_isFetched.data.toList.drop 0 = dktX7_isFetched_0 := by decide +kernel
theorem dksX7_isFetched_1 : cX7_isFetched.data.toList.drop 23 = dktX7_isFetched_1 := dk_seg dksX7_isFetched_0 23 rfl rfl
theorem dksX7_isFetched_2 : cX7_isFetched.data.toList.drop 47 = dktX7_isFetched_2 := dk_seg dksX7_isFetched_1 24 rfl rfl
theorem dksX7_isFetched_3 : cX7_isFetched.data.toList.drop 69 = dktX7_isFetched_3 := dk_seg dksX7_isFetched_2 22 rfl rfl
theorem dksX7_isFetched_4 : cX7_isFetched.data.toList.drop 93 = dktX7_isFetched_4 := dk_seg dksX7_isFetched_3 24 rfl rfl
theorem dksX7_isFetched_5 : cX7_isFetched.data.toList.drop 117 = dktX7_isFetched_5 := dk_seg dksX7_isFetched_4 24 rfl rfl
theorem dksX7_isFetched_6 : cX7_isFetched.data.toList.drop 140 = dktX7_isFetched_6 := dk_seg dksX7_isFetched_5 23 rfl rfl
theorem dksX7_isFetched_7 : cX7_isFetched.data.toList.drop 163 = dktX7_isFetched_7 := dk_seg dksX7_isFetched_6 23 rfl rfl
theorem dX7_isFetched_0 : decode cX7_isFetched 0 = .ok (.iconst 0, 1) := dk_3 (dk_at dksX7_isFetched_0 0 rfl rfl)
theorem dX7_isFetched_1 : decode cX7_isFetched 1 = .ok (.istore_n 3, 1) := dk_62 (dk_at dksX7_isFetched_0 1 rfl rfl)
theorem dX7_isFetched_2 : decode cX7_isFetched 2 = .ok (.iconst 0, 1) := dk_3 (dk_at dksX7_isFetched_0 2 rfl rfl)
theorem dX7_isFetched_3 : decode cX7_isFetched 3 = .ok (.istore 4, 2) := dk_54 4 (dk_at dksX7_isFetched_0 3 rfl rfl)
theorem dX7_isFetched_5 : decode cX7_isFetched 5 = .ok (.iload 4, 2) := dk_21 4 (dk_at dksX7_isFetched_0 5 rfl rfl)
theorem dX7_isFetched_7 : decode cX7_isFetched 7 = .ok (.aload_n 0, 1) := dk_42 (dk_at dksX7_isFetched_0 7 rfl rfl)
theorem dX7_isFetched_8 : decode cX7_isFetched 8 = .ok (.getfield 3, 3) := dk_180 0 3 (dk_at dksX7_isFetched_0 8 rfl rfl)
theorem dX7_isFetched_11 : decode cX7_isFetched 11 = .ok (.invokevirtual 64, 3) := dk_182 0 64 (dk_at dksX7_isFetched_0 11 rfl rfl)
theorem dX7_isFetched_14 : decode cX7_isFetched 14 = .ok (.if_icmp .ge 46, 3) := dk_162 0 46 (dk_at dksX7_isFetched_0 14 rfl rfl)
theorem dX7_isFetched_17 : decode cX7_isFetched 17 = .ok (.aload_n 1, 1) := dk_43 (dk_at dksX7_isFetched_0 17 rfl rfl)
theorem dX7_isFetched_18 : decode cX7_isFetched 18 = .ok (.iload 4, 2) := dk_21 4 (dk_at dksX7_isFetched_0 18 rfl rfl)
theorem dX7_isFetched_20 : decode cX7_isFetched 20 = .ok (.invokevirtual 67, 3) := dk_182 0 67 (dk_at dksX7_isFetched_0 20 rfl rfl)
theorem dX7_isFetched_23 : decode cX7_isFetched 23 = .ok (.ifCond .eq 31, 3) := dk_153 0 31 (dk_at dksX7_isFetched_1 0 rfl rfl)
theorem dX7_isFetched_26 : decode cX7_isFetched 26 = .ok (.aload_n 0, 1) := dk_42 (dk_at dksX7_isFetched_1 3 rfl rfl)
theorem dX7_isFetched_27 : decode cX7_isFetched 27 = .ok (.getfield 3, 3) := dk_180 0 3 (dk_at dksX7_isFetched_1 4 rfl rfl)
theorem dX7_isFetched_30 : decode cX7_isFetched 30 = .ok (.invokevirtual 70, 3) := dk_182 0 70 (dk_at dksX7_isFetched_1 7 rfl rfl)
theorem dX7_isFetched_33 : decode cX7_isFetched 33 = .ok (.getfield 74, 3) := dk_180 0 74 (dk_at dksX7_isFetched_1 10 rfl rfl)
theorem dX7_isFetched_36 : decode cX7_isFetched 36 = .ok (.iload 4, 2) := dk_21 4 (dk_at dksX7_isFetched_1 13 rfl rfl)
theorem dX7_isFetched_38 : decode cX7_isFetched 38 = .ok (.invokevirtual 79, 3) := dk_182 0 79 (dk_at dksX7_isFetched_1 15 rfl rfl)
theorem dX7_isFetched_41 : decode cX7_isFetched 41 = .ok (.checkcast 85, 3) := dk_192 0 85 (dk_at dksX7_isFetched_1 18 rfl rfl)
theorem dX7_isFetched_44 : decode cX7_isFetched 44 = .ok (.invokevirtual 87, 3) := dk_182 0 87 (dk_at dksX7_isFetched_1 21 rfl rfl)
theorem dX7_isFetched_47 : decode cX7_isFetched 47 = .ok (.iconst 3, 1) := dk_6 (dk_at dksX7_isFetched_2 0 rfl rfl)
theorem dX7_isFetched_48 : decode cX7_isFetched 48 = .ok (.if_icmp .eq 6, 3) := dk_159 0 6 (dk_at dksX7_isFetched_2 1 rfl rfl)
theorem dX7_isFetched_51 : decode cX7_isFetched 51 = .ok (.iinc 3 1, 3) := dk_132 3 1 (dk_at dksX7_isFetched_2 4 rfl rfl)
theorem dX7_isFetched_54 : decode cX7_isFetched 54 = .ok (.iinc 4 1, 3) := dk_132 4 1 (dk_at dksX7_isFetched_2 7 rfl rfl)
theorem dX7_isFetched_57 : decode cX7_isFetched 57 = .ok (.goto (-52), 3) := dk_167 255 204 (dk_at dksX7_isFetched_2 10 rfl rfl)
theorem dX7_isFetched_60 : decode cX7_isFetched 60 = .ok (.iload_n 3, 1) := dk_29 (dk_at dksX7_isFetched_2 13 rfl rfl)
theorem dX7_isFetched_61 : decode cX7_isFetched 61 = .ok (.ifCond .eq 7, 3) := dk_153 0 7 (dk_at dksX7_isFetched_2 14 rfl rfl)
theorem dX7_isFetched_64 : decode cX7_isFetched 64 = .ok (.iload_n 2, 1) := dk_28 (dk_at dksX7_isFetched_2 17 rfl rfl)
theorem dX7_isFetched_65 : decode cX7_isFetched 65 = .ok (.ifCond .ne 13, 3) := dk_154 0 13 (dk_at dksX7_isFetched_2 18 rfl rfl)
theorem dX7_isFetched_68 : decode cX7_isFetched 68 = .ok (.iload_n 3, 1) := dk_29 (dk_at dksX7_isFetched_2 21 rfl rfl)
theorem dX7_isFetched_69 : decode cX7_isFetched 69 = .ok (.ifCond .ne 7, 3) := dk_154 0 7 (dk_at dksX7_isFetched_3 0 rfl rfl)
theorem dX7_isFetched_72 : decode cX7_isFetched 72 = .ok (.iconst 1, 1) := dk_4 (dk_at dksX7_isFetched_3 3 rfl rfl)
theorem dX7_isFetched_73 : decode cX7_isFetched 73 = .ok (.goto 4, 3) := dk_167 0 4 (dk_at dksX7_isFetched_3 4 rfl rfl)
theorem dX7_isFetched_76 : decode cX7_isFetched 76 = .ok (.iconst 0, 1) := dk_3 (dk_at dksX7_isFetched_3 7 rfl rfl)
theorem dX7_isFetched_77 : decode cX7_isFetched 77 = .ok (.ireturn, 1) := dk_172 (dk_at dksX7_isFetched_3 8 rfl rfl)
theorem dX7_isFetched_78 : decode cX7_isFetched 78 = .ok (.iconst 0, 1) := dk_3 (dk_at dksX7_isFetched_3 9 rfl rfl)
theorem dX7_isFetched_79 : decode cX7_isFetched 79 = .ok (.istore 4, 2) := dk_54 4 (dk_at dksX7_isFetched_3 10 rfl rfl)
theorem dX7_isFetched_81 : decode cX7_isFetched 81 = .ok (.iload 4, 2) := dk_21 4 (dk_at dksX7_isFetched_3 12 rfl rfl)
theorem dX7_isFetched_83 : decode cX7_isFetched 83 = .ok (.aload_n 0, 1) := dk_42 (dk_at dksX7_isFetched_3 14 rfl rfl)
theorem dX7_isFetched_84 : decode cX7_isFetched 84 = .ok (.getfield 3, 3) := dk_180 0 3 (dk_at dksX7_isFetched_3 15 rfl rfl)
theorem dX7_isFetched_87 : decode cX7_isFetched 87 = .ok (.getfield 26, 3) := dk_180 0 26 (dk_at dksX7_isFetched_3 18 rfl rfl)
theorem dX7_isFetched_90 : decode cX7_isFetched 90 = .ok (.invokevirtual 35, 3) := dk_182 0 35 (dk_at dksX7_isFetched_3 21 rfl rfl)
theorem dX7_isFetched_93 : decode cX7_isFetched 93 = .ok (.if_icmp .ge 89, 3) := dk_162 0 89 (dk_at dksX7_isFetched_4 0 rfl rfl)
theorem dX7_isFetched_96 : decode cX7_isFetched 96 = .ok (.aload_n 0, 1) := dk_42 (dk_at dksX7_isFetched_4 3 rfl rfl)
theorem dX7_isFetched_97 : decode cX7_isFetched 97 = .ok (.getfield 22, 3) := dk_180 0 22 (dk_at dksX7_isFetched_4 4 rfl rfl)
theorem dX7_isFetched_100 : decode cX7_isFetched 100 = .ok (.iload 4, 2) := dk_21 4 (dk_at dksX7_isFetched_4 7 rfl rfl)
theorem dX7_isFetched_102 : decode cX7_isFetched 102 = .ok (.baload, 1) := dk_51 (dk_at dksX7_isFetched_4 9 rfl rfl)
theorem dX7_isFetched_103 : decode cX7_isFetched 103 = .ok (.ifCond .ne 6, 3) := dk_154 0 6 (dk_at dksX7_isFetched_4 10 rfl rfl)
theorem dX7_isFetched_106 : decode cX7_isFetched 106 = .ok (.goto 70, 3) := dk_167 0 70 (dk_at dksX7_isFetched_4 13 rfl rfl)
theorem dX7_isFetched_109 : decode cX7_isFetched 109 = .ok (.aload_n 0, 1) := dk_42 (dk_at dksX7_isFetched_4 16 rfl rfl)
theorem dX7_isFetched_110 : decode cX7_isFetched 110 = .ok (.getfield 18, 3) := dk_180 0 18 (dk_at dksX7_isFetched_4 17 rfl rfl)
theorem dX7_isFetched_113 : decode cX7_isFetched 113 = .ok (.iload_n 2, 1) := dk_28 (dk_at dksX7_isFetched_4 20 rfl rfl)
theorem dX7_isFetched_114 : decode cX7_isFetched 114 = .ok (.iconst 1, 1) := dk_4 (dk_at dksX7_isFetched_4 21 rfl rfl)
theorem dX7_isFetched_115 : decode cX7_isFetched 115 = .ok (.isub, 1) := dk_100 (dk_at dksX7_isFetched_4 22 rfl rfl)
theorem dX7_isFetched_116 : decode cX7_isFetched 116 = .ok (.aaload, 1) := dk_50 (dk_at dksX7_isFetched_4 23 rfl rfl)
theorem dX7_isFetched_117 : decode cX7_isFetched 117 = .ok (.aload_n 1, 1) := dk_43 (dk_at dksX7_isFetched_5 0 rfl rfl)
theorem dX7_isFetched_118 : decode cX7_isFetched 118 = .ok (.invokevirtual 42, 3) := dk_182 0 42 (dk_at dksX7_isFetched_5 1 rfl rfl)
theorem dX7_isFetched_121 : decode cX7_isFetched 121 = .ok (.astore 5, 2) := dk_58 5 (dk_at dksX7_isFetched_5 4 rfl rfl)
theorem dX7_isFetched_123 : decode cX7_isFetched 123 = .ok (.aload_n 0, 1) := dk_42 (dk_at dksX7_isFetched_5 6 rfl rfl)
theorem dX7_isFetched_124 : decode cX7_isFetched 124 = .ok (.getfield 3, 3) := dk_180 0 3 (dk_at dksX7_isFetched_5 7 rfl rfl)
theorem dX7_isFetched_127 : decode cX7_isFetched 127 = .ok (.getfield 26, 3) := dk_180 0 26 (dk_at dksX7_isFetched_5 10 rfl rfl)
theorem dX7_isFetched_130 : decode cX7_isFetched 130 = .ok (.aload 5, 2) := dk_25 5 (dk_at dksX7_isFetched_5 13 rfl rfl)
theorem dX7_isFetched_132 : decode cX7_isFetched 132 = .ok (.iload 4, 2) := dk_21 4 (dk_at dksX7_isFetched_5 15 rfl rfl)
theorem dX7_isFetched_134 : decode cX7_isFetched 134 = .ok (.invokevirtual 46, 3) := dk_182 0 46 (dk_at dksX7_isFetched_5 17 rfl rfl)
theorem dX7_isFetched_137 : decode cX7_isFetched 137 = .ok (.pop, 1) := dk_87 (dk_at dksX7_isFetched_5 20 rfl rfl)
theorem dX7_isFetched_138 : decode cX7_isFetched 138 = .ok (.aload 5, 2) := dk_25 5 (dk_at dksX7_isFetched_5 21 rfl rfl)
theorem dX7_isFetched_140 : decode cX7_isFetched 140 = .ok (.getfield 90, 3) := dk_180 0 90 (dk_at dksX7_isFetched_6 0 rfl rfl)
theorem dX7_isFetched_143 : decode cX7_isFetched 143 = .ok (.aload_n 1, 1) := dk_43 (dk_at dksX7_isFetched_6 3 rfl rfl)
theorem dX7_isFetched_144 : decode cX7_isFetched 144 = .ok (.getfield 90, 3) := dk_180 0 90 (dk_at dksX7_isFetched_6 4 rfl rfl)
theorem dX7_isFetched_147 : decode cX7_isFetched 147 = .ok (.if_icmp .ne 15, 3) := dk_160 0 15 (dk_at dksX7_isFetched_6 7 rfl rfl)
theorem dX7_isFetched_150 : decode cX7_isFetched 150 = .ok (.aload 5, 2) := dk_25 5 (dk_at dksX7_isFetched_6 10 rfl rfl)
theorem dX7_isFetched_152 : decode cX7_isFetched 152 = .ok (.getfield 93, 3) := dk_180 0 93 (dk_at dksX7_isFetched_6 12 rfl rfl)
theorem dX7_isFetched_155 : decode cX7_isFetched 155 = .ok (.aload_n 1, 1) := dk_43 (dk_at dksX7_isFetched_6 15 rfl rfl)
theorem dX7_isFetched_156 : decode cX7_isFetched 156 = .ok (.getfield 93, 3) := dk_180 0 93 (dk_at dksX7_isFetched_6 16 rfl rfl)
theorem dX7_isFetched_159 : decode cX7_isFetched 159 = .ok (.if_icmp .eq 17, 3) := dk_159 0 17 (dk_at dksX7_isFetched_6 19 rfl rfl)
theorem dX7_isFetched_162 : decode cX7_isFetched 162 = .ok (.aload_n 0, 1) := dk_42 (dk_at dksX7_isFetched_6 22 rfl rfl)
theorem dX7_isFetched_163 : decode cX7_isFetched 163 = .ok (.aload 5, 2) := dk_25 5 (dk_at dksX7_isFetched_7 0 rfl rfl)
theorem dX7_isFetched_165 : decode cX7_isFetched 165 = .ok (.iload_n 2, 1) := dk_28 (dk_at dksX7_isFetched_7 2 rfl rfl)
theorem dX7_isFetched_166 : decode cX7_isFetched 166 = .ok (.iconst 1, 1) := dk_4 (dk_at dksX7_isFetched_7 3 rfl rfl)
theorem dX7_isFetched_167 : decode cX7_isFetched 167 = .ok (.isub, 1) := dk_100 (dk_at dksX7_isFetched_7 4 rfl rfl)
theorem dX7_isFetched_168 : decode cX7_isFetched 168 = .ok (.invokevirtual 96, 3) := dk_182 0 96 (dk_at dksX7_isFetched_7 5 rfl rfl)
theorem dX7_isFetched_171 : decode cX7_isFetched 171 = .ok (.ifCond .eq 5, 3) := dk_153 0 5 (dk_at dksX7_isFetched_7 8 rfl rfl)
theorem dX7_isFetched_174 : decode cX7_isFetched 174 = .ok (.iconst 1, 1) := dk_4 (dk_at dksX7_isFetched_7 11 rfl rfl)
theorem dX7_isFetched_175 : decode cX7_isFetched 175 = .ok (.ireturn, 1) := dk_172 (dk_at dksX7_isFetched_7 12 rfl rfl)
theorem dX7_isFetched_176 : decode cX7_isFetched 176 = .ok (.iinc 4 1, 3) := dk_132 4 1 (dk_at dksX7_isFetched_7 13 rfl rfl)
theorem dX7_isFetched_179 : decode cX7_isFetched 179 = .ok (.goto (-98), 3) := dk_167 255 158 (dk_at dksX7_isFetched_7 16 rfl rfl)
theorem dX7_isFetched_182 : decode cX7_isFetched 182 = .ok (.iconst 0, 1) := dk_3 (dk_at dksX7_isFetched_7 19 rfl rfl)
theorem dX7_isFetched_183 : decode cX7_isFetched 183 = .ok (.ireturn, 1) := dk_172 (dk_at dksX7_isFetched_7 20 rfl rfl)
theorem q135 : (Jvm.Cond.initialized "NameOrchard$Crops") ∈ lw_all := lw_g (lw_at lw_m1 12 rfl) rfl
theorem q278 : (Jvm.Cond.fieldLink "NameOrchard$Crops" (90 : Nat) "NameOrchard$Boughs" "hang" "I") ∈ lw_all := lw_g (lw_at lw_m1 155 rfl) rfl
theorem q281 : (Jvm.Cond.fieldLink "NameOrchard$Crops" (93 : Nat) "NameOrchard$Boughs" "loose" "I") ∈ lw_all := lw_g (lw_at lw_m1 158 rfl) rfl
theorem q356 : (Jvm.Cond.fieldLink "NameOrchard$Crops" (74 : Nat) "NameOrchard$Orchard" "apples" "Ljava/util/ArrayList;") ∈ lw_all := lw_g (lw_at lw_m1 233 rfl) rfl
theorem q462 : (Jvm.Cond.instantiable "NameOrchard$Crops" (4 : Nat)) ∈ lw_all := lw_g (lw_at lw_m2 99 rfl) rfl
theorem q464 : (Jvm.Cond.instanceMethod ({ cls := "NameOrchard$Crops", name := "<init>", desc := "(LNameOrchard;)V" } : Jvm.MethodName)) ∈ lw_all := lw_g (lw_at lw_m2 101 rfl) rfl
theorem q465 : (Jvm.Cond.code ({ cls := "NameOrchard$Crops", name := "<init>", desc := "(LNameOrchard;)V" } : Jvm.MethodName) prog_8_method_1_code (2 : Nat) (Option.none : Option Jvm.ClassFile.FieldType)) ∈ lw_all := lw_g (lw_at lw_m2 102 rfl) rfl
theorem q466 : (Jvm.Cond.methodLink "NameOrchard$Crops" (9 : Nat) ({ cls := "java/lang/Object", name := "<init>", desc := "()V" } : Jvm.MethodName)) ∈ lw_all := lw_g (lw_at lw_m2 103 rfl) rfl
theorem q467 : (Jvm.Cond.classLink "NameOrchard$Crops" (15 : Nat) "NameOrchard$Boughs") ∈ lw_all := lw_g (lw_at lw_m2 104 rfl) rfl
theorem q469 : (Jvm.Cond.methodLinkNest "NameOrchard$Crops" (17 : Nat) ({ cls := "NameOrchard$Boughs", name := "<init>", desc := "()V" } : Jvm.MethodName) "NameOrchard") ∈ lw_tbl := lw_at lw_m2 106 rfl
theorem q470 : (Jvm.Cond.fieldLink "NameOrchard$Crops" (18 : Nat) "NameOrchard$Crops" "steps" "[LNameOrchard$Boughs;") ∈ lw_all := lw_g (lw_at lw_m2 107 rfl) rfl
theorem q471 : (Jvm.Cond.fieldLink "NameOrchard$Crops" (22 : Nat) "NameOrchard$Crops" "isNew" "[Z") ∈ lw_all := lw_g (lw_at lw_m2 108 rfl) rfl
theorem q472 : (Jvm.Cond.fieldLink "NameOrchard$Crops" (60 : Nat) "NameOrchard$Crops" "first" "I") ∈ lw_all := lw_g (lw_at lw_m2 109 rfl) rfl
theorem q474 : (Jvm.Cond.fieldLink "NameOrchard$Crops" (3 : Nat) "NameOrchard$Crops" "this$0" "LNameOrchard;") ∈ lw_all := lw_g (lw_at lw_m2 111 rfl) rfl
theorem q475 : (Jvm.Cond.laysFinal "NameOrchard$Crops" "NameOrchard$Crops" "steps" "[LNameOrchard$Boughs;") ∈ lw_all := lw_g (lw_at lw_m2 112 rfl) rfl
theorem q476 : (Jvm.Cond.soleField "NameOrchard$Crops" "steps") ∈ lw_all := lw_g (lw_at lw_m2 113 rfl) rfl
theorem q477 : (Jvm.Cond.laysFinal "NameOrchard$Crops" "NameOrchard$Crops" "isNew" "[Z") ∈ lw_all := lw_g (lw_at lw_m2 114 rfl) rfl
theorem q478 : (Jvm.Cond.soleField "NameOrchard$Crops" "isNew") ∈ lw_all := lw_g (lw_at lw_m2 115 rfl) rfl
theorem q479 : (Jvm.Cond.lays "NameOrchard$Crops" "NameOrchard$Crops" "first" "I") ∈ lw_all := lw_g (lw_at lw_m2 116 rfl) rfl
theorem q480 : (Jvm.Cond.soleField "NameOrchard$Crops" "first") ∈ lw_all := lw_g (lw_at lw_m2 117 rfl) rfl
theorem q481 : (Jvm.Cond.laysFinal "NameOrchard$Crops" "NameOrchard$Crops" "this$0" "LNameOrchard;") ∈ lw_all := lw_g (lw_at lw_m2 118 rfl) rfl
theorem q482 : (Jvm.Cond.soleField "NameOrchard$Crops" "this$0") ∈ lw_all := lw_g (lw_at lw_m2 119 rfl) rfl
theorem q483 : (Jvm.Cond.superclass "NameOrchard$Crops" "java/lang/Object") ∈ lw_all := lw_g (lw_at lw_m2 120 rfl) rfl
theorem q527 : (Jvm.Cond.fieldLinkNest "NameOrchard$Crops" (26 : Nat) "NameOrchard" "reach" "LNameOrchard$Reach;" "NameOrchard") ∈ lw_tbl := lw_at lw_m2 164 rfl
theorem q941 : (Jvm.Cond.selects "NameOrchard$Crops" ({ cls := "java/lang/Object", name := "getClass", desc := "()Ljava/lang/Class;" } : Jvm.MethodName) ({ cls := "java/lang/Object", name := "getClass", desc := "()Ljava/lang/Class;" } : Jvm.MethodName)) ∈ lw_all := lw_g (lw_at lw_m4 98 rfl) rfl
theorem q1628 : (Jvm.Cond.instanceMethod ({ cls := "NameOrchard$Crops", name := "lays", desc := "()V" } : Jvm.MethodName)) ∈ lw_all := lw_g (lw_at lw_m7 65 rfl) rfl
theorem q1629 : (Jvm.Cond.selects "NameOrchard$Crops" ({ cls := "NameOrchard$Crops", name := "lays", desc := "()V" } : Jvm.MethodName) ({ cls := "NameOrchard$Crops", name := "lays", desc := "()V" } : Jvm.MethodName)) ∈ lw_all := lw_g (lw_at lw_m7 66 rfl) rfl
theorem q1630 : (Jvm.Cond.code ({ cls := "NameOrchard$Crops", name := "lays", desc := "()V" } : Jvm.MethodName) prog_8_method_2_code (2 : Nat) (Option.none : Option Jvm.ClassFile.FieldType)) ∈ lw_all := lw_g (lw_at lw_m7 67 rfl) rfl
theorem q1631 : (Jvm.Cond.methodLink "NameOrchard$Crops" (30 : Nat) ({ cls := "NameOrchard$Reach", name := "lays", desc := "()V" } : Jvm.MethodName)) ∈ lw_all := lw_g (lw_at lw_m7 68 rfl) rfl
theorem q1642 : (Jvm.Cond.methodLink "NameOrchard$Crops" (35 : Nat) ({ cls := "NameOrchard$Reach", name := "all", desc := "()I" } : Jvm.MethodName)) ∈ lw_all := lw_g (lw_at lw_m7 79 rfl) rfl
theorem q1646 : (Jvm.Cond.methodLink "NameOrchard$Crops" (39 : Nat) ({ cls := "NameOrchard$Reach", name := "isNew", desc := "(I)Z" } : Jvm.MethodName)) ∈ lw_all := lw_g (lw_at lw_m7 83 rfl) rfl
theorem q1655 : (Jvm.Cond.instanceMethod ({ cls := "NameOrchard$Crops", name := "most", desc := "(LNameOrchard$Boughs;I)I" } : Jvm.MethodName)) ∈ lw_all := lw_g (lw_at lw_m7 92 rfl) rfl
theorem q1656 : (Jvm.Cond.selects "NameOrchard$Crops" ({ cls := "NameOrchard$Crops", name := "most", desc := "(LNameOrchard$Boughs;I)I" } : Jvm.MethodName) ({ cls := "NameOrchard$Crops", name := "most", desc := "(LNameOrchard$Boughs;I)I" } : Jvm.MethodName)) ∈ lw_all := lw_g (lw_at lw_m7 93 rfl) rfl
theorem q1657 : (Jvm.Cond.code ({ cls := "NameOrchard$Crops", name := "most", desc := "(LNameOrchard$Boughs;I)I" } : Jvm.MethodName) prog_8_method_3_code (8 : Nat) (Option.some Jvm.ClassFile.FieldType.int)) ∈ lw_all := lw_g (lw_at lw_m7 94 rfl) rfl
theorem q1658 : (Jvm.Cond.methodLink "NameOrchard$Crops" (42 : Nat) ({ cls := "NameOrchard$Boughs", name := "copies", desc := "(LNameOrchard$Boughs;)LNameOrchard$Boughs;" } : Jvm.MethodName)) ∈ lw_all := lw_g (lw_at lw_m7 95 rfl) rfl
theorem q1659 : (Jvm.Cond.methodLink "NameOrchard$Crops" (46 : Nat) ({ cls := "NameOrchard$Reach", name := "falls", desc := "(LNameOrchard$Boughs;I)I" } : Jvm.MethodName)) ∈ lw_all := lw_g (lw_at lw_m7 96 rfl) rfl
theorem q1664 : (Jvm.Cond.methodLink "NameOrchard$Crops" (50 : Nat) ({ cls := "NameOrchard$Boughs", name := "values", desc := "(I)I" } : Jvm.MethodName)) ∈ lw_all := lw_g (lw_at lw_m7 101 rfl) rfl
theorem q1665 : (Jvm.Cond.methodLink "NameOrchard$Crops" (54 : Nat) ({ cls := "NameOrchard$Boughs", name := "passes", desc := "()V" } : Jvm.MethodName)) ∈ lw_all := lw_g (lw_at lw_m7 102 rfl) rfl
theorem q1666 : (Jvm.Cond.methodLink "NameOrchard$Crops" (57 : Nat) ({ cls := "NameOrchard$Crops", name := "most", desc := "(LNameOrchard$Boughs;I)I" } : Jvm.MethodName)) ∈ lw_all := lw_g (lw_at lw_m7 103 rfl) rfl
theorem q1672 : (Jvm.Cond.instanceMethod ({ cls := "NameOrchard$Crops", name := "isFetched", desc := "(LNameOrchard$Boughs;I)Z" } : Jvm.MethodName)) ∈ lw_all := lw_g (lw_at lw_m7 109 rfl) rfl
theorem q1673 : (Jvm.Cond.selects "NameOrchard$Crops" ({ cls := "NameOrchard$Crops", name := "isFetched", desc := "(LNameOrchard$Boughs;I)Z" } : Jvm.MethodName) ({ cls := "NameOrchard$Crops", name := "isFetched", desc := "(LNameOrchard$Boughs;I)Z" } : Jvm.MethodName)) ∈ lw_all := lw_g (lw_at lw_m7 110 rfl) rfl
theorem q1674 : (Jvm.Cond.code ({ cls := "NameOrchard$Crops", name := "isFetched", desc := "(LNameOrchard$Boughs;I)Z" } : Jvm.MethodName) prog_8_method_4_code (6 : Nat) (Option.some Jvm.ClassFile.FieldType.boolean)) ∈ lw_all := lw_g (lw_at lw_m7 111 rfl) rfl
theorem q1675 : (Jvm.Cond.methodLinkNest "NameOrchard$Crops" (64 : Nat) ({ cls := "NameOrchard", name := "apples", desc := "()I" } : Jvm.MethodName) "NameOrchard") ∈ lw_tbl := lw_at lw_m7 112 rfl
theorem q1676 : (Jvm.Cond.methodLink "NameOrchard$Crops" (67 : Nat) ({ cls := "NameOrchard$Boughs", name := "hangs", desc := "(I)Z" } : Jvm.MethodName)) ∈ lw_all := lw_g (lw_at lw_m7 113 rfl) rfl
theorem q1677 : (Jvm.Cond.methodLinkNest "NameOrchard$Crops" (70 : Nat) ({ cls := "NameOrchard", name := "now", desc := "()LNameOrchard$Orchard;" } : Jvm.MethodName) "NameOrchard") ∈ lw_tbl := lw_at lw_m7 114 rfl
theorem q1678 : (Jvm.Cond.methodLink "NameOrchard$Crops" (79 : Nat) ({ cls := "java/util/ArrayList", name := "get", desc := "(I)Ljava/lang/Object;" } : Jvm.MethodName)) ∈ lw_all := lw_g (lw_at lw_m7 115 rfl) rfl
theorem q1679 : (Jvm.Cond.classLink "NameOrchard$Crops" (85 : Nat) "NameOrchard$Apple") ∈ lw_all := lw_g (lw_at lw_m7 116 rfl) rfl
theorem q1680 : (Jvm.Cond.methodLink "NameOrchard$Crops" (87 : Nat) ({ cls := "NameOrchard$Apple", name := "kind", desc := "()I" } : Jvm.MethodName)) ∈ lw_all := lw_g (lw_at lw_m7 117 rfl) rfl
theorem q1681 : (Jvm.Cond.methodLink "NameOrchard$Crops" (96 : Nat) ({ cls := "NameOrchard$Crops", name := "isFetched", desc := "(LNameOrchard$Boughs;I)Z" } : Jvm.MethodName)) ∈ lw_all := lw_g (lw_at lw_m7 118 rfl) rfl
theorem q2610 : (Jvm.Cond.castable "NameOrchard$Crops" "java/lang/Object") ∈ lw_tbl := lw_at lw_m11 87 rfl
theorem in_X7 : ∀ w ∈ wsX70, w ∈ lw_all := lw_in wsX70 [475, 477, 479, 481] (by decide +kernel) (by decide +kernel)
/-! NameOrchard$Weeks -/
set_option maxRecDepth 100000
def RX8 : String := "NameOrchard$Weeks"
def TX8 : u_T := fun k => match k with
  | 0 => ("NameOrchard$Weeks", "steps", "[LNameOrchard$Boughs;", true)
  | 1 => ("NameOrchard$Weeks", "row", "[I", true)
  | 2 => ("NameOrchard$Weeks", "best", "[I", true)
  | 3 => ("NameOrchard$Weeks", "least", "I", false)
  | 4 => ("NameOrchard$Weeks", "lane", "I", false)
  | 5 => ("NameOrchard$Weeks", "loud", "I", false)
  | _ => ("NameOrchard$Weeks", "this$0", "LNameOrchard;", true)
def tyX8 : Nat → FieldType := fun k => match k with
  | 0 => .array (.object "NameOrchard$Boughs")
  | 1 => .array .int
  | 2 => .array .int
  | 3 => .int
  | 4 => .int
  | 5 => .int
  | _ => .object "NameOrchard"
abbrev wsX80 : List Cond := u_ws RX8 TX8 7
theorem nmX8 : ∀ a, a < 7 → ∀ b, b < 7 → a ≠ b → (TX8 a).2.1 ≠ (TX8 b).2.1 := by decide +kernel
theorem tyX8_ok : ∀ k, k < 7 → parseFieldDescriptor (TX8 k).2.2.1 = some (tyX8 k) := by decide +kernel
abbrev cX8_init : ByteArray := prog_31_method_1_code
def yX8_init : MethodName := ⟨RX8, "<init>", "(LNameOrchard;)V"⟩
def dkwX8_init_3 : List UInt8 := [181, 0, 26, 177]
abbrev dktX8_init_3 : List UInt8 := dkwX8_init_3 ++ []
def dkwX8_init_2 : List UInt8 := [187, 0, 15, 89, 183, 0, 17, 83, 181, 0, 18, 42, 7, 188, 10, 181, 0, 22, 42, 7, 188, 10]
abbrev dktX8_init_2 : List UInt8 := dkwX8_init_2 ++ dktX8_init_3
def dkwX8_init_1 : List UInt8 := [89, 4, 187, 0, 15, 89, 183, 0, 17, 83, 89, 5, 187, 0, 15, 89, 183, 0, 17, 83, 89, 6]
abbrev dktX8_init_1 : List UInt8 := dkwX8_init_1 ++ dktX8_init_2
def dkwX8_init_0 : List UInt8 := [42, 43, 181, 0, 3, 42, 183, 0, 9, 42, 7, 189, 0, 15, 89, 3, 187, 0, 15, 89, 183, 0, 17, 83]
abbrev dktX8_init_0 : List UInt8 := dkwX8_init_0 ++ dktX8_init_1
theorem dksX8_init_0 : cX8_init.data.toList.drop 0 = dktX8_init_0 := by decide +kernel
theorem dksX8_init_1 : cX8_init.data.toList.drop 24 = dktX8_init_1 := dk_seg dksX8_init_0 24 rfl rfl
theorem dksX8_init_2 : cX8_init.data.toList.drop 46 = dktX8_init_2 := dk_seg dksX8_init_1 22 rfl rfl
theorem dksX8_init_3 : cX8_init.data.toList.drop 68 = dktX8_init_3 := dk_seg dksX8_init_2 22 rfl rfl
theorem dX8_init_0 : decode cX8_init 0 = .ok (.aload_n 0, 1) := dk_42 (dk_at dksX8_init_0 0 rfl rfl)
theorem dX8_init_1 : decode cX8_init 1 = .ok (.aload_n 1, 1) := dk_43 (dk_at dksX8_init_0 1 rfl rfl)
theorem dX8_init_2 : decode cX8_init 2 = .ok (.putfield 3, 3) := dk_181 0 3 (dk_at dksX8_init_0 2 rfl rfl)
theorem dX8_init_5 : decode cX8_init 5 = .ok (.aload_n 0, 1) := dk_42 (dk_at dksX8_init_0 5 rfl rfl)
theorem dX8_init_6 : decode cX8_init 6 = .ok (.invokespecial 9, 3) := dk_183 0 9 (dk_at dksX8_init_0 6 rfl rfl)
theorem dX8_init_9 : decode cX8_init 9 = .ok (.aload_n 0, 1) := dk_42 (dk_at dksX8_init_0 9 rfl rfl)
theorem dX8_init_10 : decode cX8_init 10 = .ok (.iconst 4, 1) := dk_7 (dk_at dksX8_init_0 10 rfl rfl)
theorem dX8_init_11 : decode cX8_init 11 = .ok (.anewarray 15, 3) := dk_189 0 15 (dk_at dksX8_init_0 11 rfl rfl)
theorem dX8_init_14 : decode cX8_init 14 = .ok (.dup, 1) := dk_89 (dk_at dksX8_init_0 14 rfl rfl)
theorem dX8_init_15 : decode cX8_init 15 = .ok (.iconst 0, 1) := dk_3 (dk_at dksX8_init_0 15 rfl rfl)
theorem dX8_init_16 : decode cX8_init 16 = .ok (.new 15, 3) := dk_187 0 15 (dk_at dksX8_init_0 16 rfl rfl)
theorem dX8_init_19 : decode cX8_init 19 = .ok (.dup, 1) := dk_89 (dk_at dksX8_init_0 19 rfl rfl)
theorem dX8_init_20 : decode cX8_init 20 = .ok (.invokespecial 17, 3) := dk_183 0 17 (dk_at dksX8_init_0 20 rfl rfl)
theorem dX8_init_23 : decode cX8_init 23 = .ok (.aastore, 1) := dk_83 (dk_at dksX8_init_0 23 rfl rfl)
theorem dX8_init_24 : decode cX8_init 24 = .ok (.dup, 1) := dk_89 (dk_at dksX8_init_1 0 rfl rfl)
theorem dX8_init_25 : decode cX8_init 25 = .ok (.iconst 1, 1) := dk_4 (dk_at dksX8_init_1 1 rfl rfl)
theorem dX8_init_26 : decode cX8_init 26 = .ok (.new 15, 3) := dk_187 0 15 (dk_at dksX8_init_1 2 rfl rfl)
theorem dX8_init_29 : decode cX8_init 29 = .ok (.dup, 1) := dk_89 (dk_at dksX8_init_1 5 rfl rfl)
theorem dX8_init_30 : decode cX8_init 30 = .ok (.invokespecial 17, 3) := dk_183 0 17 (dk_at dksX8_init_1 6 rfl rfl)
theorem dX8_init_33 : decode cX8_init 33 = .ok (.aastore, 1) := dk_83 (dk_at dksX8_init_1 9 rfl rfl)
theorem dX8_init_34 : decode cX8_init 34 = .ok (.dup, 1) := dk_89 (dk_at dksX8_init_1 10 rfl rfl)
theorem dX8_init_35 : decode cX8_init 35 = .ok (.iconst 2, 1) := dk_5 (dk_at dksX8_init_1 11 rfl rfl)
theorem dX8_init_36 : decode cX8_init 36 = .ok (.new 15, 3) := dk_187 0 15 (dk_at dksX8_init_1 12 rfl rfl)
theorem dX8_init_39 : decode cX8_init 39 = .ok (.dup, 1) := dk_89 (dk_at dksX8_init_1 15 rfl rfl)
theorem dX8_init_40 : decode cX8_init 40 = .ok (.invokespecial 17, 3) := dk_183 0 17 (dk_at dksX8_init_1 16 rfl rfl)
theorem dX8_init_43 : decode cX8_init 43 = .ok (.aastore, 1) := dk_83 (dk_at dksX8_init_1 19 rfl rfl)
theorem dX8_init_44 : decode cX8_init 44 = .ok (.dup, 1) := dk_89 (dk_at dksX8_init_1 20 rfl rfl)
theorem dX8_init_45 : decode cX8_init 45 = .ok (.iconst 3, 1) := dk_6 (dk_at dksX8_init_1 21 rfl rfl)
theorem dX8_init_46 : decode cX8_init 46 = .ok (.new 15, 3) := dk_187 0 15 (dk_at dksX8_init_2 0 rfl rfl)
theorem dX8_init_49 : decode cX8_init 49 = .ok (.dup, 1) := dk_89 (dk_at dksX8_init_2 3 rfl rfl)
theorem dX8_init_50 : decode cX8_init 50 = .ok (.invokespecial 17, 3) := dk_183 0 17 (dk_at dksX8_init_2 4 rfl rfl)
theorem dX8_init_53 : decode cX8_init 53 = .ok (.aastore, 1) := dk_83 (dk_at dksX8_init_2 7 rfl rfl)
theorem dX8_init_54 : decode cX8_init 54 = .ok (.putfield 18, 3) := dk_181 0 18 (dk_at dksX8_init_2 8 rfl rfl)
theorem dX8_init_57 : decode cX8_init 57 = .ok (.aload_n 0, 1) := dk_42 (dk_at dksX8_init_2 11 rfl rfl)
theorem dX8_init_58 : decode cX8_init 58 = .ok (.iconst 4, 1) := dk_7 (dk_at dksX8_init_2 12 rfl rfl)
theorem dX8_init_59 : decode cX8_init 59 = .ok (.newarray .int, 2) := dk_188_10 (dk_at dksX8_init_2 13 rfl rfl)
theorem dX8_init_61 : decode cX8_init 61 = .ok (.putfield 22, 3) := dk_181 0 22 (dk_at dksX8_init_2 15 rfl rfl)
theorem dX8_init_64 : decode cX8_init 64 = .ok (.aload_n 0, 1) := dk_42 (dk_at dksX8_init_2 18 rfl rfl)
theorem dX8_init_65 : decode cX8_init 65 = .ok (.iconst 4, 1) := dk_7 (dk_at dksX8_init_2 19 rfl rfl)
theorem dX8_init_66 : decode cX8_init 66 = .ok (.newarray .int, 2) := dk_188_10 (dk_at dksX8_init_2 20 rfl rfl)
theorem dX8_init_68 : decode cX8_init 68 = .ok (.putfield 26, 3) := dk_181 0 26 (dk_at dksX8_init_3 0 rfl rfl)
theorem dX8_init_71 : decode cX8_init 71 = .ok (.return_, 1) := dk_177 (dk_at dksX8_init_3 3 rfl rfl)
abbrev cX8_finds : ByteArray := prog_31_method_2_code
def yX8_finds : MethodName := ⟨RX8, "finds", "(II)V"⟩
def dkwX8_finds_1 : List UInt8 := [3, 3, 182, 0, 43, 177]
abbrev dktX8_finds_1 : List UInt8 := dkwX8_finds_1 ++ []
def dkwX8_finds_0 : List UInt8 := [42, 27, 181, 0, 29, 42, 28, 181, 0, 33, 42, 2, 181, 0, 36, 42, 42, 180, 0, 3, 180, 0, 39, 3]
abbrev dktX8_finds_0 : List UInt8 := dkwX8_finds_0 ++ dktX8_finds_1
theorem dksX8_finds_0 : cX8_finds.data.toList.drop 0 = dktX8_finds_0 := by decide +kernel
theorem dksX8_finds_1 : cX8_finds.data.toList.drop 24 = dktX8_finds_1 := dk_seg dksX8_finds_0 24 rfl rfl
theorem dX8_finds_0 : decode cX8_finds 0 = .ok (.aload_n 0, 1) := dk_42 (dk_at dksX8_finds_0 0 rfl rfl)
theorem dX8_finds_1 : decode cX8_finds 1 = .ok (.iload_n 1, 1) := dk_27 (dk_at dksX8_finds_0 1 rfl rfl)
theorem dX8_finds_2 : decode cX8_finds 2 = .ok (.putfield 29, 3) := dk_181 0 29 (dk_at dksX8_finds_0 2 rfl rfl)
theorem dX8_finds_5 : decode cX8_finds 5 = .ok (.aload_n 0, 1) := dk_42 (dk_at dksX8_finds_0 5 rfl rfl)
theorem dX8_finds_6 : decode cX8_finds 6 = .ok (.iload_n 2, 1) := dk_28 (dk_at dksX8_finds_0 6 rfl rfl)
theorem dX8_finds_7 : decode cX8_finds 7 = .ok (.putfield 33, 3) := dk_181 0 33 (dk_at dksX8_finds_0 7 rfl rfl)
theorem dX8_finds_10 : decode cX8_finds 10 = .ok (.aload_n 0, 1) := dk_42 (dk_at dksX8_finds_0 10 rfl rfl)
theorem dX8_finds_11 : decode cX8_finds 11 = .ok (.iconst (-1), 1) := dk_2 (dk_at dksX8_finds_0 11 rfl rfl)
theorem dX8_finds_12 : decode cX8_finds 12 = .ok (.putfield 36, 3) := dk_181 0 36 (dk_at dksX8_finds_0 12 rfl rfl)
theorem dX8_finds_15 : decode cX8_finds 15 = .ok (.aload_n 0, 1) := dk_42 (dk_at dksX8_finds_0 15 rfl rfl)
theorem dX8_finds_16 : decode cX8_finds 16 = .ok (.aload_n 0, 1) := dk_42 (dk_at dksX8_finds_0 16 rfl rfl)
theorem dX8_finds_17 : decode cX8_finds 17 = .ok (.getfield 3, 3) := dk_180 0 3 (dk_at dksX8_finds_0 17 rfl rfl)
theorem dX8_finds_20 : decode cX8_finds 20 = .ok (.getfield 39, 3) := dk_180 0 39 (dk_at dksX8_finds_0 20 rfl rfl)
theorem dX8_finds_23 : decode cX8_finds 23 = .ok (.iconst 0, 1) := dk_3 (dk_at dksX8_finds_0 23 rfl rfl)
theorem dX8_finds_24 : decode cX8_finds 24 = .ok (.iconst 0, 1) := dk_3 (dk_at dksX8_finds_1 0 rfl rfl)
theorem dX8_finds_25 : decode cX8_finds 25 = .ok (.iconst 0, 1) := dk_3 (dk_at dksX8_finds_1 1 rfl rfl)
theorem dX8_finds_26 : decode cX8_finds 26 = .ok (.invokevirtual 43, 3) := dk_182 0 43 (dk_at dksX8_finds_1 2 rfl rfl)
theorem dX8_finds_29 : decode cX8_finds 29 = .ok (.return_, 1) := dk_177 (dk_at dksX8_finds_1 5 rfl rfl)
abbrev cX8_goes : ByteArray := prog_31_method_3_code
def yX8_goes : MethodName := ⟨RX8, "goes", "(LNameOrchard$Boughs;III)V"⟩
def dkwX8_goes_9 : List UInt8 := [21, 4, 21, 9, 96, 182, 0, 43, 132, 5, 1, 167, 255, 98, 177]
abbrev dktX8_goes_9 : List UInt8 := dkwX8_goes_9 ++ []
def dkwX8_goes_8 : List UInt8 := [181, 0, 89, 42, 180, 0, 22, 28, 21, 5, 79, 42, 25, 6, 28, 4, 96, 29, 4, 21, 5, 120, 128]
abbrev dktX8_goes_8 : List UInt8 := dkwX8_goes_8 ++ dktX8_goes_9
def dkwX8_goes_7 : List UInt8 := [46, 182, 0, 85, 87, 25, 6, 180, 0, 82, 21, 8, 100, 54, 9, 25, 6, 89, 180, 0, 89, 16, 7, 96]
abbrev dktX8_goes_7 : List UInt8 := dkwX8_goes_7 ++ dktX8_goes_8
def dkwX8_goes_6 : List UInt8 := [180, 0, 33, 25, 7, 3, 46, 182, 0, 85, 87, 25, 6, 42, 180, 0, 29, 42, 180, 0, 33, 25, 7, 4]
abbrev dktX8_goes_6 : List UInt8 := dkwX8_goes_6 ++ dktX8_goes_7
def dkwX8_goes_5 : List UInt8 := [182, 0, 77, 192, 0, 81, 58, 7, 25, 6, 180, 0, 82, 54, 8, 25, 6, 42, 180, 0, 29, 42]
abbrev dktX8_goes_5 : List UInt8 := dkwX8_goes_5 ++ dktX8_goes_6
def dkwX8_goes_4 : List UInt8 := [180, 0, 18, 28, 50, 43, 182, 0, 73, 58, 6, 42, 180, 0, 3, 182, 0, 47, 180, 0, 51, 21, 5]
abbrev dktX8_goes_4 : List UInt8 := dkwX8_goes_4 ++ dktX8_goes_5
def dkwX8_goes_3 : List UInt8 := [180, 0, 51, 182, 0, 57, 162, 0, 146, 29, 21, 5, 184, 0, 69, 153, 0, 6, 167, 0, 128, 42]
abbrev dktX8_goes_3 : List UInt8 := dkwX8_goes_3 ++ dktX8_goes_4
def dkwX8_goes_2 : List UInt8 := [42, 180, 0, 26, 3, 7, 184, 0, 63, 177, 3, 54, 5, 21, 5, 42, 180, 0, 3, 182, 0, 47]
abbrev dktX8_goes_2 : List UInt8 := dkwX8_goes_2 ++ dktX8_goes_3
def dkwX8_goes_1 : List UInt8 := [159, 0, 13, 21, 4, 42, 180, 0, 36, 161, 0, 4, 177, 42, 21, 4, 181, 0, 36, 42, 180, 0, 22, 3]
abbrev dktX8_goes_1 : List UInt8 := dkwX8_goes_1 ++ dktX8_goes_2
def dkwX8_goes_0 : List UInt8 := [28, 42, 180, 0, 3, 182, 0, 47, 180, 0, 51, 182, 0, 57, 160, 0, 42, 42, 180, 0, 36, 2]
abbrev dktX8_goes_0 : List UInt8 := dkwX8_goes_0 ++ dktX8_goes_1
theorem dksX8_goes_0 : cX8_goes.data.toList.drop 0 = dktX8_goes_0 := by decide +kernel
theorem dksX8_goes_1 : cX8_goes.data.toList.drop 22 = dktX8_goes_1 := dk_seg dksX8_goes_0 22 rfl rfl
theorem dksX8_goes_2 : cX8_goes.data.toList.drop 46 = dktX8_goes_2 := dk_seg dksX8_goes_1 24 rfl rfl
theorem dksX8_goes_3 : cX8_goes.data.toList.drop 68 = dktX8_goes_3 := dk_seg dksX8_goes_2 22 rfl rfl
theorem dksX8_goes_4 : cX8_goes.data.toList.drop 90 = dktX8_goes_4 := dk_seg dksX8_goes_3 22 rfl rfl
theorem dksX8_goes_5 : cX8_goes.data.toList.drop 113 = dktX8_goes_5 := dk_seg dksX8_goes_4 23 rfl rfl
theorem dksX8_goes_6 : cX8_goes.data.toList.drop 135 = dktX8_goes_6 := dk_seg dksX8_goes_5 22 rfl rfl
theorem dksX8_goes_7 : cX8_goes.data.toList.drop 159 = dktX8_goes_7 := dk_seg dksX8_goes_6 24 rfl rfl
theorem dksX8_goes_8 : cX8_goes.data.toList.drop 183 = dktX8_goes_8 := dk_seg dksX8_goes_7 24 rfl rfl
theorem dksX8_goes_9 : cX8_goes.data.toList.drop 206 = dktX8_goes_9 := dk_seg dksX8_goes_8 23 rfl rfl
theorem dX8_goes_0 : decode cX8_goes 0 = .ok (.iload_n 2, 1) := dk_28 (dk_at dksX8_goes_0 0 rfl rfl)
theorem dX8_goes_1 : decode cX8_goes 1 = .ok (.aload_n 0, 1) := dk_42 (dk_at dksX8_goes_0 1 rfl rfl)
theorem dX8_goes_2 : decode cX8_goes 2 = .ok (.getfield 3, 3) := dk_180 0 3 (dk_at dksX8_goes_0 2 rfl rfl)
theorem dX8_goes_5 : decode cX8_goes 5 = .ok (.invokevirtual 47, 3) := dk_182 0 47 (dk_at dksX8_goes_0 5 rfl rfl)
theorem dX8_goes_8 : decode cX8_goes 8 = .ok (.getfield 51, 3) := dk_180 0 51 (dk_at dksX8_goes_0 8 rfl rfl)
theorem dX8_goes_11 : decode cX8_goes 11 = .ok (.invokevirtual 57, 3) := dk_182 0 57 (dk_at dksX8_goes_0 11 rfl rfl)
theorem dX8_goes_14 : decode cX8_goes 14 = .ok (.if_icmp .ne 42, 3) := dk_160 0 42 (dk_at dksX8_goes_0 14 rfl rfl)
theorem dX8_goes_17 : decode cX8_goes 17 = .ok (.aload_n 0, 1) := dk_42 (dk_at dksX8_goes_0 17 rfl rfl)
theorem dX8_goes_18 : decode cX8_goes 18 = .ok (.getfield 36, 3) := dk_180 0 36 (dk_at dksX8_goes_0 18 rfl rfl)
theorem dX8_goes_21 : decode cX8_goes 21 = .ok (.iconst (-1), 1) := dk_2 (dk_at dksX8_goes_0 21 rfl rfl)
theorem dX8_goes_22 : decode cX8_goes 22 = .ok (.if_icmp .eq 13, 3) := dk_159 0 13 (dk_at dksX8_goes_1 0 rfl rfl)
theorem dX8_goes_25 : decode cX8_goes 25 = .ok (.iload 4, 2) := dk_21 4 (dk_at dksX8_goes_1 3 rfl rfl)
theorem dX8_goes_27 : decode cX8_goes 27 = .ok (.aload_n 0, 1) := dk_42 (dk_at dksX8_goes_1 5 rfl rfl)
theorem dX8_goes_28 : decode cX8_goes 28 = .ok (.getfield 36, 3) := dk_180 0 36 (dk_at dksX8_goes_1 6 rfl rfl)
theorem dX8_goes_31 : decode cX8_goes 31 = .ok (.if_icmp .lt 4, 3) := dk_161 0 4 (dk_at dksX8_goes_1 9 rfl rfl)
theorem dX8_goes_34 : decode cX8_goes 34 = .ok (.return_, 1) := dk_177 (dk_at dksX8_goes_1 12 rfl rfl)
theorem dX8_goes_35 : decode cX8_goes 35 = .ok (.aload_n 0, 1) := dk_42 (dk_at dksX8_goes_1 13 rfl rfl)
theorem dX8_goes_36 : decode cX8_goes 36 = .ok (.iload 4, 2) := dk_21 4 (dk_at dksX8_goes_1 14 rfl rfl)
theorem dX8_goes_38 : decode cX8_goes 38 = .ok (.putfield 36, 3) := dk_181 0 36 (dk_at dksX8_goes_1 16 rfl rfl)
theorem dX8_goes_41 : decode cX8_goes 41 = .ok (.aload_n 0, 1) := dk_42 (dk_at dksX8_goes_1 19 rfl rfl)
theorem dX8_goes_42 : decode cX8_goes 42 = .ok (.getfield 22, 3) := dk_180 0 22 (dk_at dksX8_goes_1 20 rfl rfl)
theorem dX8_goes_45 : decode cX8_goes 45 = .ok (.iconst 0, 1) := dk_3 (dk_at dksX8_goes_1 23 rfl rfl)
theorem dX8_goes_46 : decode cX8_goes 46 = .ok (.aload_n 0, 1) := dk_42 (dk_at dksX8_goes_2 0 rfl rfl)
theorem dX8_goes_47 : decode cX8_goes 47 = .ok (.getfield 26, 3) := dk_180 0 26 (dk_at dksX8_goes_2 1 rfl rfl)
theorem dX8_goes_50 : decode cX8_goes 50 = .ok (.iconst 0, 1) := dk_3 (dk_at dksX8_goes_2 4 rfl rfl)
theorem dX8_goes_51 : decode cX8_goes 51 = .ok (.iconst 4, 1) := dk_7 (dk_at dksX8_goes_2 5 rfl rfl)
theorem dX8_goes_52 : decode cX8_goes 52 = .ok (.invokestatic 63, 3) := dk_184 0 63 (dk_at dksX8_goes_2 6 rfl rfl)
theorem dX8_goes_55 : decode cX8_goes 55 = .ok (.return_, 1) := dk_177 (dk_at dksX8_goes_2 9 rfl rfl)
theorem dX8_goes_56 : decode cX8_goes 56 = .ok (.iconst 0, 1) := dk_3 (dk_at dksX8_goes_2 10 rfl rfl)
theorem dX8_goes_57 : decode cX8_goes 57 = .ok (.istore 5, 2) := dk_54 5 (dk_at dksX8_goes_2 11 rfl rfl)
theorem dX8_goes_59 : decode cX8_goes 59 = .ok (.iload 5, 2) := dk_21 5 (dk_at dksX8_goes_2 13 rfl rfl)
theorem dX8_goes_61 : decode cX8_goes 61 = .ok (.aload_n 0, 1) := dk_42 (dk_at dksX8_goes_2 15 rfl rfl)
theorem dX8_goes_62 : decode cX8_goes 62 = .ok (.getfield 3, 3) := dk_180 0 3 (dk_at dksX8_goes_2 16 rfl rfl)
theorem dX8_goes_65 : decode cX8_goes 65 = .ok (.invokevirtual 47, 3) := dk_182 0 47 (dk_at dksX8_goes_2 19 rfl rfl)
theorem dX8_goes_68 : decode cX8_goes 68 = .ok (.getfield 51, 3) := dk_180 0 51 (dk_at dksX8_goes_3 0 rfl rfl)
theorem dX8_goes_71 : decode cX8_goes 71 = .ok (.invokevirtual 57, 3) := dk_182 0 57 (dk_at dksX8_goes_3 3 rfl rfl)
theorem dX8_goes_74 : decode cX8_goes 74 = .ok (.if_icmp .ge 146, 3) := dk_162 0 146 (dk_at dksX8_goes_3 6 rfl rfl)
theorem dX8_goes_77 : decode cX8_goes 77 = .ok (.iload_n 3, 1) := dk_29 (dk_at dksX8_goes_3 9 rfl rfl)
theorem dX8_goes_78 : decode cX8_goes 78 = .ok (.iload 5, 2) := dk_21 5 (dk_at dksX8_goes_3 10 rfl rfl)
theorem dX8_goes_80 : decode cX8_goes 80 = .ok (.invokestatic 69, 3) := dk_184 0 69 (dk_at dksX8_goes_3 12 rfl rfl)
theorem dX8_goes_83 : decode cX8_goes 83 = .ok (.ifCond .eq 6, 3) := dk_153 0 6 (dk_at dksX8_goes_3 15 rfl rfl)
theorem dX8_goes_86 : decode cX8_goes 86 = .ok (.goto 128, 3) := dk_167 0 128 (dk_at dksX8_goes_3 18 rfl rfl)
theorem dX8_goes_89 : decode cX8_goes 89 = .ok (.aload_n 0, 1) := dk_42 (dk_at dksX8_goes_3 21 rfl rfl)
theorem dX8_goes_90 : decode cX8_goes 90 = .ok (.getfield 18, 3) := dk_180 0 18 (dk_at dksX8_goes_4 0 rfl rfl)
theorem dX8_goes_93 : decode cX8_goes 93 = .ok (.iload_n 2, 1) := dk_28 (dk_at dksX8_goes_4 3 rfl rfl)
theorem dX8_goes_94 : decode cX8_goes 94 = .ok (.aaload, 1) := dk_50 (dk_at dksX8_goes_4 4 rfl rfl)
theorem dX8_goes_95 : decode cX8_goes 95 = .ok (.aload_n 1, 1) := dk_43 (dk_at dksX8_goes_4 5 rfl rfl)
theorem dX8_goes_96 : decode cX8_goes 96 = .ok (.invokevirtual 73, 3) := dk_182 0 73 (dk_at dksX8_goes_4 6 rfl rfl)
theorem dX8_goes_99 : decode cX8_goes 99 = .ok (.astore 6, 2) := dk_58 6 (dk_at dksX8_goes_4 9 rfl rfl)
theorem dX8_goes_101 : decode cX8_goes 101 = .ok (.aload_n 0, 1) := dk_42 (dk_at dksX8_goes_4 11 rfl rfl)
theorem dX8_goes_102 : decode cX8_goes 102 = .ok (.getfield 3, 3) := dk_180 0 3 (dk_at dksX8_goes_4 12 rfl rfl)
theorem dX8_goes_105 : decode cX8_goes 105 = .ok (.invokevirtual 47, 3) := dk_182 0 47 (dk_at dksX8_goes_4 15 rfl rfl)
theorem dX8_goes_108 : decode cX8_goes 108 = .ok (.getfield 51, 3) := dk_180 0 51 (dk_at dksX8_goes_4 18 rfl rfl)
theorem dX8_goes_111 : decode cX8_goes 111 = .ok (.iload 5, 2) := dk_21 5 (dk_at dksX8_goes_4 21 rfl rfl)
theorem dX8_goes_113 : decode cX8_goes 113 = .ok (.invokevirtual 77, 3) := dk_182 0 77 (dk_at dksX8_goes_5 0 rfl rfl)
theorem dX8_goes_116 : decode cX8_goes 116 = .ok (.checkcast 81, 3) := dk_192 0 81 (dk_at dksX8_goes_5 3 rfl rfl)
theorem dX8_goes_119 : decode cX8_goes 119 = .ok (.astore 7, 2) := dk_58 7 (dk_at dksX8_goes_5 6 rfl rfl)
theorem dX8_goes_121 : decode cX8_goes 121 = .ok (.aload 6, 2) := dk_25 6 (dk_at dksX8_goes_5 8 rfl rfl)
theorem dX8_goes_123 : decode cX8_goes 123 = .ok (.getfield 82, 3) := dk_180 0 82 (dk_at dksX8_goes_5 10 rfl rfl)
theorem dX8_goes_126 : decode cX8_goes 126 = .ok (.istore 8, 2) := dk_54 8 (dk_at dksX8_goes_5 13 rfl rfl)
theorem dX8_goes_128 : decode cX8_goes 128 = .ok (.aload 6, 2) := dk_25 6 (dk_at dksX8_goes_5 15 rfl rfl)
theorem dX8_goes_130 : decode cX8_goes 130 = .ok (.aload_n 0, 1) := dk_42 (dk_at dksX8_goes_5 17 rfl rfl)
theorem dX8_goes_131 : decode cX8_goes 131 = .ok (.getfield 29, 3) := dk_180 0 29 (dk_at dksX8_goes_5 18 rfl rfl)
theorem dX8_goes_134 : decode cX8_goes 134 = .ok (.aload_n 0, 1) := dk_42 (dk_at dksX8_goes_5 21 rfl rfl)
theorem dX8_goes_135 : decode cX8_goes 135 = .ok (.getfield 33, 3) := dk_180 0 33 (dk_at dksX8_goes_6 0 rfl rfl)
theorem dX8_goes_138 : decode cX8_goes 138 = .ok (.aload 7, 2) := dk_25 7 (dk_at dksX8_goes_6 3 rfl rfl)
theorem dX8_goes_140 : decode cX8_goes 140 = .ok (.iconst 0, 1) := dk_3 (dk_at dksX8_goes_6 5 rfl rfl)
theorem dX8_goes_141 : decode cX8_goes 141 = .ok (.iaload, 1) := dk_46 (dk_at dksX8_goes_6 6 rfl rfl)
theorem dX8_goes_142 : decode cX8_goes 142 = .ok (.invokevirtual 85, 3) := dk_182 0 85 (dk_at dksX8_goes_6 7 rfl rfl)
theorem dX8_goes_145 : decode cX8_goes 145 = .ok (.pop, 1) := dk_87 (dk_at dksX8_goes_6 10 rfl rfl)
theorem dX8_goes_146 : decode cX8_goes 146 = .ok (.aload 6, 2) := dk_25 6 (dk_at dksX8_goes_6 11 rfl rfl)
theorem dX8_goes_148 : decode cX8_goes 148 = .ok (.aload_n 0, 1) := dk_42 (dk_at dksX8_goes_6 13 rfl rfl)
theorem dX8_goes_149 : decode cX8_goes 149 = .ok (.getfield 29, 3) := dk_180 0 29 (dk_at dksX8_goes_6 14 rfl rfl)
theorem dX8_goes_152 : decode cX8_goes 152 = .ok (.aload_n 0, 1) := dk_42 (dk_at dksX8_goes_6 17 rfl rfl)
theorem dX8_goes_153 : decode cX8_goes 153 = .ok (.getfield 33, 3) := dk_180 0 33 (dk_at dksX8_goes_6 18 rfl rfl)
theorem dX8_goes_156 : decode cX8_goes 156 = .ok (.aload 7, 2) := dk_25 7 (dk_at dksX8_goes_6 21 rfl rfl)
theorem dX8_goes_158 : decode cX8_goes 158 = .ok (.iconst 1, 1) := dk_4 (dk_at dksX8_goes_6 23 rfl rfl)
theorem dX8_goes_159 : decode cX8_goes 159 = .ok (.iaload, 1) := dk_46 (dk_at dksX8_goes_7 0 rfl rfl)
theorem dX8_goes_160 : decode cX8_goes 160 = .ok (.invokevirtual 85, 3) := dk_182 0 85 (dk_at dksX8_goes_7 1 rfl rfl)
theorem dX8_goes_163 : decode cX8_goes 163 = .ok (.pop, 1) := dk_87 (dk_at dksX8_goes_7 4 rfl rfl)
theorem dX8_goes_164 : decode cX8_goes 164 = .ok (.aload 6, 2) := dk_25 6 (dk_at dksX8_goes_7 5 rfl rfl)
theorem dX8_goes_166 : decode cX8_goes 166 = .ok (.getfield 82, 3) := dk_180 0 82 (dk_at dksX8_goes_7 7 rfl rfl)
theorem dX8_goes_169 : decode cX8_goes 169 = .ok (.iload 8, 2) := dk_21 8 (dk_at dksX8_goes_7 10 rfl rfl)
theorem dX8_goes_171 : decode cX8_goes 171 = .ok (.isub, 1) := dk_100 (dk_at dksX8_goes_7 12 rfl rfl)
theorem dX8_goes_172 : decode cX8_goes 172 = .ok (.istore 9, 2) := dk_54 9 (dk_at dksX8_goes_7 13 rfl rfl)
theorem dX8_goes_174 : decode cX8_goes 174 = .ok (.aload 6, 2) := dk_25 6 (dk_at dksX8_goes_7 15 rfl rfl)
theorem dX8_goes_176 : decode cX8_goes 176 = .ok (.dup, 1) := dk_89 (dk_at dksX8_goes_7 17 rfl rfl)
theorem dX8_goes_177 : decode cX8_goes 177 = .ok (.getfield 89, 3) := dk_180 0 89 (dk_at dksX8_goes_7 18 rfl rfl)
theorem dX8_goes_180 : decode cX8_goes 180 = .ok (.bipush 7, 2) := dk_16 7 (dk_at dksX8_goes_7 21 rfl rfl)
theorem dX8_goes_182 : decode cX8_goes 182 = .ok (.iadd, 1) := dk_96 (dk_at dksX8_goes_7 23 rfl rfl)
theorem dX8_goes_183 : decode cX8_goes 183 = .ok (.putfield 89, 3) := dk_181 0 89 (dk_at dksX8_goes_8 0 rfl rfl)
theorem dX8_goes_186 : decode cX8_goes 186 = .ok (.aload_n 0, 1) := dk_42 (dk_at dksX8_goes_8 3 rfl rfl)
theorem dX8_goes_187 : decode cX8_goes 187 = .ok (.getfield 22, 3) := dk_180 0 22 (dk_at dksX8_goes_8 4 rfl rfl)
theorem dX8_goes_190 : decode cX8_goes 190 = .ok (.iload_n 2, 1) := dk_28 (dk_at dksX8_goes_8 7 rfl rfl)
theorem dX8_goes_191 : decode cX8_goes 191 = .ok (.iload 5, 2) := dk_21 5 (dk_at dksX8_goes_8 8 rfl rfl)
theorem dX8_goes_193 : decode cX8_goes 193 = .ok (.iastore, 1) := dk_79 (dk_at dksX8_goes_8 10 rfl rfl)
theorem dX8_goes_194 : decode cX8_goes 194 = .ok (.aload_n 0, 1) := dk_42 (dk_at dksX8_goes_8 11 rfl rfl)
theorem dX8_goes_195 : decode cX8_goes 195 = .ok (.aload 6, 2) := dk_25 6 (dk_at dksX8_goes_8 12 rfl rfl)
theorem dX8_goes_197 : decode cX8_goes 197 = .ok (.iload_n 2, 1) := dk_28 (dk_at dksX8_goes_8 14 rfl rfl)
theorem dX8_goes_198 : decode cX8_goes 198 = .ok (.iconst 1, 1) := dk_4 (dk_at dksX8_goes_8 15 rfl rfl)
theorem dX8_goes_199 : decode cX8_goes 199 = .ok (.iadd, 1) := dk_96 (dk_at dksX8_goes_8 16 rfl rfl)
theorem dX8_goes_200 : decode cX8_goes 200 = .ok (.iload_n 3, 1) := dk_29 (dk_at dksX8_goes_8 17 rfl rfl)
theorem dX8_goes_201 : decode cX8_goes 201 = .ok (.iconst 1, 1) := dk_4 (dk_at dksX8_goes_8 18 rfl rfl)
theorem dX8_goes_202 : decode cX8_goes 202 = .ok (.iload 5, 2) := dk_21 5 (dk_at dksX8_goes_8 19 rfl rfl)
theorem dX8_goes_204 : decode cX8_goes 204 = .ok (.ishl, 1) := dk_120 (dk_at dksX8_goes_8 21 rfl rfl)
theorem dX8_goes_205 : decode cX8_goes 205 = .ok (.ior, 1) := dk_128 (dk_at dksX8_goes_8 22 rfl rfl)
theorem dX8_goes_206 : decode cX8_goes 206 = .ok (.iload 4, 2) := dk_21 4 (dk_at dksX8_goes_9 0 rfl rfl)
theorem dX8_goes_208 : decode cX8_goes 208 = .ok (.iload 9, 2) := dk_21 9 (dk_at dksX8_goes_9 2 rfl rfl)
theorem dX8_goes_210 : decode cX8_goes 210 = .ok (.iadd, 1) := dk_96 (dk_at dksX8_goes_9 4 rfl rfl)
theorem dX8_goes_211 : decode cX8_goes 211 = .ok (.invokevirtual 43, 3) := dk_182 0 43 (dk_at dksX8_goes_9 5 rfl rfl)
theorem dX8_goes_214 : decode cX8_goes 214 = .ok (.iinc 5 1, 3) := dk_132 5 1 (dk_at dksX8_goes_9 8 rfl rfl)
theorem dX8_goes_217 : decode cX8_goes 217 = .ok (.goto (-158), 3) := dk_167 255 98 (dk_at dksX8_goes_9 11 rfl rfl)
theorem dX8_goes_220 : decode cX8_goes 220 = .ok (.return_, 1) := dk_177 (dk_at dksX8_goes_9 14 rfl rfl)
theorem q136 : (Jvm.Cond.initialized "NameOrchard$Weeks") ∈ lw_all := lw_g (lw_at lw_m1 13 rfl) rfl
theorem q286 : (Jvm.Cond.fieldLink "NameOrchard$Weeks" (89 : Nat) "NameOrchard$Boughs" "day" "I") ∈ lw_all := lw_g (lw_at lw_m1 163 rfl) rfl
theorem q289 : (Jvm.Cond.fieldLink "NameOrchard$Weeks" (82 : Nat) "NameOrchard$Boughs" "had" "I") ∈ lw_all := lw_g (lw_at lw_m1 166 rfl) rfl
theorem q376 : (Jvm.Cond.fieldLink "NameOrchard$Weeks" (51 : Nat) "NameOrchard$Orchard" "banns" "Ljava/util/ArrayList;") ∈ lw_all := lw_g (lw_at lw_m2 13 rfl) rfl
theorem q485 : (Jvm.Cond.instantiable "NameOrchard$Weeks" (7 : Nat)) ∈ lw_all := lw_g (lw_at lw_m2 122 rfl) rfl
theorem q487 : (Jvm.Cond.instanceMethod ({ cls := "NameOrchard$Weeks", name := "<init>", desc := "(LNameOrchard;)V" } : Jvm.MethodName)) ∈ lw_all := lw_g (lw_at lw_m2 124 rfl) rfl
theorem q488 : (Jvm.Cond.code ({ cls := "NameOrchard$Weeks", name := "<init>", desc := "(LNameOrchard;)V" } : Jvm.MethodName) prog_31_method_1_code (2 : Nat) (Option.none : Option Jvm.ClassFile.FieldType)) ∈ lw_all := lw_g (lw_at lw_m2 125 rfl) rfl
theorem q489 : (Jvm.Cond.methodLink "NameOrchard$Weeks" (9 : Nat) ({ cls := "java/lang/Object", name := "<init>", desc := "()V" } : Jvm.MethodName)) ∈ lw_all := lw_g (lw_at lw_m2 126 rfl) rfl
theorem q490 : (Jvm.Cond.classLink "NameOrchard$Weeks" (15 : Nat) "NameOrchard$Boughs") ∈ lw_all := lw_g (lw_at lw_m2 127 rfl) rfl
theorem q491 : (Jvm.Cond.methodLinkNest "NameOrchard$Weeks" (17 : Nat) ({ cls := "NameOrchard$Boughs", name := "<init>", desc := "()V" } : Jvm.MethodName) "NameOrchard") ∈ lw_tbl := lw_at lw_m2 128 rfl
theorem q492 : (Jvm.Cond.fieldLink "NameOrchard$Weeks" (18 : Nat) "NameOrchard$Weeks" "steps" "[LNameOrchard$Boughs;") ∈ lw_all := lw_g (lw_at lw_m2 129 rfl) rfl
theorem q493 : (Jvm.Cond.fieldLink "NameOrchard$Weeks" (22 : Nat) "NameOrchard$Weeks" "row" "[I") ∈ lw_all := lw_g (lw_at lw_m2 130 rfl) rfl
theorem q494 : (Jvm.Cond.fieldLink "NameOrchard$Weeks" (26 : Nat) "NameOrchard$Weeks" "best" "[I") ∈ lw_all := lw_g (lw_at lw_m2 131 rfl) rfl
theorem q496 : (Jvm.Cond.fieldLink "NameOrchard$Weeks" (36 : Nat) "NameOrchard$Weeks" "least" "I") ∈ lw_all := lw_g (lw_at lw_m2 133 rfl) rfl
theorem q498 : (Jvm.Cond.fieldLink "NameOrchard$Weeks" (29 : Nat) "NameOrchard$Weeks" "lane" "I") ∈ lw_all := lw_g (lw_at lw_m2 135 rfl) rfl
theorem q499 : (Jvm.Cond.fieldLink "NameOrchard$Weeks" (33 : Nat) "NameOrchard$Weeks" "loud" "I") ∈ lw_all := lw_g (lw_at lw_m2 136 rfl) rfl
theorem q500 : (Jvm.Cond.fieldLink "NameOrchard$Weeks" (3 : Nat) "NameOrchard$Weeks" "this$0" "LNameOrchard;") ∈ lw_all := lw_g (lw_at lw_m2 137 rfl) rfl
theorem q501 : (Jvm.Cond.laysFinal "NameOrchard$Weeks" "NameOrchard$Weeks" "steps" "[LNameOrchard$Boughs;") ∈ lw_all := lw_g (lw_at lw_m2 138 rfl) rfl
theorem q502 : (Jvm.Cond.soleField "NameOrchard$Weeks" "steps") ∈ lw_all := lw_g (lw_at lw_m2 139 rfl) rfl
theorem q503 : (Jvm.Cond.laysFinal "NameOrchard$Weeks" "NameOrchard$Weeks" "row" "[I") ∈ lw_all := lw_g (lw_at lw_m2 140 rfl) rfl
theorem q504 : (Jvm.Cond.soleField "NameOrchard$Weeks" "row") ∈ lw_all := lw_g (lw_at lw_m2 141 rfl) rfl
theorem q505 : (Jvm.Cond.laysFinal "NameOrchard$Weeks" "NameOrchard$Weeks" "best" "[I") ∈ lw_all := lw_g (lw_at lw_m2 142 rfl) rfl
theorem q506 : (Jvm.Cond.soleField "NameOrchard$Weeks" "best") ∈ lw_all := lw_g (lw_at lw_m2 143 rfl) rfl
theorem q507 : (Jvm.Cond.lays "NameOrchard$Weeks" "NameOrchard$Weeks" "least" "I") ∈ lw_all := lw_g (lw_at lw_m2 144 rfl) rfl
theorem q508 : (Jvm.Cond.soleField "NameOrchard$Weeks" "least") ∈ lw_all := lw_g (lw_at lw_m2 145 rfl) rfl
theorem q509 : (Jvm.Cond.lays "NameOrchard$Weeks" "NameOrchard$Weeks" "lane" "I") ∈ lw_all := lw_g (lw_at lw_m2 146 rfl) rfl
theorem q510 : (Jvm.Cond.soleField "NameOrchard$Weeks" "lane") ∈ lw_all := lw_g (lw_at lw_m2 147 rfl) rfl
theorem q511 : (Jvm.Cond.lays "NameOrchard$Weeks" "NameOrchard$Weeks" "loud" "I") ∈ lw_all := lw_g (lw_at lw_m2 148 rfl) rfl
theorem q512 : (Jvm.Cond.soleField "NameOrchard$Weeks" "loud") ∈ lw_all := lw_g (lw_at lw_m2 149 rfl) rfl
theorem q513 : (Jvm.Cond.laysFinal "NameOrchard$Weeks" "NameOrchard$Weeks" "this$0" "LNameOrchard;") ∈ lw_all := lw_g (lw_at lw_m2 150 rfl) rfl
theorem q514 : (Jvm.Cond.soleField "NameOrchard$Weeks" "this$0") ∈ lw_all := lw_g (lw_at lw_m2 151 rfl) rfl
theorem q515 : (Jvm.Cond.superclass "NameOrchard$Weeks" "java/lang/Object") ∈ lw_all := lw_g (lw_at lw_m2 152 rfl) rfl
theorem q519 : (Jvm.Cond.fieldLinkNest "NameOrchard$Weeks" (39 : Nat) "NameOrchard" "boughs" "LNameOrchard$Boughs;" "NameOrchard") ∈ lw_tbl := lw_at lw_m2 156 rfl
theorem q961 : (Jvm.Cond.selects "NameOrchard$Weeks" ({ cls := "java/lang/Object", name := "getClass", desc := "()Ljava/lang/Class;" } : Jvm.MethodName) ({ cls := "java/lang/Object", name := "getClass", desc := "()Ljava/lang/Class;" } : Jvm.MethodName)) ∈ lw_all := lw_g (lw_at lw_m4 118 rfl) rfl
theorem q1753 : (Jvm.Cond.instanceMethod ({ cls := "NameOrchard$Weeks", name := "finds", desc := "(II)V" } : Jvm.MethodName)) ∈ lw_all := lw_g (lw_at lw_m7 190 rfl) rfl
theorem q1754 : (Jvm.Cond.selects "NameOrchard$Weeks" ({ cls := "NameOrchard$Weeks", name := "finds", desc := "(II)V" } : Jvm.MethodName) ({ cls := "NameOrchard$Weeks", name := "finds", desc := "(II)V" } : Jvm.MethodName)) ∈ lw_all := lw_g (lw_at lw_m7 191 rfl) rfl
theorem q1755 : (Jvm.Cond.code ({ cls := "NameOrchard$Weeks", name := "finds", desc := "(II)V" } : Jvm.MethodName) prog_31_method_2_code (3 : Nat) (Option.none : Option Jvm.ClassFile.FieldType)) ∈ lw_all := lw_g (lw_at lw_m7 192 rfl) rfl
theorem q1756 : (Jvm.Cond.methodLink "NameOrchard$Weeks" (43 : Nat) ({ cls := "NameOrchard$Weeks", name := "goes", desc := "(LNameOrchard$Boughs;III)V" } : Jvm.MethodName)) ∈ lw_all := lw_g (lw_at lw_m7 193 rfl) rfl
theorem q1757 : (Jvm.Cond.privateMethod ({ cls := "NameOrchard$Weeks", name := "goes", desc := "(LNameOrchard$Boughs;III)V" } : Jvm.MethodName)) ∈ lw_tbl := lw_at lw_m7 194 rfl
theorem q1758 : (Jvm.Cond.instanceMethod ({ cls := "NameOrchard$Weeks", name := "goes", desc := "(LNameOrchard$Boughs;III)V" } : Jvm.MethodName)) ∈ lw_all := lw_g (lw_at lw_m7 195 rfl) rfl
theorem q1759 : (Jvm.Cond.code ({ cls := "NameOrchard$Weeks", name := "goes", desc := "(LNameOrchard$Boughs;III)V" } : Jvm.MethodName) prog_31_method_3_code (10 : Nat) (Option.none : Option Jvm.ClassFile.FieldType)) ∈ lw_all := lw_g (lw_at lw_m7 196 rfl) rfl
theorem q1760 : (Jvm.Cond.methodLinkNest "NameOrchard$Weeks" (47 : Nat) ({ cls := "NameOrchard", name := "now", desc := "()LNameOrchard$Orchard;" } : Jvm.MethodName) "NameOrchard") ∈ lw_tbl := lw_at lw_m7 197 rfl
theorem q1761 : (Jvm.Cond.methodLink "NameOrchard$Weeks" (57 : Nat) ({ cls := "java/util/ArrayList", name := "size", desc := "()I" } : Jvm.MethodName)) ∈ lw_all := lw_g (lw_at lw_m7 198 rfl) rfl
theorem q1762 : (Jvm.Cond.methodLink "NameOrchard$Weeks" (63 : Nat) ({ cls := "java/lang/System", name := "arraycopy", desc := "(Ljava/lang/Object;ILjava/lang/Object;II)V" } : Jvm.MethodName)) ∈ lw_all := lw_g (lw_at lw_m7 199 rfl) rfl
theorem q1763 : (Jvm.Cond.methodLinkNest "NameOrchard$Weeks" (69 : Nat) ({ cls := "NameOrchard", name := "has", desc := "(II)Z" } : Jvm.MethodName) "NameOrchard") ∈ lw_tbl := lw_at lw_m7 200 rfl
theorem q1764 : (Jvm.Cond.methodLink "NameOrchard$Weeks" (73 : Nat) ({ cls := "NameOrchard$Boughs", name := "copies", desc := "(LNameOrchard$Boughs;)LNameOrchard$Boughs;" } : Jvm.MethodName)) ∈ lw_all := lw_g (lw_at lw_m7 201 rfl) rfl
theorem q1765 : (Jvm.Cond.methodLink "NameOrchard$Weeks" (77 : Nat) ({ cls := "java/util/ArrayList", name := "get", desc := "(I)Ljava/lang/Object;" } : Jvm.MethodName)) ∈ lw_all := lw_g (lw_at lw_m7 202 rfl) rfl
theorem q1766 : (Jvm.Cond.classLink "NameOrchard$Weeks" (81 : Nat) "[I") ∈ lw_all := lw_g (lw_at lw_m7 203 rfl) rfl
theorem q1767 : (Jvm.Cond.methodLink "NameOrchard$Weeks" (85 : Nat) ({ cls := "NameOrchard$Boughs", name := "calledBy", desc := "(III)I" } : Jvm.MethodName)) ∈ lw_all := lw_g (lw_at lw_m7 204 rfl) rfl
theorem q2611 : (Jvm.Cond.castable "NameOrchard$Weeks" "java/lang/Object") ∈ lw_tbl := lw_at lw_m11 88 rfl
theorem in_X8 : ∀ w ∈ wsX80, w ∈ lw_all := lw_in wsX80 [501, 503, 505, 507, 509, 511, 513] (by decide +kernel) (by decide +kernel)
/-! NameOrchard$Wrong -/
set_option maxRecDepth 100000
def RX10 : String := "NameOrchard$Wrong"
def TX10 : u_T := fun k => match k with
  | 0 => ("java/lang/Throwable", "cause", "Ljava/lang/Throwable;", false)
  | 1 => ("java/lang/Throwable", "stackTrace", "[Ljava/lang/StackTraceElement;", false)
  | 2 => ("java/lang/Throwable", "suppressedExceptions", "Ljava/util/List;", false)
  | 3 => ("java/lang/Throwable", "detailMessage", "Ljava/lang/String;", false)
  | 4 => ("java/lang/Throwable", "backtrace", "Ljava/lang/Object;", false)
  | 5 => ("java/lang/Throwable", "depth", "I", false)
  | _ => ("NameOrchard$Wrong", "fault", "I", true)
def tyX10 : Nat → FieldType := fun k => match k with
  | 0 => .object "java/lang/Throwable"
  | 1 => .array (.object "java/lang/StackTraceElement")
  | 2 => .object "java/util/List"
  | 3 => .object "java/lang/String"
  | 4 => .object "java/lang/Object"
  | 5 => .int
  | _ => .int
abbrev wsX100 : List Cond := u_ws RX10 TX10 7
theorem nmX10 : ∀ a, a < 7 → ∀ b, b < 7 → a ≠ b → (TX10 a).2.1 ≠ (TX10 b).2.1 := by decide +kernel
theorem tyX10_ok : ∀ k, k < 7 → parseFieldDescriptor (TX10 k).2.2.1 = some (tyX10 k) := by decide +kernel
abbrev cX10_init : ByteArray := prog_33_method_1_code
def yX10_init : MethodName := ⟨RX10, "<init>", "(I)V"⟩
def dkwX10_init_0 : List UInt8 := [42, 183, 0, 1, 42, 27, 181, 0, 7, 177]
abbrev dktX10_init_0 : List UInt8 := dkwX10_init_0 ++ []
theorem dksX10_init_0 : cX10_init.data.toList.drop 0 = dktX10_init_0 := by decide +kernel
theorem dX10_init_0 : decode cX10_init 0 = .ok (.aload_n 0, 1) := dk_42 (dk_at dksX10_init_0 0 rfl rfl)
theorem dX10_init_1 : decode cX10_init 1 = .ok (.invokespecial 1, 3) := dk_183 0 1 (dk_at dksX10_init_0 1 rfl rfl)
theorem dX10_init_4 : decode cX10_init 4 = .ok (.aload_n 0, 1) := dk_42 (dk_at dksX10_init_0 4 rfl rfl)
theorem dX10_init_5 : decode cX10_init 5 = .ok (.iload_n 1, 1) := dk_27 (dk_at dksX10_init_0 5 rfl rfl)
theorem dX10_init_6 : decode cX10_init 6 = .ok (.putfield 7, 3) := dk_181 0 7 (dk_at dksX10_init_0 6 rfl rfl)
theorem dX10_init_9 : decode cX10_init 9 = .ok (.return_, 1) := dk_177 (dk_at dksX10_init_0 9 rfl rfl)
theorem q145 : (Jvm.Cond.initialized "NameOrchard$Wrong") ∈ lw_all := lw_g (lw_at lw_m1 22 rfl) rfl
theorem q722 : (Jvm.Cond.instantiable "NameOrchard$Wrong" (7 : Nat)) ∈ lw_all := lw_g (lw_at lw_m3 119 rfl) rfl
theorem q723 : (Jvm.Cond.castable "NameOrchard$Wrong" "NameOrchard$Wrong") ∈ lw_tbl := lw_at lw_m3 120 rfl
theorem q728 : (Jvm.Cond.selects "NameOrchard$Wrong" ({ cls := "java/lang/Throwable", name := "fillInStackTrace", desc := "(I)Ljava/lang/Throwable;" } : Jvm.MethodName) ({ cls := "java/lang/Throwable", name := "fillInStackTrace", desc := "(I)Ljava/lang/Throwable;" } : Jvm.MethodName)) ∈ lw_all := lw_g (lw_at lw_m3 125 rfl) rfl
theorem q729 : (Jvm.Cond.selects "NameOrchard$Wrong" ({ cls := "java/lang/Throwable", name := "fillInStackTrace", desc := "()Ljava/lang/Throwable;" } : Jvm.MethodName) ({ cls := "java/lang/Throwable", name := "fillInStackTrace", desc := "()Ljava/lang/Throwable;" } : Jvm.MethodName)) ∈ lw_all := lw_g (lw_at lw_m3 126 rfl) rfl
theorem q730 : (Jvm.Cond.lays "NameOrchard$Wrong" "java/lang/Throwable" "cause" "Ljava/lang/Throwable;") ∈ lw_all := lw_g (lw_at lw_m3 127 rfl) rfl
theorem q732 : (Jvm.Cond.lays "NameOrchard$Wrong" "java/lang/Throwable" "stackTrace" "[Ljava/lang/StackTraceElement;") ∈ lw_all := lw_g (lw_at lw_m3 129 rfl) rfl
theorem q734 : (Jvm.Cond.lays "NameOrchard$Wrong" "java/lang/Throwable" "suppressedExceptions" "Ljava/util/List;") ∈ lw_all := lw_g (lw_at lw_m3 131 rfl) rfl
theorem q736 : (Jvm.Cond.lays "NameOrchard$Wrong" "java/lang/Throwable" "detailMessage" "Ljava/lang/String;") ∈ lw_all := lw_g (lw_at lw_m3 133 rfl) rfl
theorem q738 : (Jvm.Cond.lays "NameOrchard$Wrong" "java/lang/Throwable" "backtrace" "Ljava/lang/Object;") ∈ lw_all := lw_g (lw_at lw_m3 135 rfl) rfl
theorem q760 : (Jvm.Cond.instanceMethod ({ cls := "NameOrchard$Wrong", name := "<init>", desc := "(I)V" } : Jvm.MethodName)) ∈ lw_all := lw_g (lw_at lw_m3 157 rfl) rfl
theorem q761 : (Jvm.Cond.code ({ cls := "NameOrchard$Wrong", name := "<init>", desc := "(I)V" } : Jvm.MethodName) prog_33_method_1_code (2 : Nat) (Option.none : Option Jvm.ClassFile.FieldType)) ∈ lw_all := lw_g (lw_at lw_m3 158 rfl) rfl
theorem q762 : (Jvm.Cond.methodLink "NameOrchard$Wrong" (1 : Nat) ({ cls := "java/lang/Exception", name := "<init>", desc := "()V" } : Jvm.MethodName)) ∈ lw_all := lw_g (lw_at lw_m3 159 rfl) rfl
theorem q766 : (Jvm.Cond.fieldLink "NameOrchard$Wrong" (7 : Nat) "NameOrchard$Wrong" "fault" "I") ∈ lw_all := lw_g (lw_at lw_m3 163 rfl) rfl
theorem q772 : (Jvm.Cond.laysFinal "NameOrchard$Wrong" "NameOrchard$Wrong" "fault" "I") ∈ lw_all := lw_g (lw_at lw_m3 169 rfl) rfl
theorem q773 : (Jvm.Cond.soleField "NameOrchard$Wrong" "fault") ∈ lw_all := lw_g (lw_at lw_m3 170 rfl) rfl
theorem q778 : (Jvm.Cond.lays "NameOrchard$Wrong" "java/lang/Throwable" "depth" "I") ∈ lw_all := lw_g (lw_at lw_m3 175 rfl) rfl
theorem q781 : (Jvm.Cond.superclass "NameOrchard$Wrong" "java/lang/Exception") ∈ lw_all := lw_g (lw_at lw_m3 178 rfl) rfl
theorem q963 : (Jvm.Cond.selects "NameOrchard$Wrong" ({ cls := "java/lang/Object", name := "getClass", desc := "()Ljava/lang/Class;" } : Jvm.MethodName) ({ cls := "java/lang/Object", name := "getClass", desc := "()Ljava/lang/Class;" } : Jvm.MethodName)) ∈ lw_all := lw_g (lw_at lw_m4 120 rfl) rfl
theorem q2613 : (Jvm.Cond.castable "NameOrchard$Wrong" "java/lang/Object") ∈ lw_tbl := lw_at lw_m11 90 rfl
theorem in_X10 : ∀ w ∈ wsX100, w ∈ lw_all := lw_in wsX100 [730, 732, 734, 736, 738, 778, 772] (by decide +kernel) (by decide +kernel)
/-! NameOrchard$Apple -/
set_option maxRecDepth 100000
def RX11 : String := "NameOrchard$Apple"
def TX11 : u_T := fun k => match k with
  | 0 => ("NameOrchard$Apple", "sound", "I", true)
  | 1 => ("NameOrchard$Apple", "place", "I", true)
  | 2 => ("NameOrchard$Apple", "row", "I", true)
  | 3 => ("NameOrchard$Apple", "ripe", "I", true)
  | 4 => ("NameOrchard$Apple", "worth", "I", true)
  | _ => ("NameOrchard$Apple", "twin", "I", false)
def tyX11 : Nat → FieldType := fun k => match k with
  | 0 => .int
  | 1 => .int
  | 2 => .int
  | 3 => .int
  | 4 => .int
  | _ => .int
abbrev wsX110 : List Cond := u_ws RX11 TX11 6
theorem nmX11 : ∀ a, a < 6 → ∀ b, b < 6 → a ≠ b → (TX11 a).2.1 ≠ (TX11 b).2.1 := by decide +kernel
theorem tyX11_ok : ∀ k, k < 6 → parseFieldDescriptor (TX11 k).2.2.1 = some (tyX11 k) := by decide +kernel
abbrev cX11_init : ByteArray := prog_4_method_1_code
def yX11_init : MethodName := ⟨RX11, "<init>", "(IIIII)V"⟩
def dkwX11_init_1 : List UInt8 := [42, 21, 4, 181, 0, 24, 42, 21, 5, 181, 0, 27, 177]
abbrev dktX11_init_1 : List UInt8 := dkwX11_init_1 ++ []
def dkwX11_init_0 : List UInt8 := [42, 183, 0, 3, 42, 2, 181, 0, 9, 42, 27, 181, 0, 15, 42, 28, 181, 0, 18, 42, 29, 181, 0, 21]
abbrev dktX11_init_0 : List UInt8 := dkwX11_init_0 ++ dktX11_init_1
theorem dksX11_init_0 : cX11_init.data.toList.drop 0 = dktX11_init_0 := by decide +kernel
theorem dksX11_init_1 : cX11_init.data.toList.drop 24 = dktX11_init_1 := dk_seg dksX11_init_0 24 rfl rfl
theorem dX11_init_0 : decode cX11_init 0 = .ok (.aload_n 0, 1) := dk_42 (dk_at dksX11_init_0 0 rfl rfl)
theorem dX11_init_1 : decode cX11_init 1 = .ok (.invokespecial 3, 3) := dk_183 0 3 (dk_at dksX11_init_0 1 rfl rfl)
theorem dX11_init_4 : decode cX11_init 4 = .ok (.aload_n 0, 1) := dk_42 (dk_at dksX11_init_0 4 rfl rfl)
theorem dX11_init_5 : decode cX11_init 5 = .ok (.iconst (-1), 1) := dk_2 (dk_at dksX11_init_0 5 rfl rfl)
theorem dX11_init_6 : decode cX11_init 6 = .ok (.putfield 9, 3) := dk_181 0 9 (dk_at dksX11_init_0 6 rfl rfl)
theorem dX11_init_9 : decode cX11_init 9 = .ok (.aload_n 0, 1) := dk_42 (dk_at dksX11_init_0 9 rfl rfl)
theorem dX11_init_10 : decode cX11_init 10 = .ok (.iload_n 1, 1) := dk_27 (dk_at dksX11_init_0 10 rfl rfl)
theorem dX11_init_11 : decode cX11_init 11 = .ok (.putfield 15, 3) := dk_181 0 15 (dk_at dksX11_init_0 11 rfl rfl)
theorem dX11_init_14 : decode cX11_init 14 = .ok (.aload_n 0, 1) := dk_42 (dk_at dksX11_init_0 14 rfl rfl)
theorem dX11_init_15 : decode cX11_init 15 = .ok (.iload_n 2, 1) := dk_28 (dk_at dksX11_init_0 15 rfl rfl)
theorem dX11_init_16 : decode cX11_init 16 = .ok (.putfield 18, 3) := dk_181 0 18 (dk_at dksX11_init_0 16 rfl rfl)
theorem dX11_init_19 : decode cX11_init 19 = .ok (.aload_n 0, 1) := dk_42 (dk_at dksX11_init_0 19 rfl rfl)
theorem dX11_init_20 : decode cX11_init 20 = .ok (.iload_n 3, 1) := dk_29 (dk_at dksX11_init_0 20 rfl rfl)
theorem dX11_init_21 : decode cX11_init 21 = .ok (.putfield 21, 3) := dk_181 0 21 (dk_at dksX11_init_0 21 rfl rfl)
theorem dX11_init_24 : decode cX11_init 24 = .ok (.aload_n 0, 1) := dk_42 (dk_at dksX11_init_1 0 rfl rfl)
theorem dX11_init_25 : decode cX11_init 25 = .ok (.iload 4, 2) := dk_21 4 (dk_at dksX11_init_1 1 rfl rfl)
theorem dX11_init_27 : decode cX11_init 27 = .ok (.putfield 24, 3) := dk_181 0 24 (dk_at dksX11_init_1 3 rfl rfl)
theorem dX11_init_30 : decode cX11_init 30 = .ok (.aload_n 0, 1) := dk_42 (dk_at dksX11_init_1 6 rfl rfl)
theorem dX11_init_31 : decode cX11_init 31 = .ok (.iload 5, 2) := dk_21 5 (dk_at dksX11_init_1 7 rfl rfl)
theorem dX11_init_33 : decode cX11_init 33 = .ok (.putfield 27, 3) := dk_181 0 27 (dk_at dksX11_init_1 9 rfl rfl)
theorem dX11_init_36 : decode cX11_init 36 = .ok (.return_, 1) := dk_177 (dk_at dksX11_init_1 12 rfl rfl)
abbrev cX11_kind : ByteArray := prog_4_method_2_code
def yX11_kind : MethodName := ⟨RX11, "kind", "()I"⟩
theorem dX11_kind_0 : decode cX11_kind 0 = .ok (.iconst 0, 1) := by decide +kernel
theorem dX11_kind_1 : decode cX11_kind 1 = .ok (.ireturn, 1) := by decide +kernel
abbrev cX11_hears : ByteArray := prog_4_method_3_code
def yX11_hears : MethodName := ⟨RX11, "hears", "(ZZ)Z"⟩
theorem dX11_hears_0 : decode cX11_hears 0 = .ok (.iload_n 1, 1) := by decide +kernel
theorem dX11_hears_1 : decode cX11_hears 1 = .ok (.ireturn, 1) := by decide +kernel
abbrev cX11_falls : ByteArray := prog_4_method_4_code
def yX11_falls : MethodName := ⟨RX11, "falls", "(Z)Z"⟩
theorem dX11_falls_0 : decode cX11_falls 0 = .ok (.iconst 1, 1) := by decide +kernel
theorem dX11_falls_1 : decode cX11_falls 1 = .ok (.ireturn, 1) := by decide +kernel
theorem q146 : (Jvm.Cond.initialized "NameOrchard$Apple") ∈ lw_all := lw_g (lw_at lw_m1 23 rfl) rfl
theorem q831 : (Jvm.Cond.instanceMethod ({ cls := "NameOrchard$Apple", name := "<init>", desc := "(IIIII)V" } : Jvm.MethodName)) ∈ lw_all := lw_g (lw_at lw_m3 228 rfl) rfl
theorem q832 : (Jvm.Cond.code ({ cls := "NameOrchard$Apple", name := "<init>", desc := "(IIIII)V" } : Jvm.MethodName) prog_4_method_1_code (6 : Nat) (Option.none : Option Jvm.ClassFile.FieldType)) ∈ lw_all := lw_g (lw_at lw_m3 229 rfl) rfl
theorem q833 : (Jvm.Cond.methodLink "NameOrchard$Apple" (3 : Nat) ({ cls := "java/lang/Object", name := "<init>", desc := "()V" } : Jvm.MethodName)) ∈ lw_all := lw_g (lw_at lw_m3 230 rfl) rfl
theorem q834 : (Jvm.Cond.fieldLink "NameOrchard$Apple" (15 : Nat) "NameOrchard$Apple" "sound" "I") ∈ lw_all := lw_g (lw_at lw_m3 231 rfl) rfl
theorem q838 : (Jvm.Cond.fieldLink "NameOrchard$Apple" (18 : Nat) "NameOrchard$Apple" "place" "I") ∈ lw_all := lw_g (lw_at lw_m3 235 rfl) rfl
theorem q840 : (Jvm.Cond.fieldLink "NameOrchard$Apple" (21 : Nat) "NameOrchard$Apple" "row" "I") ∈ lw_all := lw_g (lw_at lw_m3 237 rfl) rfl
theorem q843 : (Jvm.Cond.fieldLink "NameOrchard$Apple" (24 : Nat) "NameOrchard$Apple" "ripe" "I") ∈ lw_all := lw_g (lw_at lw_m4 0 rfl) rfl
theorem q847 : (Jvm.Cond.fieldLink "NameOrchard$Apple" (27 : Nat) "NameOrchard$Apple" "worth" "I") ∈ lw_all := lw_g (lw_at lw_m4 4 rfl) rfl
theorem q851 : (Jvm.Cond.fieldLink "NameOrchard$Apple" (9 : Nat) "NameOrchard$Apple" "twin" "I") ∈ lw_all := lw_g (lw_at lw_m4 8 rfl) rfl
theorem q856 : (Jvm.Cond.soleField "NameOrchard$Apple" "sound") ∈ lw_all := lw_g (lw_at lw_m4 13 rfl) rfl
theorem q858 : (Jvm.Cond.soleField "NameOrchard$Apple" "place") ∈ lw_all := lw_g (lw_at lw_m4 15 rfl) rfl
theorem q860 : (Jvm.Cond.soleField "NameOrchard$Apple" "row") ∈ lw_all := lw_g (lw_at lw_m4 17 rfl) rfl
theorem q862 : (Jvm.Cond.soleField "NameOrchard$Apple" "ripe") ∈ lw_all := lw_g (lw_at lw_m4 19 rfl) rfl
theorem q864 : (Jvm.Cond.soleField "NameOrchard$Apple" "worth") ∈ lw_all := lw_g (lw_at lw_m4 21 rfl) rfl
theorem q866 : (Jvm.Cond.soleField "NameOrchard$Apple" "twin") ∈ lw_all := lw_g (lw_at lw_m4 23 rfl) rfl
theorem q895 : (Jvm.Cond.instantiable "NameOrchard$Apple" (6 : Nat)) ∈ lw_all := lw_g (lw_at lw_m4 52 rfl) rfl
theorem q897 : (Jvm.Cond.laysFinal "NameOrchard$Apple" "NameOrchard$Apple" "sound" "I") ∈ lw_all := lw_g (lw_at lw_m4 54 rfl) rfl
theorem q898 : (Jvm.Cond.laysFinal "NameOrchard$Apple" "NameOrchard$Apple" "place" "I") ∈ lw_all := lw_g (lw_at lw_m4 55 rfl) rfl
theorem q899 : (Jvm.Cond.laysFinal "NameOrchard$Apple" "NameOrchard$Apple" "row" "I") ∈ lw_all := lw_g (lw_at lw_m4 56 rfl) rfl
theorem q900 : (Jvm.Cond.laysFinal "NameOrchard$Apple" "NameOrchard$Apple" "ripe" "I") ∈ lw_all := lw_g (lw_at lw_m4 57 rfl) rfl
theorem q901 : (Jvm.Cond.laysFinal "NameOrchard$Apple" "NameOrchard$Apple" "worth" "I") ∈ lw_all := lw_g (lw_at lw_m4 58 rfl) rfl
theorem q902 : (Jvm.Cond.lays "NameOrchard$Apple" "NameOrchard$Apple" "twin" "I") ∈ lw_all := lw_g (lw_at lw_m4 59 rfl) rfl
theorem q903 : (Jvm.Cond.superclass "NameOrchard$Apple" "java/lang/Object") ∈ lw_all := lw_g (lw_at lw_m4 60 rfl) rfl
theorem q937 : (Jvm.Cond.selects "NameOrchard$Apple" ({ cls := "java/lang/Object", name := "getClass", desc := "()Ljava/lang/Class;" } : Jvm.MethodName) ({ cls := "java/lang/Object", name := "getClass", desc := "()Ljava/lang/Class;" } : Jvm.MethodName)) ∈ lw_all := lw_g (lw_at lw_m4 94 rfl) rfl
theorem q1322 : (Jvm.Cond.instanceMethod ({ cls := "NameOrchard$Apple", name := "kind", desc := "()I" } : Jvm.MethodName)) ∈ lw_all := lw_g (lw_at lw_m5 239 rfl) rfl
theorem q1323 : (Jvm.Cond.selects "NameOrchard$Apple" ({ cls := "NameOrchard$Apple", name := "kind", desc := "()I" } : Jvm.MethodName) ({ cls := "NameOrchard$Apple", name := "kind", desc := "()I" } : Jvm.MethodName)) ∈ lw_all := lw_g (lw_at lw_m6 0 rfl) rfl
theorem q1324 : (Jvm.Cond.sameMethod "NameOrchard$Apple" "NameOrchard$Apple" "kind" "()I") ∈ lw_all := lw_g (lw_at lw_m6 1 rfl) rfl
theorem q1334 : (Jvm.Cond.code ({ cls := "NameOrchard$Apple", name := "kind", desc := "()I" } : Jvm.MethodName) prog_4_method_2_code (1 : Nat) (Option.some Jvm.ClassFile.FieldType.int)) ∈ lw_all := lw_g (lw_at lw_m6 11 rfl) rfl
theorem q1500 : (Jvm.Cond.instanceMethod ({ cls := "NameOrchard$Apple", name := "hears", desc := "(ZZ)Z" } : Jvm.MethodName)) ∈ lw_all := lw_g (lw_at lw_m6 177 rfl) rfl
theorem q1501 : (Jvm.Cond.selects "NameOrchard$Apple" ({ cls := "NameOrchard$Apple", name := "hears", desc := "(ZZ)Z" } : Jvm.MethodName) ({ cls := "NameOrchard$Apple", name := "hears", desc := "(ZZ)Z" } : Jvm.MethodName)) ∈ lw_all := lw_g (lw_at lw_m6 178 rfl) rfl
theorem q1502 : (Jvm.Cond.sameMethod "NameOrchard$Apple" "NameOrchard$Apple" "hears" "(ZZ)Z") ∈ lw_all := lw_g (lw_at lw_m6 179 rfl) rfl
theorem q1510 : (Jvm.Cond.code ({ cls := "NameOrchard$Apple", name := "hears", desc := "(ZZ)Z" } : Jvm.MethodName) prog_4_method_3_code (3 : Nat) (Option.some Jvm.ClassFile.FieldType.boolean)) ∈ lw_all := lw_g (lw_at lw_m6 187 rfl) rfl
theorem q1517 : (Jvm.Cond.instanceMethod ({ cls := "NameOrchard$Apple", name := "falls", desc := "(Z)Z" } : Jvm.MethodName)) ∈ lw_all := lw_g (lw_at lw_m6 194 rfl) rfl
theorem q1518 : (Jvm.Cond.selects "NameOrchard$Apple" ({ cls := "NameOrchard$Apple", name := "falls", desc := "(Z)Z" } : Jvm.MethodName) ({ cls := "NameOrchard$Apple", name := "falls", desc := "(Z)Z" } : Jvm.MethodName)) ∈ lw_all := lw_g (lw_at lw_m6 195 rfl) rfl
theorem q1519 : (Jvm.Cond.sameMethod "NameOrchard$Apple" "NameOrchard$Apple" "falls" "(Z)Z") ∈ lw_all := lw_g (lw_at lw_m6 196 rfl) rfl
theorem q1525 : (Jvm.Cond.code ({ cls := "NameOrchard$Apple", name := "falls", desc := "(Z)Z" } : Jvm.MethodName) prog_4_method_4_code (2 : Nat) (Option.some Jvm.ClassFile.FieldType.boolean)) ∈ lw_all := lw_g (lw_at lw_m6 202 rfl) rfl
theorem q2617 : (Jvm.Cond.castable "NameOrchard$Apple" "java/lang/Object") ∈ lw_tbl := lw_at lw_m11 94 rfl
theorem in_X11 : ∀ w ∈ wsX110, w ∈ lw_all := lw_in wsX110 [897, 898, 899, 900, 901, 902] (by decide +kernel) (by decide +kernel)
/-! NameOrchard$Alias -/
set_option maxRecDepth 100000
def RX12 : String := "NameOrchard$Alias"
def TX12 : u_T := fun k => match k with
  | 0 => ("NameOrchard$Apple", "sound", "I", true)
  | 1 => ("NameOrchard$Apple", "place", "I", true)
  | 2 => ("NameOrchard$Apple", "row", "I", true)
  | 3 => ("NameOrchard$Apple", "ripe", "I", true)
  | 4 => ("NameOrchard$Apple", "worth", "I", true)
  | _ => ("NameOrchard$Apple", "twin", "I", false)
def tyX12 : Nat → FieldType := fun k => match k with
  | 0 => .int
  | 1 => .int
  | 2 => .int
  | 3 => .int
  | 4 => .int
  | _ => .int
abbrev wsX120 : List Cond := u_ws RX12 TX12 6
theorem nmX12 : ∀ a, a < 6 → ∀ b, b < 6 → a ≠ b → (TX12 a).2.1 ≠ (TX12 b).2.1 := by decide +kernel
theorem tyX12_ok : ∀ k, k < 6 → parseFieldDescriptor (TX12 k).2.2.1 = some (tyX12 k) := by decide +kernel
abbrev cX12_init : ByteArray := prog_2_method_1_code
def yX12_init : MethodName := ⟨RX12, "<init>", "(IIIII)V"⟩
def dkwX12_init_0 : List UInt8 := [42, 27, 28, 29, 21, 4, 21, 5, 183, 0, 1, 177]
abbrev dktX12_init_0 : List UInt8 := dkwX12_init_0 ++ []
theorem dksX12_init_0 : cX12_init.data.toList.drop 0 = dktX12_init_0 := by decide +kernel
theorem dX12_init_0 : decode cX12_init 0 = .ok (.aload_n 0, 1) := dk_42 (dk_at dksX12_init_0 0 rfl rfl)
theorem dX12_init_1 : decode cX12_init 1 = .ok (.iload_n 1, 1) := dk_27 (dk_at dksX12_init_0 1 rfl rfl)
theorem dX12_init_2 : decode cX12_init 2 = .ok (.iload_n 2, 1) := dk_28 (dk_at dksX12_init_0 2 rfl rfl)
theorem dX12_init_3 : decode cX12_init 3 = .ok (.iload_n 3, 1) := dk_29 (dk_at dksX12_init_0 3 rfl rfl)
theorem dX12_init_4 : decode cX12_init 4 = .ok (.iload 4, 2) := dk_21 4 (dk_at dksX12_init_0 4 rfl rfl)
theorem dX12_init_6 : decode cX12_init 6 = .ok (.iload 5, 2) := dk_21 5 (dk_at dksX12_init_0 6 rfl rfl)
theorem dX12_init_8 : decode cX12_init 8 = .ok (.invokespecial 1, 3) := dk_183 0 1 (dk_at dksX12_init_0 8 rfl rfl)
theorem dX12_init_11 : decode cX12_init 11 = .ok (.return_, 1) := dk_177 (dk_at dksX12_init_0 11 rfl rfl)
abbrev cX12_kind : ByteArray := prog_2_method_2_code
def yX12_kind : MethodName := ⟨RX12, "kind", "()I"⟩
theorem dX12_kind_0 : decode cX12_kind 0 = .ok (.iconst 1, 1) := by decide +kernel
theorem dX12_kind_1 : decode cX12_kind 1 = .ok (.ireturn, 1) := by decide +kernel
abbrev cX12_hears : ByteArray := prog_2_method_3_code
def yX12_hears : MethodName := ⟨RX12, "hears", "(ZZ)Z"⟩
theorem dX12_hears_0 : decode cX12_hears 0 = .ok (.iload_n 2, 1) := by decide +kernel
theorem dX12_hears_1 : decode cX12_hears 1 = .ok (.ireturn, 1) := by decide +kernel
theorem q147 : (Jvm.Cond.initialized "NameOrchard$Alias") ∈ lw_all := lw_g (lw_at lw_m1 24 rfl) rfl
theorem q826 : (Jvm.Cond.instantiable "NameOrchard$Alias" (6 : Nat)) ∈ lw_all := lw_g (lw_at lw_m3 223 rfl) rfl
theorem q828 : (Jvm.Cond.instanceMethod ({ cls := "NameOrchard$Alias", name := "<init>", desc := "(IIIII)V" } : Jvm.MethodName)) ∈ lw_all := lw_g (lw_at lw_m3 225 rfl) rfl
theorem q829 : (Jvm.Cond.code ({ cls := "NameOrchard$Alias", name := "<init>", desc := "(IIIII)V" } : Jvm.MethodName) prog_2_method_1_code (6 : Nat) (Option.none : Option Jvm.ClassFile.FieldType)) ∈ lw_all := lw_g (lw_at lw_m3 226 rfl) rfl
theorem q830 : (Jvm.Cond.methodLink "NameOrchard$Alias" (1 : Nat) ({ cls := "NameOrchard$Apple", name := "<init>", desc := "(IIIII)V" } : Jvm.MethodName)) ∈ lw_all := lw_g (lw_at lw_m3 227 rfl) rfl
theorem q855 : (Jvm.Cond.laysFinal "NameOrchard$Alias" "NameOrchard$Apple" "sound" "I") ∈ lw_all := lw_g (lw_at lw_m4 12 rfl) rfl
theorem q857 : (Jvm.Cond.laysFinal "NameOrchard$Alias" "NameOrchard$Apple" "place" "I") ∈ lw_all := lw_g (lw_at lw_m4 14 rfl) rfl
theorem q859 : (Jvm.Cond.laysFinal "NameOrchard$Alias" "NameOrchard$Apple" "row" "I") ∈ lw_all := lw_g (lw_at lw_m4 16 rfl) rfl
theorem q861 : (Jvm.Cond.laysFinal "NameOrchard$Alias" "NameOrchard$Apple" "ripe" "I") ∈ lw_all := lw_g (lw_at lw_m4 18 rfl) rfl
theorem q863 : (Jvm.Cond.laysFinal "NameOrchard$Alias" "NameOrchard$Apple" "worth" "I") ∈ lw_all := lw_g (lw_at lw_m4 20 rfl) rfl
theorem q865 : (Jvm.Cond.lays "NameOrchard$Alias" "NameOrchard$Apple" "twin" "I") ∈ lw_all := lw_g (lw_at lw_m4 22 rfl) rfl
theorem q867 : (Jvm.Cond.superclass "NameOrchard$Alias" "NameOrchard$Apple") ∈ lw_all := lw_g (lw_at lw_m4 24 rfl) rfl
theorem q935 : (Jvm.Cond.selects "NameOrchard$Alias" ({ cls := "java/lang/Object", name := "getClass", desc := "()Ljava/lang/Class;" } : Jvm.MethodName) ({ cls := "java/lang/Object", name := "getClass", desc := "()Ljava/lang/Class;" } : Jvm.MethodName)) ∈ lw_all := lw_g (lw_at lw_m4 92 rfl) rfl
theorem q1325 : (Jvm.Cond.selects "NameOrchard$Alias" ({ cls := "NameOrchard$Apple", name := "kind", desc := "()I" } : Jvm.MethodName) ({ cls := "NameOrchard$Alias", name := "kind", desc := "()I" } : Jvm.MethodName)) ∈ lw_all := lw_g (lw_at lw_m6 2 rfl) rfl
theorem q1326 : (Jvm.Cond.instanceMethod ({ cls := "NameOrchard$Alias", name := "kind", desc := "()I" } : Jvm.MethodName)) ∈ lw_all := lw_g (lw_at lw_m6 3 rfl) rfl
theorem q1327 : (Jvm.Cond.code ({ cls := "NameOrchard$Alias", name := "kind", desc := "()I" } : Jvm.MethodName) prog_2_method_2_code (1 : Nat) (Option.some Jvm.ClassFile.FieldType.int)) ∈ lw_all := lw_g (lw_at lw_m6 4 rfl) rfl
theorem q1503 : (Jvm.Cond.selects "NameOrchard$Alias" ({ cls := "NameOrchard$Apple", name := "hears", desc := "(ZZ)Z" } : Jvm.MethodName) ({ cls := "NameOrchard$Alias", name := "hears", desc := "(ZZ)Z" } : Jvm.MethodName)) ∈ lw_all := lw_g (lw_at lw_m6 180 rfl) rfl
theorem q1504 : (Jvm.Cond.instanceMethod ({ cls := "NameOrchard$Alias", name := "hears", desc := "(ZZ)Z" } : Jvm.MethodName)) ∈ lw_all := lw_g (lw_at lw_m6 181 rfl) rfl
theorem q1505 : (Jvm.Cond.code ({ cls := "NameOrchard$Alias", name := "hears", desc := "(ZZ)Z" } : Jvm.MethodName) prog_2_method_3_code (3 : Nat) (Option.some Jvm.ClassFile.FieldType.boolean)) ∈ lw_all := lw_g (lw_at lw_m6 182 rfl) rfl
theorem q1520 : (Jvm.Cond.selects "NameOrchard$Alias" ({ cls := "NameOrchard$Apple", name := "falls", desc := "(Z)Z" } : Jvm.MethodName) ({ cls := "NameOrchard$Apple", name := "falls", desc := "(Z)Z" } : Jvm.MethodName)) ∈ lw_all := lw_g (lw_at lw_m6 197 rfl) rfl
theorem q2588 : (Jvm.Cond.castable "NameOrchard$Alias" "NameOrchard$Apple") ∈ lw_tbl := lw_at lw_m11 65 rfl
theorem q2614 : (Jvm.Cond.castable "NameOrchard$Alias" "java/lang/Object") ∈ lw_tbl := lw_at lw_m11 91 rfl
theorem in_X12 : ∀ w ∈ wsX120, w ∈ lw_all := lw_in wsX120 [855, 857, 859, 861, 863, 865] (by decide +kernel) (by decide +kernel)
/-! NameOrchard$Welsh -/
set_option maxRecDepth 100000
def RX13 : String := "NameOrchard$Welsh"
def TX13 : u_T := fun k => match k with
  | 0 => ("NameOrchard$Apple", "sound", "I", true)
  | 1 => ("NameOrchard$Apple", "place", "I", true)
  | 2 => ("NameOrchard$Apple", "row", "I", true)
  | 3 => ("NameOrchard$Apple", "ripe", "I", true)
  | 4 => ("NameOrchard$Apple", "worth", "I", true)
  | _ => ("NameOrchard$Apple", "twin", "I", false)
def tyX13 : Nat → FieldType := fun k => match k with
  | 0 => .int
  | 1 => .int
  | 2 => .int
  | 3 => .int
  | 4 => .int
  | _ => .int
abbrev wsX130 : List Cond := u_ws RX13 TX13 6
theorem nmX13 : ∀ a, a < 6 → ∀ b, b < 6 → a ≠ b → (TX13 a).2.1 ≠ (TX13 b).2.1 := by decide +kernel
theorem tyX13_ok : ∀ k, k < 6 → parseFieldDescriptor (TX13 k).2.2.1 = some (tyX13 k) := by decide +kernel
abbrev cX13_init : ByteArray := prog_32_method_1_code
def yX13_init : MethodName := ⟨RX13, "<init>", "(IIIII)V"⟩
def dkwX13_init_0 : List UInt8 := [42, 27, 28, 29, 21, 4, 21, 5, 183, 0, 1, 177]
abbrev dktX13_init_0 : List UInt8 := dkwX13_init_0 ++ []
theorem dksX13_init_0 : cX13_init.data.toList.drop 0 = dktX13_init_0 := by decide +kernel
theorem dX13_init_0 : decode cX13_init 0 = .ok (.aload_n 0, 1) := dk_42 (dk_at dksX13_init_0 0 rfl rfl)
theorem dX13_init_1 : decode cX13_init 1 = .ok (.iload_n 1, 1) := dk_27 (dk_at dksX13_init_0 1 rfl rfl)
theorem dX13_init_2 : decode cX13_init 2 = .ok (.iload_n 2, 1) := dk_28 (dk_at dksX13_init_0 2 rfl rfl)
theorem dX13_init_3 : decode cX13_init 3 = .ok (.iload_n 3, 1) := dk_29 (dk_at dksX13_init_0 3 rfl rfl)
theorem dX13_init_4 : decode cX13_init 4 = .ok (.iload 4, 2) := dk_21 4 (dk_at dksX13_init_0 4 rfl rfl)
theorem dX13_init_6 : decode cX13_init 6 = .ok (.iload 5, 2) := dk_21 5 (dk_at dksX13_init_0 6 rfl rfl)
theorem dX13_init_8 : decode cX13_init 8 = .ok (.invokespecial 1, 3) := dk_183 0 1 (dk_at dksX13_init_0 8 rfl rfl)
theorem dX13_init_11 : decode cX13_init 11 = .ok (.return_, 1) := dk_177 (dk_at dksX13_init_0 11 rfl rfl)
abbrev cX13_kind : ByteArray := prog_32_method_2_code
def yX13_kind : MethodName := ⟨RX13, "kind", "()I"⟩
theorem dX13_kind_0 : decode cX13_kind 0 = .ok (.iconst 2, 1) := by decide +kernel
theorem dX13_kind_1 : decode cX13_kind 1 = .ok (.ireturn, 1) := by decide +kernel
abbrev cX13_falls : ByteArray := prog_32_method_3_code
def yX13_falls : MethodName := ⟨RX13, "falls", "(Z)Z"⟩
theorem dX13_falls_0 : decode cX13_falls 0 = .ok (.iload_n 1, 1) := by decide +kernel
theorem dX13_falls_1 : decode cX13_falls 1 = .ok (.ireturn, 1) := by decide +kernel
theorem q148 : (Jvm.Cond.initialized "NameOrchard$Welsh") ∈ lw_all := lw_g (lw_at lw_m1 25 rfl) rfl
theorem q869 : (Jvm.Cond.instantiable "NameOrchard$Welsh" (6 : Nat)) ∈ lw_all := lw_g (lw_at lw_m4 26 rfl) rfl
theorem q871 : (Jvm.Cond.instanceMethod ({ cls := "NameOrchard$Welsh", name := "<init>", desc := "(IIIII)V" } : Jvm.MethodName)) ∈ lw_all := lw_g (lw_at lw_m4 28 rfl) rfl
theorem q872 : (Jvm.Cond.code ({ cls := "NameOrchard$Welsh", name := "<init>", desc := "(IIIII)V" } : Jvm.MethodName) prog_32_method_1_code (6 : Nat) (Option.none : Option Jvm.ClassFile.FieldType)) ∈ lw_all := lw_g (lw_at lw_m4 29 rfl) rfl
theorem q873 : (Jvm.Cond.methodLink "NameOrchard$Welsh" (1 : Nat) ({ cls := "NameOrchard$Apple", name := "<init>", desc := "(IIIII)V" } : Jvm.MethodName)) ∈ lw_all := lw_g (lw_at lw_m4 30 rfl) rfl
theorem q874 : (Jvm.Cond.laysFinal "NameOrchard$Welsh" "NameOrchard$Apple" "sound" "I") ∈ lw_all := lw_g (lw_at lw_m4 31 rfl) rfl
theorem q875 : (Jvm.Cond.laysFinal "NameOrchard$Welsh" "NameOrchard$Apple" "place" "I") ∈ lw_all := lw_g (lw_at lw_m4 32 rfl) rfl
theorem q876 : (Jvm.Cond.laysFinal "NameOrchard$Welsh" "NameOrchard$Apple" "row" "I") ∈ lw_all := lw_g (lw_at lw_m4 33 rfl) rfl
theorem q877 : (Jvm.Cond.laysFinal "NameOrchard$Welsh" "NameOrchard$Apple" "ripe" "I") ∈ lw_all := lw_g (lw_at lw_m4 34 rfl) rfl
theorem q878 : (Jvm.Cond.laysFinal "NameOrchard$Welsh" "NameOrchard$Apple" "worth" "I") ∈ lw_all := lw_g (lw_at lw_m4 35 rfl) rfl
theorem q879 : (Jvm.Cond.lays "NameOrchard$Welsh" "NameOrchard$Apple" "twin" "I") ∈ lw_all := lw_g (lw_at lw_m4 36 rfl) rfl
theorem q880 : (Jvm.Cond.superclass "NameOrchard$Welsh" "NameOrchard$Apple") ∈ lw_all := lw_g (lw_at lw_m4 37 rfl) rfl
theorem q962 : (Jvm.Cond.selects "NameOrchard$Welsh" ({ cls := "java/lang/Object", name := "getClass", desc := "()Ljava/lang/Class;" } : Jvm.MethodName) ({ cls := "java/lang/Object", name := "getClass", desc := "()Ljava/lang/Class;" } : Jvm.MethodName)) ∈ lw_all := lw_g (lw_at lw_m4 119 rfl) rfl
theorem q1331 : (Jvm.Cond.selects "NameOrchard$Welsh" ({ cls := "NameOrchard$Apple", name := "kind", desc := "()I" } : Jvm.MethodName) ({ cls := "NameOrchard$Welsh", name := "kind", desc := "()I" } : Jvm.MethodName)) ∈ lw_all := lw_g (lw_at lw_m6 8 rfl) rfl
theorem q1332 : (Jvm.Cond.instanceMethod ({ cls := "NameOrchard$Welsh", name := "kind", desc := "()I" } : Jvm.MethodName)) ∈ lw_all := lw_g (lw_at lw_m6 9 rfl) rfl
theorem q1333 : (Jvm.Cond.code ({ cls := "NameOrchard$Welsh", name := "kind", desc := "()I" } : Jvm.MethodName) prog_32_method_2_code (1 : Nat) (Option.some Jvm.ClassFile.FieldType.int)) ∈ lw_all := lw_g (lw_at lw_m6 10 rfl) rfl
theorem q1509 : (Jvm.Cond.selects "NameOrchard$Welsh" ({ cls := "NameOrchard$Apple", name := "hears", desc := "(ZZ)Z" } : Jvm.MethodName) ({ cls := "NameOrchard$Apple", name := "hears", desc := "(ZZ)Z" } : Jvm.MethodName)) ∈ lw_all := lw_g (lw_at lw_m6 186 rfl) rfl
theorem q1522 : (Jvm.Cond.selects "NameOrchard$Welsh" ({ cls := "NameOrchard$Apple", name := "falls", desc := "(Z)Z" } : Jvm.MethodName) ({ cls := "NameOrchard$Welsh", name := "falls", desc := "(Z)Z" } : Jvm.MethodName)) ∈ lw_all := lw_g (lw_at lw_m6 199 rfl) rfl
theorem q1523 : (Jvm.Cond.instanceMethod ({ cls := "NameOrchard$Welsh", name := "falls", desc := "(Z)Z" } : Jvm.MethodName)) ∈ lw_all := lw_g (lw_at lw_m6 200 rfl) rfl
theorem q1524 : (Jvm.Cond.code ({ cls := "NameOrchard$Welsh", name := "falls", desc := "(Z)Z" } : Jvm.MethodName) prog_32_method_3_code (2 : Nat) (Option.some Jvm.ClassFile.FieldType.boolean)) ∈ lw_all := lw_g (lw_at lw_m6 201 rfl) rfl
theorem q2590 : (Jvm.Cond.castable "NameOrchard$Welsh" "NameOrchard$Apple") ∈ lw_tbl := lw_at lw_m11 67 rfl
theorem q2615 : (Jvm.Cond.castable "NameOrchard$Welsh" "java/lang/Object") ∈ lw_tbl := lw_at lw_m11 92 rfl
theorem in_X13 : ∀ w ∈ wsX130, w ∈ lw_all := lw_in wsX130 [874, 875, 876, 877, 878, 879] (by decide +kernel) (by decide +kernel)
/-! NameOrchard$Deaf -/
set_option maxRecDepth 100000
def RX14 : String := "NameOrchard$Deaf"
def TX14 : u_T := fun k => match k with
  | 0 => ("NameOrchard$Apple", "sound", "I", true)
  | 1 => ("NameOrchard$Apple", "place", "I", true)
  | 2 => ("NameOrchard$Apple", "row", "I", true)
  | 3 => ("NameOrchard$Apple", "ripe", "I", true)
  | 4 => ("NameOrchard$Apple", "worth", "I", true)
  | _ => ("NameOrchard$Apple", "twin", "I", false)
def tyX14 : Nat → FieldType := fun k => match k with
  | 0 => .int
  | 1 => .int
  | 2 => .int
  | 3 => .int
  | 4 => .int
  | _ => .int
abbrev wsX140 : List Cond := u_ws RX14 TX14 6
theorem nmX14 : ∀ a, a < 6 → ∀ b, b < 6 → a ≠ b → (TX14 a).2.1 ≠ (TX14 b).2.1 := by decide +kernel
theorem tyX14_ok : ∀ k, k < 6 → parseFieldDescriptor (TX14 k).2.2.1 = some (tyX14 k) := by decide +kernel
abbrev cX14_init : ByteArray := prog_9_method_1_code
def yX14_init : MethodName := ⟨RX14, "<init>", "(IIIII)V"⟩
def dkwX14_init_0 : List UInt8 := [42, 27, 28, 29, 21, 4, 21, 5, 183, 0, 1, 177]
abbrev dktX14_init_0 : List UInt8 := dkwX14_init_0 ++ []
theorem dksX14_init_0 : cX14_init.data.toList.drop 0 = dktX14_init_0 := by decide +kernel
theorem dX14_init_0 : decode cX14_init 0 = .ok (.aload_n 0, 1) := dk_42 (dk_at dksX14_init_0 0 rfl rfl)
theorem dX14_init_1 : decode cX14_init 1 = .ok (.iload_n 1, 1) := dk_27 (dk_at dksX14_init_0 1 rfl rfl)
theorem dX14_init_2 : decode cX14_init 2 = .ok (.iload_n 2, 1) := dk_28 (dk_at dksX14_init_0 2 rfl rfl)
theorem dX14_init_3 : decode cX14_init 3 = .ok (.iload_n 3, 1) := dk_29 (dk_at dksX14_init_0 3 rfl rfl)
theorem dX14_init_4 : decode cX14_init 4 = .ok (.iload 4, 2) := dk_21 4 (dk_at dksX14_init_0 4 rfl rfl)
theorem dX14_init_6 : decode cX14_init 6 = .ok (.iload 5, 2) := dk_21 5 (dk_at dksX14_init_0 6 rfl rfl)
theorem dX14_init_8 : decode cX14_init 8 = .ok (.invokespecial 1, 3) := dk_183 0 1 (dk_at dksX14_init_0 8 rfl rfl)
theorem dX14_init_11 : decode cX14_init 11 = .ok (.return_, 1) := dk_177 (dk_at dksX14_init_0 11 rfl rfl)
abbrev cX14_kind : ByteArray := prog_9_method_2_code
def yX14_kind : MethodName := ⟨RX14, "kind", "()I"⟩
theorem dX14_kind_0 : decode cX14_kind 0 = .ok (.iconst 3, 1) := by decide +kernel
theorem dX14_kind_1 : decode cX14_kind 1 = .ok (.ireturn, 1) := by decide +kernel
abbrev cX14_hears : ByteArray := prog_9_method_3_code
def yX14_hears : MethodName := ⟨RX14, "hears", "(ZZ)Z"⟩
theorem dX14_hears_0 : decode cX14_hears 0 = .ok (.iconst 0, 1) := by decide +kernel
theorem dX14_hears_1 : decode cX14_hears 1 = .ok (.ireturn, 1) := by decide +kernel
theorem q149 : (Jvm.Cond.initialized "NameOrchard$Deaf") ∈ lw_all := lw_g (lw_at lw_m1 26 rfl) rfl
theorem q882 : (Jvm.Cond.instantiable "NameOrchard$Deaf" (6 : Nat)) ∈ lw_all := lw_g (lw_at lw_m4 39 rfl) rfl
theorem q884 : (Jvm.Cond.instanceMethod ({ cls := "NameOrchard$Deaf", name := "<init>", desc := "(IIIII)V" } : Jvm.MethodName)) ∈ lw_all := lw_g (lw_at lw_m4 41 rfl) rfl
theorem q885 : (Jvm.Cond.code ({ cls := "NameOrchard$Deaf", name := "<init>", desc := "(IIIII)V" } : Jvm.MethodName) prog_9_method_1_code (6 : Nat) (Option.none : Option Jvm.ClassFile.FieldType)) ∈ lw_all := lw_g (lw_at lw_m4 42 rfl) rfl
theorem q886 : (Jvm.Cond.methodLink "NameOrchard$Deaf" (1 : Nat) ({ cls := "NameOrchard$Apple", name := "<init>", desc := "(IIIII)V" } : Jvm.MethodName)) ∈ lw_all := lw_g (lw_at lw_m4 43 rfl) rfl
theorem q887 : (Jvm.Cond.laysFinal "NameOrchard$Deaf" "NameOrchard$Apple" "sound" "I") ∈ lw_all := lw_g (lw_at lw_m4 44 rfl) rfl
theorem q888 : (Jvm.Cond.laysFinal "NameOrchard$Deaf" "NameOrchard$Apple" "place" "I") ∈ lw_all := lw_g (lw_at lw_m4 45 rfl) rfl
theorem q889 : (Jvm.Cond.laysFinal "NameOrchard$Deaf" "NameOrchard$Apple" "row" "I") ∈ lw_all := lw_g (lw_at lw_m4 46 rfl) rfl
theorem q890 : (Jvm.Cond.laysFinal "NameOrchard$Deaf" "NameOrchard$Apple" "ripe" "I") ∈ lw_all := lw_g (lw_at lw_m4 47 rfl) rfl
theorem q891 : (Jvm.Cond.laysFinal "NameOrchard$Deaf" "NameOrchard$Apple" "worth" "I") ∈ lw_all := lw_g (lw_at lw_m4 48 rfl) rfl
theorem q892 : (Jvm.Cond.lays "NameOrchard$Deaf" "NameOrchard$Apple" "twin" "I") ∈ lw_all := lw_g (lw_at lw_m4 49 rfl) rfl
theorem q893 : (Jvm.Cond.superclass "NameOrchard$Deaf" "NameOrchard$Apple") ∈ lw_all := lw_g (lw_at lw_m4 50 rfl) rfl
theorem q942 : (Jvm.Cond.selects "NameOrchard$Deaf" ({ cls := "java/lang/Object", name := "getClass", desc := "()Ljava/lang/Class;" } : Jvm.MethodName) ({ cls := "java/lang/Object", name := "getClass", desc := "()Ljava/lang/Class;" } : Jvm.MethodName)) ∈ lw_all := lw_g (lw_at lw_m4 99 rfl) rfl
theorem q1328 : (Jvm.Cond.selects "NameOrchard$Deaf" ({ cls := "NameOrchard$Apple", name := "kind", desc := "()I" } : Jvm.MethodName) ({ cls := "NameOrchard$Deaf", name := "kind", desc := "()I" } : Jvm.MethodName)) ∈ lw_all := lw_g (lw_at lw_m6 5 rfl) rfl
theorem q1329 : (Jvm.Cond.instanceMethod ({ cls := "NameOrchard$Deaf", name := "kind", desc := "()I" } : Jvm.MethodName)) ∈ lw_all := lw_g (lw_at lw_m6 6 rfl) rfl
theorem q1330 : (Jvm.Cond.code ({ cls := "NameOrchard$Deaf", name := "kind", desc := "()I" } : Jvm.MethodName) prog_9_method_2_code (1 : Nat) (Option.some Jvm.ClassFile.FieldType.int)) ∈ lw_all := lw_g (lw_at lw_m6 7 rfl) rfl
theorem q1506 : (Jvm.Cond.selects "NameOrchard$Deaf" ({ cls := "NameOrchard$Apple", name := "hears", desc := "(ZZ)Z" } : Jvm.MethodName) ({ cls := "NameOrchard$Deaf", name := "hears", desc := "(ZZ)Z" } : Jvm.MethodName)) ∈ lw_all := lw_g (lw_at lw_m6 183 rfl) rfl
theorem q1507 : (Jvm.Cond.instanceMethod ({ cls := "NameOrchard$Deaf", name := "hears", desc := "(ZZ)Z" } : Jvm.MethodName)) ∈ lw_all := lw_g (lw_at lw_m6 184 rfl) rfl
theorem q1508 : (Jvm.Cond.code ({ cls := "NameOrchard$Deaf", name := "hears", desc := "(ZZ)Z" } : Jvm.MethodName) prog_9_method_3_code (3 : Nat) (Option.some Jvm.ClassFile.FieldType.boolean)) ∈ lw_all := lw_g (lw_at lw_m6 185 rfl) rfl
theorem q1521 : (Jvm.Cond.selects "NameOrchard$Deaf" ({ cls := "NameOrchard$Apple", name := "falls", desc := "(Z)Z" } : Jvm.MethodName) ({ cls := "NameOrchard$Apple", name := "falls", desc := "(Z)Z" } : Jvm.MethodName)) ∈ lw_all := lw_g (lw_at lw_m6 198 rfl) rfl
theorem q2589 : (Jvm.Cond.castable "NameOrchard$Deaf" "NameOrchard$Apple") ∈ lw_tbl := lw_at lw_m11 66 rfl
theorem q2616 : (Jvm.Cond.castable "NameOrchard$Deaf" "java/lang/Object") ∈ lw_tbl := lw_at lw_m11 93 rfl
theorem in_X14 : ∀ w ∈ wsX140, w ∈ lw_all := lw_in wsX140 [887, 888, 889, 890, 891, 892] (by decide +kernel) (by decide +kernel)
/-! NameOrchard$Sound -/
set_option maxRecDepth 100000
def RX15 : String := "NameOrchard$Sound"
def TX15 : u_T := fun k => match k with
  | 0 => ("NameOrchard$Sound", "name", "J", true)
  | 1 => ("NameOrchard$Sound", "letters", "[I", true)
  | _ => ("NameOrchard$Sound", "many", "I", false)
def tyX15 : Nat → FieldType := fun k => match k with
  | 0 => .long
  | 1 => .array .int
  | _ => .int
abbrev wsX150 : List Cond := u_ws RX15 TX15 3
theorem nmX15 : ∀ a, a < 3 → ∀ b, b < 3 → a ≠ b → (TX15 a).2.1 ≠ (TX15 b).2.1 := by decide +kernel
theorem tyX15_ok : ∀ k, k < 3 → parseFieldDescriptor (TX15 k).2.2.1 = some (tyX15 k) := by decide +kernel
abbrev cX15_init : ByteArray := prog_29_method_1_code
def yX15_init : MethodName := ⟨RX15, "<init>", "(J)V"⟩
def dkwX15_init_3 : List UInt8 := [136, 79, 33, 20, 0, 23, 109, 66, 132, 5, 255, 167, 255, 229, 177]
abbrev dktX15_init_3 : List UInt8 := dkwX15_init_3 ++ []
def dkwX15_init_2 : List UInt8 := [42, 180, 0, 19, 4, 100, 54, 5, 21, 5, 155, 0, 28, 42, 180, 0, 9, 21, 5, 33, 20, 0, 23, 113]
abbrev dktX15_init_2 : List UInt8 := dkwX15_init_2 ++ dktX15_init_3
def dkwX15_init_1 : List UInt8 := [158, 0, 22, 42, 89, 180, 0, 19, 4, 96, 181, 0, 19, 33, 20, 0, 23, 109, 66, 167, 255, 234, 31, 66]
abbrev dktX15_init_1 : List UInt8 := dkwX15_init_1 ++ dktX15_init_2
def dkwX15_init_0 : List UInt8 := [42, 183, 0, 3, 42, 16, 8, 188, 10, 181, 0, 9, 42, 31, 181, 0, 15, 31, 66, 33, 9, 148]
abbrev dktX15_init_0 : List UInt8 := dkwX15_init_0 ++ dktX15_init_1
theorem dksX15_init_0 : cX15_init.data.toList.drop 0 = dktX15_init_0 := by decide +kernel
theorem dksX15_init_1 : cX15_init.data.toList.drop 22 = dktX15_init_1 := dk_seg dksX15_init_0 22 rfl rfl
theorem dksX15_init_2 : cX15_init.data.toList.drop 46 = dktX15_init_2 := dk_seg dksX15_init_1 24 rfl rfl
theorem dksX15_init_3 : cX15_init.data.toList.drop 70 = dktX15_init_3 := dk_seg dksX15_init_2 24 rfl rfl
theorem dX15_init_0 : decode cX15_init 0 = .ok (.aload_n 0, 1) := dk_42 (dk_at dksX15_init_0 0 rfl rfl)
theorem dX15_init_1 : decode cX15_init 1 = .ok (.invokespecial 3, 3) := dk_183 0 3 (dk_at dksX15_init_0 1 rfl rfl)
theorem dX15_init_4 : decode cX15_init 4 = .ok (.aload_n 0, 1) := dk_42 (dk_at dksX15_init_0 4 rfl rfl)
theorem dX15_init_5 : decode cX15_init 5 = .ok (.bipush 8, 2) := dk_16 8 (dk_at dksX15_init_0 5 rfl rfl)
theorem dX15_init_7 : decode cX15_init 7 = .ok (.newarray .int, 2) := dk_188_10 (dk_at dksX15_init_0 7 rfl rfl)
theorem dX15_init_9 : decode cX15_init 9 = .ok (.putfield 9, 3) := dk_181 0 9 (dk_at dksX15_init_0 9 rfl rfl)
theorem dX15_init_12 : decode cX15_init 12 = .ok (.aload_n 0, 1) := dk_42 (dk_at dksX15_init_0 12 rfl rfl)
theorem dX15_init_13 : decode cX15_init 13 = .ok (.lload_n 1, 1) := dk_31 (dk_at dksX15_init_0 13 rfl rfl)
theorem dX15_init_14 : decode cX15_init 14 = .ok (.putfield 15, 3) := dk_181 0 15 (dk_at dksX15_init_0 14 rfl rfl)
theorem dX15_init_17 : decode cX15_init 17 = .ok (.lload_n 1, 1) := dk_31 (dk_at dksX15_init_0 17 rfl rfl)
theorem dX15_init_18 : decode cX15_init 18 = .ok (.lstore_n 3, 1) := dk_66 (dk_at dksX15_init_0 18 rfl rfl)
theorem dX15_init_19 : decode cX15_init 19 = .ok (.lload_n 3, 1) := dk_33 (dk_at dksX15_init_0 19 rfl rfl)
theorem dX15_init_20 : decode cX15_init 20 = .ok (.lconst 0, 1) := dk_9 (dk_at dksX15_init_0 20 rfl rfl)
theorem dX15_init_21 : decode cX15_init 21 = .ok (.lcmp, 1) := dk_148 (dk_at dksX15_init_0 21 rfl rfl)
theorem dX15_init_22 : decode cX15_init 22 = .ok (.ifCond .le 22, 3) := dk_158 0 22 (dk_at dksX15_init_1 0 rfl rfl)
theorem dX15_init_25 : decode cX15_init 25 = .ok (.aload_n 0, 1) := dk_42 (dk_at dksX15_init_1 3 rfl rfl)
theorem dX15_init_26 : decode cX15_init 26 = .ok (.dup, 1) := dk_89 (dk_at dksX15_init_1 4 rfl rfl)
theorem dX15_init_27 : decode cX15_init 27 = .ok (.getfield 19, 3) := dk_180 0 19 (dk_at dksX15_init_1 5 rfl rfl)
theorem dX15_init_30 : decode cX15_init 30 = .ok (.iconst 1, 1) := dk_4 (dk_at dksX15_init_1 8 rfl rfl)
theorem dX15_init_31 : decode cX15_init 31 = .ok (.iadd, 1) := dk_96 (dk_at dksX15_init_1 9 rfl rfl)
theorem dX15_init_32 : decode cX15_init 32 = .ok (.putfield 19, 3) := dk_181 0 19 (dk_at dksX15_init_1 10 rfl rfl)
theorem dX15_init_35 : decode cX15_init 35 = .ok (.lload_n 3, 1) := dk_33 (dk_at dksX15_init_1 13 rfl rfl)
theorem dX15_init_36 : decode cX15_init 36 = .ok (.ldc2_w 23, 3) := dk_20 0 23 (dk_at dksX15_init_1 14 rfl rfl)
theorem dX15_init_39 : decode cX15_init 39 = .ok (.ldiv, 1) := dk_109 (dk_at dksX15_init_1 17 rfl rfl)
theorem dX15_init_40 : decode cX15_init 40 = .ok (.lstore_n 3, 1) := dk_66 (dk_at dksX15_init_1 18 rfl rfl)
theorem dX15_init_41 : decode cX15_init 41 = .ok (.goto (-22), 3) := dk_167 255 234 (dk_at dksX15_init_1 19 rfl rfl)
theorem dX15_init_44 : decode cX15_init 44 = .ok (.lload_n 1, 1) := dk_31 (dk_at dksX15_init_1 22 rfl rfl)
theorem dX15_init_45 : decode cX15_init 45 = .ok (.lstore_n 3, 1) := dk_66 (dk_at dksX15_init_1 23 rfl rfl)
theorem dX15_init_46 : decode cX15_init 46 = .ok (.aload_n 0, 1) := dk_42 (dk_at dksX15_init_2 0 rfl rfl)
theorem dX15_init_47 : decode cX15_init 47 = .ok (.getfield 19, 3) := dk_180 0 19 (dk_at dksX15_init_2 1 rfl rfl)
theorem dX15_init_50 : decode cX15_init 50 = .ok (.iconst 1, 1) := dk_4 (dk_at dksX15_init_2 4 rfl rfl)
theorem dX15_init_51 : decode cX15_init 51 = .ok (.isub, 1) := dk_100 (dk_at dksX15_init_2 5 rfl rfl)
theorem dX15_init_52 : decode cX15_init 52 = .ok (.istore 5, 2) := dk_54 5 (dk_at dksX15_init_2 6 rfl rfl)
theorem dX15_init_54 : decode cX15_init 54 = .ok (.iload 5, 2) := dk_21 5 (dk_at dksX15_init_2 8 rfl rfl)
theorem dX15_init_56 : decode cX15_init 56 = .ok (.ifCond .lt 28, 3) := dk_155 0 28 (dk_at dksX15_init_2 10 rfl rfl)
theorem dX15_init_59 : decode cX15_init 59 = .ok (.aload_n 0, 1) := dk_42 (dk_at dksX15_init_2 13 rfl rfl)
theorem dX15_init_60 : decode cX15_init 60 = .ok (.getfield 9, 3) := dk_180 0 9 (dk_at dksX15_init_2 14 rfl rfl)
theorem dX15_init_63 : decode cX15_init 63 = .ok (.iload 5, 2) := dk_21 5 (dk_at dksX15_init_2 17 rfl rfl)
theorem dX15_init_65 : decode cX15_init 65 = .ok (.lload_n 3, 1) := dk_33 (dk_at dksX15_init_2 19 rfl rfl)
theorem dX15_init_66 : decode cX15_init 66 = .ok (.ldc2_w 23, 3) := dk_20 0 23 (dk_at dksX15_init_2 20 rfl rfl)
theorem dX15_init_69 : decode cX15_init 69 = .ok (.lrem, 1) := dk_113 (dk_at dksX15_init_2 23 rfl rfl)
theorem dX15_init_70 : decode cX15_init 70 = .ok (.l2i, 1) := dk_136 (dk_at dksX15_init_3 0 rfl rfl)
theorem dX15_init_71 : decode cX15_init 71 = .ok (.iastore, 1) := dk_79 (dk_at dksX15_init_3 1 rfl rfl)
theorem dX15_init_72 : decode cX15_init 72 = .ok (.lload_n 3, 1) := dk_33 (dk_at dksX15_init_3 2 rfl rfl)
theorem dX15_init_73 : decode cX15_init 73 = .ok (.ldc2_w 23, 3) := dk_20 0 23 (dk_at dksX15_init_3 3 rfl rfl)
theorem dX15_init_76 : decode cX15_init 76 = .ok (.ldiv, 1) := dk_109 (dk_at dksX15_init_3 6 rfl rfl)
theorem dX15_init_77 : decode cX15_init 77 = .ok (.lstore_n 3, 1) := dk_66 (dk_at dksX15_init_3 7 rfl rfl)
theorem dX15_init_78 : decode cX15_init 78 = .ok (.iinc 5 (-1), 3) := dk_132 5 255 (dk_at dksX15_init_3 8 rfl rfl)
theorem dX15_init_81 : decode cX15_init 81 = .ok (.goto (-27), 3) := dk_167 255 229 (dk_at dksX15_init_3 11 rfl rfl)
theorem dX15_init_84 : decode cX15_init 84 = .ok (.return_, 1) := dk_177 (dk_at dksX15_init_3 14 rfl rfl)
abbrev cX15_first : ByteArray := prog_29_method_3_code
def yX15_first : MethodName := ⟨RX15, "first", "()I"⟩
def dkwX15_first_0 : List UInt8 := [42, 180, 0, 9, 3, 46, 172]
abbrev dktX15_first_0 : List UInt8 := dkwX15_first_0 ++ []
theorem dksX15_first_0 : cX15_first.data.toList.drop 0 = dktX15_first_0 := by decide +kernel
theorem dX15_first_0 : decode cX15_first 0 = .ok (.aload_n 0, 1) := dk_42 (dk_at dksX15_first_0 0 rfl rfl)
theorem dX15_first_1 : decode cX15_first 1 = .ok (.getfield 9, 3) := dk_180 0 9 (dk_at dksX15_first_0 1 rfl rfl)
theorem dX15_first_4 : decode cX15_first 4 = .ok (.iconst 0, 1) := dk_3 (dk_at dksX15_first_0 4 rfl rfl)
theorem dX15_first_5 : decode cX15_first 5 = .ok (.iaload, 1) := dk_46 (dk_at dksX15_first_0 5 rfl rfl)
theorem dX15_first_6 : decode cX15_first 6 = .ok (.ireturn, 1) := dk_172 (dk_at dksX15_first_0 6 rfl rfl)
abbrev cX15_edits : ByteArray := prog_29_method_7_code
def yX15_edits : MethodName := ⟨RX15, "edits", "(LNameOrchard$Sound;[I)I"⟩
def dkwX15_edits_5 : List UInt8 := [167, 255, 183, 132, 3, 1, 167, 255, 157, 44, 43, 180, 0, 19, 46, 172]
abbrev dktX15_edits_5 : List UInt8 := dkwX15_edits_5 ++ []
def dkwX15_edits_4 : List UInt8 := [160, 0, 8, 21, 4, 167, 0, 7, 21, 4, 4, 96, 184, 0, 25, 79, 21, 6, 54, 4, 132, 5, 1]
abbrev dktX15_edits_4 : List UInt8 := dkwX15_edits_4 ++ dktX15_edits_5
def dkwX15_edits_3 : List UInt8 := [184, 0, 25, 4, 96, 42, 180, 0, 9, 29, 4, 100, 46, 43, 180, 0, 9, 21, 5, 4, 100, 46]
abbrev dktX15_edits_3 : List UInt8 := dkwX15_edits_3 ++ dktX15_edits_4
def dkwX15_edits_2 : List UInt8 := [163, 0, 70, 44, 21, 5, 46, 54, 6, 44, 21, 5, 44, 21, 5, 46, 44, 21, 5, 4, 100, 46]
abbrev dktX15_edits_2 : List UInt8 := dkwX15_edits_2 ++ dktX15_edits_3
def dkwX15_edits_1 : List UInt8 := [180, 0, 19, 163, 0, 97, 44, 3, 46, 54, 4, 44, 3, 29, 79, 4, 54, 5, 21, 5, 43, 180, 0, 19]
abbrev dktX15_edits_1 : List UInt8 := dkwX15_edits_1 ++ dktX15_edits_2
def dkwX15_edits_0 : List UInt8 := [3, 62, 29, 43, 180, 0, 19, 163, 0, 13, 44, 29, 29, 79, 132, 3, 1, 167, 255, 241, 4, 62, 29, 42]
abbrev dktX15_edits_0 : List UInt8 := dkwX15_edits_0 ++ dktX15_edits_1
theorem dksX15_edits_0 : cX15_edits.data.toList.drop 0 = dktX15_edits_0 := by decide +kernel
theorem dksX15_edits_1 : cX15_edits.data.toList.drop 24 = dktX15_edits_1 := dk_seg dksX15_edits_0 24 rfl rfl
theorem dksX15_edits_2 : cX15_edits.data.toList.drop 48 = dktX15_edits_2 := dk_seg dksX15_edits_1 24 rfl rfl
theorem dksX15_edits_3 : cX15_edits.data.toList.drop 70 = dktX15_edits_3 := dk_seg dksX15_edits_2 22 rfl rfl
theorem dksX15_edits_4 : cX15_edits.data.toList.drop 92 = dktX15_edits_4 := dk_seg dksX15_edits_3 22 rfl rfl
theorem dksX15_edits_5 : cX15_edits.data.toList.drop 115 = dktX15_edits_5 := dk_seg dksX15_edits_4 23 rfl rfl
theorem dX15_edits_0 : decode cX15_edits 0 = .ok (.iconst 0, 1) := dk_3 (dk_at dksX15_edits_0 0 rfl rfl)
theorem dX15_edits_1 : decode cX15_edits 1 = .ok (.istore_n 3, 1) := dk_62 (dk_at dksX15_edits_0 1 rfl rfl)
theorem dX15_edits_2 : decode cX15_edits 2 = .ok (.iload_n 3, 1) := dk_29 (dk_at dksX15_edits_0 2 rfl rfl)
theorem dX15_edits_3 : decode cX15_edits 3 = .ok (.aload_n 1, 1) := dk_43 (dk_at dksX15_edits_0 3 rfl rfl)
theorem dX15_edits_4 : decode cX15_edits 4 = .ok (.getfield 19, 3) := dk_180 0 19 (dk_at dksX15_edits_0 4 rfl rfl)
theorem dX15_edits_7 : decode cX15_edits 7 = .ok (.if_icmp .gt 13, 3) := dk_163 0 13 (dk_at dksX15_edits_0 7 rfl rfl)
theorem dX15_edits_10 : decode cX15_edits 10 = .ok (.aload_n 2, 1) := dk_44 (dk_at dksX15_edits_0 10 rfl rfl)
theorem dX15_edits_11 : decode cX15_edits 11 = .ok (.iload_n 3, 1) := dk_29 (dk_at dksX15_edits_0 11 rfl rfl)
theorem dX15_edits_12 : decode cX15_edits 12 = .ok (.iload_n 3, 1) := dk_29 (dk_at dksX15_edits_0 12 rfl rfl)
theorem dX15_edits_13 : decode cX15_edits 13 = .ok (.iastore, 1) := dk_79 (dk_at dksX15_edits_0 13 rfl rfl)
theorem dX15_edits_14 : decode cX15_edits 14 = .ok (.iinc 3 1, 3) := dk_132 3 1 (dk_at dksX15_edits_0 14 rfl rfl)
theorem dX15_edits_17 : decode cX15_edits 17 = .ok (.goto (-15), 3) := dk_167 255 241 (dk_at dksX15_edits_0 17 rfl rfl)
theorem dX15_edits_20 : decode cX15_edits 20 = .ok (.iconst 1, 1) := dk_4 (dk_at dksX15_edits_0 20 rfl rfl)
theorem dX15_edits_21 : decode cX15_edits 21 = .ok (.istore_n 3, 1) := dk_62 (dk_at dksX15_edits_0 21 rfl rfl)
theorem dX15_edits_22 : decode cX15_edits 22 = .ok (.iload_n 3, 1) := dk_29 (dk_at dksX15_edits_0 22 rfl rfl)
theorem dX15_edits_23 : decode cX15_edits 23 = .ok (.aload_n 0, 1) := dk_42 (dk_at dksX15_edits_0 23 rfl rfl)
theorem dX15_edits_24 : decode cX15_edits 24 = .ok (.getfield 19, 3) := dk_180 0 19 (dk_at dksX15_edits_1 0 rfl rfl)
theorem dX15_edits_27 : decode cX15_edits 27 = .ok (.if_icmp .gt 97, 3) := dk_163 0 97 (dk_at dksX15_edits_1 3 rfl rfl)
theorem dX15_edits_30 : decode cX15_edits 30 = .ok (.aload_n 2, 1) := dk_44 (dk_at dksX15_edits_1 6 rfl rfl)
theorem dX15_edits_31 : decode cX15_edits 31 = .ok (.iconst 0, 1) := dk_3 (dk_at dksX15_edits_1 7 rfl rfl)
theorem dX15_edits_32 : decode cX15_edits 32 = .ok (.iaload, 1) := dk_46 (dk_at dksX15_edits_1 8 rfl rfl)
theorem dX15_edits_33 : decode cX15_edits 33 = .ok (.istore 4, 2) := dk_54 4 (dk_at dksX15_edits_1 9 rfl rfl)
theorem dX15_edits_35 : decode cX15_edits 35 = .ok (.aload_n 2, 1) := dk_44 (dk_at dksX15_edits_1 11 rfl rfl)
theorem dX15_edits_36 : decode cX15_edits 36 = .ok (.iconst 0, 1) := dk_3 (dk_at dksX15_edits_1 12 rfl rfl)
theorem dX15_edits_37 : decode cX15_edits 37 = .ok (.iload_n 3, 1) := dk_29 (dk_at dksX15_edits_1 13 rfl rfl)
theorem dX15_edits_38 : decode cX15_edits 38 = .ok (.iastore, 1) := dk_79 (dk_at dksX15_edits_1 14 rfl rfl)
theorem dX15_edits_39 : decode cX15_edits 39 = .ok (.iconst 1, 1) := dk_4 (dk_at dksX15_edits_1 15 rfl rfl)
theorem dX15_edits_40 : decode cX15_edits 40 = .ok (.istore 5, 2) := dk_54 5 (dk_at dksX15_edits_1 16 rfl rfl)
theorem dX15_edits_42 : decode cX15_edits 42 = .ok (.iload 5, 2) := dk_21 5 (dk_at dksX15_edits_1 18 rfl rfl)
theorem dX15_edits_44 : decode cX15_edits 44 = .ok (.aload_n 1, 1) := dk_43 (dk_at dksX15_edits_1 20 rfl rfl)
theorem dX15_edits_45 : decode cX15_edits 45 = .ok (.getfield 19, 3) := dk_180 0 19 (dk_at dksX15_edits_1 21 rfl rfl)
theorem dX15_edits_48 : decode cX15_edits 48 = .ok (.if_icmp .gt 70, 3) := dk_163 0 70 (dk_at dksX15_edits_2 0 rfl rfl)
theorem dX15_edits_51 : decode cX15_edits 51 = .ok (.aload_n 2, 1) := dk_44 (dk_at dksX15_edits_2 3 rfl rfl)
theorem dX15_edits_52 : decode cX15_edits 52 = .ok (.iload 5, 2) := dk_21 5 (dk_at dksX15_edits_2 4 rfl rfl)
theorem dX15_edits_54 : decode cX15_edits 54 = .ok (.iaload, 1) := dk_46 (dk_at dksX15_edits_2 6 rfl rfl)
theorem dX15_edits_55 : decode cX15_edits 55 = .ok (.istore 6, 2) := dk_54 6 (dk_at dksX15_edits_2 7 rfl rfl)
theorem dX15_edits_57 : decode cX15_edits 57 = .ok (.aload_n 2, 1) := dk_44 (dk_at dksX15_edits_2 9 rfl rfl)
theorem dX15_edits_58 : decode cX15_edits 58 = .ok (.iload 5, 2) := dk_21 5 (dk_at dksX15_edits_2 10 rfl rfl)
theorem dX15_edits_60 : decode cX15_edits 60 = .ok (.aload_n 2, 1) := dk_44 (dk_at dksX15_edits_2 12 rfl rfl)
theorem dX15_edits_61 : decode cX15_edits 61 = .ok (.iload 5, 2) := dk_21 5 (dk_at dksX15_edits_2 13 rfl rfl)
theorem dX15_edits_63 : decode cX15_edits 63 = .ok (.iaload, 1) := dk_46 (dk_at dksX15_edits_2 15 rfl rfl)
theorem dX15_edits_64 : decode cX15_edits 64 = .ok (.aload_n 2, 1) := dk_44 (dk_at dksX15_edits_2 16 rfl rfl)
theorem dX15_edits_65 : decode cX15_edits 65 = .ok (.iload 5, 2) := dk_21 5 (dk_at dksX15_edits_2 17 rfl rfl)
theorem dX15_edits_67 : decode cX15_edits 67 = .ok (.iconst 1, 1) := dk_4 (dk_at dksX15_edits_2 19 rfl rfl)
theorem dX15_edits_68 : decode cX15_edits 68 = .ok (.isub, 1) := dk_100 (dk_at dksX15_edits_2 20 rfl rfl)
theorem dX15_edits_69 : decode cX15_edits 69 = .ok (.iaload, 1) := dk_46 (dk_at dksX15_edits_2 21 rfl rfl)
theorem dX15_edits_70 : decode cX15_edits 70 = .ok (.invokestatic 25, 3) := dk_184 0 25 (dk_at dksX15_edits_3 0 rfl rfl)
theorem dX15_edits_73 : decode cX15_edits 73 = .ok (.iconst 1, 1) := dk_4 (dk_at dksX15_edits_3 3 rfl rfl)
theorem dX15_edits_74 : decode cX15_edits 74 = .ok (.iadd, 1) := dk_96 (dk_at dksX15_edits_3 4 rfl rfl)
theorem dX15_edits_75 : decode cX15_edits 75 = .ok (.aload_n 0, 1) := dk_42 (dk_at dksX15_edits_3 5 rfl rfl)
theorem dX15_edits_76 : decode cX15_edits 76 = .ok (.getfield 9, 3) := dk_180 0 9 (dk_at dksX15_edits_3 6 rfl rfl)
theorem dX15_edits_79 : decode cX15_edits 79 = .ok (.iload_n 3, 1) := dk_29 (dk_at dksX15_edits_3 9 rfl rfl)
theorem dX15_edits_80 : decode cX15_edits 80 = .ok (.iconst 1, 1) := dk_4 (dk_at dksX15_edits_3 10 rfl rfl)
theorem dX15_edits_81 : decode cX15_edits 81 = .ok (.isub, 1) := dk_100 (dk_at dksX15_edits_3 11 rfl rfl)
theorem dX15_edits_82 : decode cX15_edits 82 = .ok (.iaload, 1) := dk_46 (dk_at dksX15_edits_3 12 rfl rfl)
theorem dX15_edits_83 : decode cX15_edits 83 = .ok (.aload_n 1, 1) := dk_43 (dk_at dksX15_edits_3 13 rfl rfl)
theorem dX15_edits_84 : decode cX15_edits 84 = .ok (.getfield 9, 3) := dk_180 0 9 (dk_at dksX15_edits_3 14 rfl rfl)
theorem dX15_edits_87 : decode cX15_edits 87 = .ok (.iload 5, 2) := dk_21 5 (dk_at dksX15_edits_3 17 rfl rfl)
theorem dX15_edits_89 : decode cX15_edits 89 = .ok (.iconst 1, 1) := dk_4 (dk_at dksX15_edits_3 19 rfl rfl)
theorem dX15_edits_90 : decode cX15_edits 90 = .ok (.isub, 1) := dk_100 (dk_at dksX15_edits_3 20 rfl rfl)
theorem dX15_edits_91 : decode cX15_edits 91 = .ok (.iaload, 1) := dk_46 (dk_at dksX15_edits_3 21 rfl rfl)
theorem dX15_edits_92 : decode cX15_edits 92 = .ok (.if_icmp .ne 8, 3) := dk_160 0 8 (dk_at dksX15_edits_4 0 rfl rfl)
theorem dX15_edits_95 : decode cX15_edits 95 = .ok (.iload 4, 2) := dk_21 4 (dk_at dksX15_edits_4 3 rfl rfl)
theorem dX15_edits_97 : decode cX15_edits 97 = .ok (.goto 7, 3) := dk_167 0 7 (dk_at dksX15_edits_4 5 rfl rfl)
theorem dX15_edits_100 : decode cX15_edits 100 = .ok (.iload 4, 2) := dk_21 4 (dk_at dksX15_edits_4 8 rfl rfl)
theorem dX15_edits_102 : decode cX15_edits 102 = .ok (.iconst 1, 1) := dk_4 (dk_at dksX15_edits_4 10 rfl rfl)
theorem dX15_edits_103 : decode cX15_edits 103 = .ok (.iadd, 1) := dk_96 (dk_at dksX15_edits_4 11 rfl rfl)
theorem dX15_edits_104 : decode cX15_edits 104 = .ok (.invokestatic 25, 3) := dk_184 0 25 (dk_at dksX15_edits_4 12 rfl rfl)
theorem dX15_edits_107 : decode cX15_edits 107 = .ok (.iastore, 1) := dk_79 (dk_at dksX15_edits_4 15 rfl rfl)
theorem dX15_edits_108 : decode cX15_edits 108 = .ok (.iload 6, 2) := dk_21 6 (dk_at dksX15_edits_4 16 rfl rfl)
theorem dX15_edits_110 : decode cX15_edits 110 = .ok (.istore 4, 2) := dk_54 4 (dk_at dksX15_edits_4 18 rfl rfl)
theorem dX15_edits_112 : decode cX15_edits 112 = .ok (.iinc 5 1, 3) := dk_132 5 1 (dk_at dksX15_edits_4 20 rfl rfl)
theorem dX15_edits_115 : decode cX15_edits 115 = .ok (.goto (-73), 3) := dk_167 255 183 (dk_at dksX15_edits_5 0 rfl rfl)
theorem dX15_edits_118 : decode cX15_edits 118 = .ok (.iinc 3 1, 3) := dk_132 3 1 (dk_at dksX15_edits_5 3 rfl rfl)
theorem dX15_edits_121 : decode cX15_edits 121 = .ok (.goto (-99), 3) := dk_167 255 157 (dk_at dksX15_edits_5 6 rfl rfl)
theorem dX15_edits_124 : decode cX15_edits 124 = .ok (.aload_n 2, 1) := dk_44 (dk_at dksX15_edits_5 9 rfl rfl)
theorem dX15_edits_125 : decode cX15_edits 125 = .ok (.aload_n 1, 1) := dk_43 (dk_at dksX15_edits_5 10 rfl rfl)
theorem dX15_edits_126 : decode cX15_edits 126 = .ok (.getfield 19, 3) := dk_180 0 19 (dk_at dksX15_edits_5 11 rfl rfl)
theorem dX15_edits_129 : decode cX15_edits 129 = .ok (.iaload, 1) := dk_46 (dk_at dksX15_edits_5 14 rfl rfl)
theorem dX15_edits_130 : decode cX15_edits 130 = .ok (.ireturn, 1) := dk_172 (dk_at dksX15_edits_5 15 rfl rfl)
abbrev cX15_start : ByteArray := prog_29_method_5_code
def yX15_start : MethodName := ⟨RX15, "start", "(LNameOrchard$Sound;)I"⟩
def dkwX15_start_1 : List UInt8 := [180, 0, 9, 28, 46, 160, 0, 9, 132, 2, 1, 167, 255, 223, 28, 172]
abbrev dktX15_start_1 : List UInt8 := dkwX15_start_1 ++ []
def dkwX15_start_0 : List UInt8 := [3, 61, 28, 42, 180, 0, 19, 43, 180, 0, 19, 184, 0, 25, 162, 0, 24, 42, 180, 0, 9, 28, 46, 43]
abbrev dktX15_start_0 : List UInt8 := dkwX15_start_0 ++ dktX15_start_1
theorem dksX15_start_0 : cX15_start.data.toList.drop 0 = dktX15_start_0 := by decide +kernel
theorem dksX15_start_1 : cX15_start.data.toList.drop 24 = dktX15_start_1 := dk_seg dksX15_start_0 24 rfl rfl
theorem dX15_start_0 : decode cX15_start 0 = .ok (.iconst 0, 1) := dk_3 (dk_at dksX15_start_0 0 rfl rfl)
theorem dX15_start_1 : decode cX15_start 1 = .ok (.istore_n 2, 1) := dk_61 (dk_at dksX15_start_0 1 rfl rfl)
theorem dX15_start_2 : decode cX15_start 2 = .ok (.iload_n 2, 1) := dk_28 (dk_at dksX15_start_0 2 rfl rfl)
theorem dX15_start_3 : decode cX15_start 3 = .ok (.aload_n 0, 1) := dk_42 (dk_at dksX15_start_0 3 rfl rfl)
theorem dX15_start_4 : decode cX15_start 4 = .ok (.getfield 19, 3) := dk_180 0 19 (dk_at dksX15_start_0 4 rfl rfl)
theorem dX15_start_7 : decode cX15_start 7 = .ok (.aload_n 1, 1) := dk_43 (dk_at dksX15_start_0 7 rfl rfl)
theorem dX15_start_8 : decode cX15_start 8 = .ok (.getfield 19, 3) := dk_180 0 19 (dk_at dksX15_start_0 8 rfl rfl)
theorem dX15_start_11 : decode cX15_start 11 = .ok (.invokestatic 25, 3) := dk_184 0 25 (dk_at dksX15_start_0 11 rfl rfl)
theorem dX15_start_14 : decode cX15_start 14 = .ok (.if_icmp .ge 24, 3) := dk_162 0 24 (dk_at dksX15_start_0 14 rfl rfl)
theorem dX15_start_17 : decode cX15_start 17 = .ok (.aload_n 0, 1) := dk_42 (dk_at dksX15_start_0 17 rfl rfl)
theorem dX15_start_18 : decode cX15_start 18 = .ok (.getfield 9, 3) := dk_180 0 9 (dk_at dksX15_start_0 18 rfl rfl)
theorem dX15_start_21 : decode cX15_start 21 = .ok (.iload_n 2, 1) := dk_28 (dk_at dksX15_start_0 21 rfl rfl)
theorem dX15_start_22 : decode cX15_start 22 = .ok (.iaload, 1) := dk_46 (dk_at dksX15_start_0 22 rfl rfl)
theorem dX15_start_23 : decode cX15_start 23 = .ok (.aload_n 1, 1) := dk_43 (dk_at dksX15_start_0 23 rfl rfl)
theorem dX15_start_24 : decode cX15_start 24 = .ok (.getfield 9, 3) := dk_180 0 9 (dk_at dksX15_start_1 0 rfl rfl)
theorem dX15_start_27 : decode cX15_start 27 = .ok (.iload_n 2, 1) := dk_28 (dk_at dksX15_start_1 3 rfl rfl)
theorem dX15_start_28 : decode cX15_start 28 = .ok (.iaload, 1) := dk_46 (dk_at dksX15_start_1 4 rfl rfl)
theorem dX15_start_29 : decode cX15_start 29 = .ok (.if_icmp .ne 9, 3) := dk_160 0 9 (dk_at dksX15_start_1 5 rfl rfl)
theorem dX15_start_32 : decode cX15_start 32 = .ok (.iinc 2 1, 3) := dk_132 2 1 (dk_at dksX15_start_1 8 rfl rfl)
theorem dX15_start_35 : decode cX15_start 35 = .ok (.goto (-33), 3) := dk_167 255 223 (dk_at dksX15_start_1 11 rfl rfl)
theorem dX15_start_38 : decode cX15_start 38 = .ok (.iload_n 2, 1) := dk_28 (dk_at dksX15_start_1 14 rfl rfl)
theorem dX15_start_39 : decode cX15_start 39 = .ok (.ireturn, 1) := dk_172 (dk_at dksX15_start_1 15 rfl rfl)
abbrev cX15_rhyme : ByteArray := prog_29_method_6_code
def yX15_rhyme : MethodName := ⟨RX15, "rhyme", "(LNameOrchard$Sound;)I"⟩
def dkwX15_rhyme_2 : List UInt8 := [132, 2, 1, 167, 255, 209, 28, 172]
abbrev dktX15_rhyme_2 : List UInt8 := dkwX15_rhyme_2 ++ []
def dkwX15_rhyme_1 : List UInt8 := [180, 0, 19, 4, 100, 28, 100, 46, 43, 180, 0, 9, 43, 180, 0, 19, 4, 100, 28, 100, 46, 160, 0, 9]
abbrev dktX15_rhyme_1 : List UInt8 := dkwX15_rhyme_1 ++ dktX15_rhyme_2
def dkwX15_rhyme_0 : List UInt8 := [3, 61, 28, 42, 180, 0, 19, 43, 180, 0, 19, 184, 0, 25, 162, 0, 38, 42, 180, 0, 9, 42]
abbrev dktX15_rhyme_0 : List UInt8 := dkwX15_rhyme_0 ++ dktX15_rhyme_1
theorem dksX15_rhyme_0 : cX15_rhyme.data.toList.drop 0 = dktX15_rhyme_0 := by decide +kernel
theorem dksX15_rhyme_1 : cX15_rhyme.data.toList.drop 22 = dktX15_rhyme_1 := dk_seg dksX15_rhyme_0 22 rfl rfl
theorem dksX15_rhyme_2 : cX15_rhyme.data.toList.drop 46 = dktX15_rhyme_2 := dk_seg dksX15_rhyme_1 24 rfl rfl
theorem dX15_rhyme_0 : decode cX15_rhyme 0 = .ok (.iconst 0, 1) := dk_3 (dk_at dksX15_rhyme_0 0 rfl rfl)
theorem dX15_rhyme_1 : decode cX15_rhyme 1 = .ok (.istore_n 2, 1) := dk_61 (dk_at dksX15_rhyme_0 1 rfl rfl)
theorem dX15_rhyme_2 : decode cX15_rhyme 2 = .ok (.iload_n 2, 1) := dk_28 (dk_at dksX15_rhyme_0 2 rfl rfl)
theorem dX15_rhyme_3 : decode cX15_rhyme 3 = .ok (.aload_n 0, 1) := dk_42 (dk_at dksX15_rhyme_0 3 rfl rfl)
theorem dX15_rhyme_4 : decode cX15_rhyme 4 = .ok (.getfield 19, 3) := dk_180 0 19 (dk_at dksX15_rhyme_0 4 rfl rfl)
theorem dX15_rhyme_7 : decode cX15_rhyme 7 = .ok (.aload_n 1, 1) := dk_43 (dk_at dksX15_rhyme_0 7 rfl rfl)
theorem dX15_rhyme_8 : decode cX15_rhyme 8 = .ok (.getfield 19, 3) := dk_180 0 19 (dk_at dksX15_rhyme_0 8 rfl rfl)
theorem dX15_rhyme_11 : decode cX15_rhyme 11 = .ok (.invokestatic 25, 3) := dk_184 0 25 (dk_at dksX15_rhyme_0 11 rfl rfl)
theorem dX15_rhyme_14 : decode cX15_rhyme 14 = .ok (.if_icmp .ge 38, 3) := dk_162 0 38 (dk_at dksX15_rhyme_0 14 rfl rfl)
theorem dX15_rhyme_17 : decode cX15_rhyme 17 = .ok (.aload_n 0, 1) := dk_42 (dk_at dksX15_rhyme_0 17 rfl rfl)
theorem dX15_rhyme_18 : decode cX15_rhyme 18 = .ok (.getfield 9, 3) := dk_180 0 9 (dk_at dksX15_rhyme_0 18 rfl rfl)
theorem dX15_rhyme_21 : decode cX15_rhyme 21 = .ok (.aload_n 0, 1) := dk_42 (dk_at dksX15_rhyme_0 21 rfl rfl)
theorem dX15_rhyme_22 : decode cX15_rhyme 22 = .ok (.getfield 19, 3) := dk_180 0 19 (dk_at dksX15_rhyme_1 0 rfl rfl)
theorem dX15_rhyme_25 : decode cX15_rhyme 25 = .ok (.iconst 1, 1) := dk_4 (dk_at dksX15_rhyme_1 3 rfl rfl)
theorem dX15_rhyme_26 : decode cX15_rhyme 26 = .ok (.isub, 1) := dk_100 (dk_at dksX15_rhyme_1 4 rfl rfl)
theorem dX15_rhyme_27 : decode cX15_rhyme 27 = .ok (.iload_n 2, 1) := dk_28 (dk_at dksX15_rhyme_1 5 rfl rfl)
theorem dX15_rhyme_28 : decode cX15_rhyme 28 = .ok (.isub, 1) := dk_100 (dk_at dksX15_rhyme_1 6 rfl rfl)
theorem dX15_rhyme_29 : decode cX15_rhyme 29 = .ok (.iaload, 1) := dk_46 (dk_at dksX15_rhyme_1 7 rfl rfl)
theorem dX15_rhyme_30 : decode cX15_rhyme 30 = .ok (.aload_n 1, 1) := dk_43 (dk_at dksX15_rhyme_1 8 rfl rfl)
theorem dX15_rhyme_31 : decode cX15_rhyme 31 = .ok (.getfield 9, 3) := dk_180 0 9 (dk_at dksX15_rhyme_1 9 rfl rfl)
theorem dX15_rhyme_34 : decode cX15_rhyme 34 = .ok (.aload_n 1, 1) := dk_43 (dk_at dksX15_rhyme_1 12 rfl rfl)
theorem dX15_rhyme_35 : decode cX15_rhyme 35 = .ok (.getfield 19, 3) := dk_180 0 19 (dk_at dksX15_rhyme_1 13 rfl rfl)
theorem dX15_rhyme_38 : decode cX15_rhyme 38 = .ok (.iconst 1, 1) := dk_4 (dk_at dksX15_rhyme_1 16 rfl rfl)
theorem dX15_rhyme_39 : decode cX15_rhyme 39 = .ok (.isub, 1) := dk_100 (dk_at dksX15_rhyme_1 17 rfl rfl)
theorem dX15_rhyme_40 : decode cX15_rhyme 40 = .ok (.iload_n 2, 1) := dk_28 (dk_at dksX15_rhyme_1 18 rfl rfl)
theorem dX15_rhyme_41 : decode cX15_rhyme 41 = .ok (.isub, 1) := dk_100 (dk_at dksX15_rhyme_1 19 rfl rfl)
theorem dX15_rhyme_42 : decode cX15_rhyme 42 = .ok (.iaload, 1) := dk_46 (dk_at dksX15_rhyme_1 20 rfl rfl)
theorem dX15_rhyme_43 : decode cX15_rhyme 43 = .ok (.if_icmp .ne 9, 3) := dk_160 0 9 (dk_at dksX15_rhyme_1 21 rfl rfl)
theorem dX15_rhyme_46 : decode cX15_rhyme 46 = .ok (.iinc 2 1, 3) := dk_132 2 1 (dk_at dksX15_rhyme_2 0 rfl rfl)
theorem dX15_rhyme_49 : decode cX15_rhyme 49 = .ok (.goto (-47), 3) := dk_167 255 209 (dk_at dksX15_rhyme_2 3 rfl rfl)
theorem dX15_rhyme_52 : decode cX15_rhyme 52 = .ok (.iload_n 2, 1) := dk_28 (dk_at dksX15_rhyme_2 6 rfl rfl)
theorem dX15_rhyme_53 : decode cX15_rhyme 53 = .ok (.ireturn, 1) := dk_172 (dk_at dksX15_rhyme_2 7 rfl rfl)
abbrev cX15_many : ByteArray := prog_29_method_2_code
def yX15_many : MethodName := ⟨RX15, "many", "()I"⟩
theorem dX15_many_0 : decode cX15_many 0 = .ok (.aload_n 0, 1) := by decide +kernel
theorem dX15_many_1 : decode cX15_many 1 = .ok (.getfield 19, 3) := by decide +kernel
theorem dX15_many_4 : decode cX15_many 4 = .ok (.ireturn, 1) := by decide +kernel
abbrev cX15_holds : ByteArray := prog_29_method_4_code
def yX15_holds : MethodName := ⟨RX15, "holds", "(I)Z"⟩
def dkwX15_holds_1 : List UInt8 := [132, 2, 1, 167, 255, 233, 3, 172]
abbrev dktX15_holds_1 : List UInt8 := dkwX15_holds_1 ++ []
def dkwX15_holds_0 : List UInt8 := [3, 61, 28, 42, 180, 0, 19, 162, 0, 21, 42, 180, 0, 9, 28, 46, 27, 160, 0, 5, 4, 172]
abbrev dktX15_holds_0 : List UInt8 := dkwX15_holds_0 ++ dktX15_holds_1
theorem dksX15_holds_0 : cX15_holds.data.toList.drop 0 = dktX15_holds_0 := by decide +kernel
theorem dksX15_holds_1 : cX15_holds.data.toList.drop 22 = dktX15_holds_1 := dk_seg dksX15_holds_0 22 rfl rfl
theorem dX15_holds_0 : decode cX15_holds 0 = .ok (.iconst 0, 1) := dk_3 (dk_at dksX15_holds_0 0 rfl rfl)
theorem dX15_holds_1 : decode cX15_holds 1 = .ok (.istore_n 2, 1) := dk_61 (dk_at dksX15_holds_0 1 rfl rfl)
theorem dX15_holds_2 : decode cX15_holds 2 = .ok (.iload_n 2, 1) := dk_28 (dk_at dksX15_holds_0 2 rfl rfl)
theorem dX15_holds_3 : decode cX15_holds 3 = .ok (.aload_n 0, 1) := dk_42 (dk_at dksX15_holds_0 3 rfl rfl)
theorem dX15_holds_4 : decode cX15_holds 4 = .ok (.getfield 19, 3) := dk_180 0 19 (dk_at dksX15_holds_0 4 rfl rfl)
theorem dX15_holds_7 : decode cX15_holds 7 = .ok (.if_icmp .ge 21, 3) := dk_162 0 21 (dk_at dksX15_holds_0 7 rfl rfl)
theorem dX15_holds_10 : decode cX15_holds 10 = .ok (.aload_n 0, 1) := dk_42 (dk_at dksX15_holds_0 10 rfl rfl)
theorem dX15_holds_11 : decode cX15_holds 11 = .ok (.getfield 9, 3) := dk_180 0 9 (dk_at dksX15_holds_0 11 rfl rfl)
theorem dX15_holds_14 : decode cX15_holds 14 = .ok (.iload_n 2, 1) := dk_28 (dk_at dksX15_holds_0 14 rfl rfl)
theorem dX15_holds_15 : decode cX15_holds 15 = .ok (.iaload, 1) := dk_46 (dk_at dksX15_holds_0 15 rfl rfl)
theorem dX15_holds_16 : decode cX15_holds 16 = .ok (.iload_n 1, 1) := dk_27 (dk_at dksX15_holds_0 16 rfl rfl)
theorem dX15_holds_17 : decode cX15_holds 17 = .ok (.if_icmp .ne 5, 3) := dk_160 0 5 (dk_at dksX15_holds_0 17 rfl rfl)
theorem dX15_holds_20 : decode cX15_holds 20 = .ok (.iconst 1, 1) := dk_4 (dk_at dksX15_holds_0 20 rfl rfl)
theorem dX15_holds_21 : decode cX15_holds 21 = .ok (.ireturn, 1) := dk_172 (dk_at dksX15_holds_0 21 rfl rfl)
theorem dX15_holds_22 : decode cX15_holds 22 = .ok (.iinc 2 1, 3) := dk_132 2 1 (dk_at dksX15_holds_1 0 rfl rfl)
theorem dX15_holds_25 : decode cX15_holds 25 = .ok (.goto (-23), 3) := dk_167 255 233 (dk_at dksX15_holds_1 3 rfl rfl)
theorem dX15_holds_28 : decode cX15_holds 28 = .ok (.iconst 0, 1) := dk_3 (dk_at dksX15_holds_1 6 rfl rfl)
theorem dX15_holds_29 : decode cX15_holds 29 = .ok (.ireturn, 1) := dk_172 (dk_at dksX15_holds_1 7 rfl rfl)
theorem q153 : (Jvm.Cond.initialized "NameOrchard$Sound") ∈ lw_all := lw_g (lw_at lw_m1 30 rfl) rfl
theorem q959 : (Jvm.Cond.selects "NameOrchard$Sound" ({ cls := "java/lang/Object", name := "getClass", desc := "()Ljava/lang/Class;" } : Jvm.MethodName) ({ cls := "java/lang/Object", name := "getClass", desc := "()Ljava/lang/Class;" } : Jvm.MethodName)) ∈ lw_all := lw_g (lw_at lw_m4 116 rfl) rfl
theorem q980 : (Jvm.Cond.instantiable "NameOrchard$Sound" (3 : Nat)) ∈ lw_all := lw_g (lw_at lw_m4 137 rfl) rfl
theorem q982 : (Jvm.Cond.instanceMethod ({ cls := "NameOrchard$Sound", name := "<init>", desc := "(J)V" } : Jvm.MethodName)) ∈ lw_all := lw_g (lw_at lw_m4 139 rfl) rfl
theorem q983 : (Jvm.Cond.code ({ cls := "NameOrchard$Sound", name := "<init>", desc := "(J)V" } : Jvm.MethodName) prog_29_method_1_code (6 : Nat) (Option.none : Option Jvm.ClassFile.FieldType)) ∈ lw_all := lw_g (lw_at lw_m4 140 rfl) rfl
theorem q984 : (Jvm.Cond.methodLink "NameOrchard$Sound" (3 : Nat) ({ cls := "java/lang/Object", name := "<init>", desc := "()V" } : Jvm.MethodName)) ∈ lw_all := lw_g (lw_at lw_m4 141 rfl) rfl
theorem q985 : (Jvm.Cond.constantLong "NameOrchard$Sound" (23 : Nat) (27 : Int64)) ∈ lw_all := lw_g (lw_at lw_m4 142 rfl) rfl
theorem q986 : (Jvm.Cond.fieldLink "NameOrchard$Sound" (15 : Nat) "NameOrchard$Sound" "name" "J") ∈ lw_all := lw_g (lw_at lw_m4 143 rfl) rfl
theorem q988 : (Jvm.Cond.fieldLink "NameOrchard$Sound" (9 : Nat) "NameOrchard$Sound" "letters" "[I") ∈ lw_all := lw_g (lw_at lw_m4 145 rfl) rfl
theorem q989 : (Jvm.Cond.fieldLink "NameOrchard$Sound" (19 : Nat) "NameOrchard$Sound" "many" "I") ∈ lw_all := lw_g (lw_at lw_m4 146 rfl) rfl
theorem q990 : (Jvm.Cond.laysFinal "NameOrchard$Sound" "NameOrchard$Sound" "name" "J") ∈ lw_all := lw_g (lw_at lw_m4 147 rfl) rfl
theorem q991 : (Jvm.Cond.soleField "NameOrchard$Sound" "name") ∈ lw_all := lw_g (lw_at lw_m4 148 rfl) rfl
theorem q992 : (Jvm.Cond.laysFinal "NameOrchard$Sound" "NameOrchard$Sound" "letters" "[I") ∈ lw_all := lw_g (lw_at lw_m4 149 rfl) rfl
theorem q993 : (Jvm.Cond.soleField "NameOrchard$Sound" "letters") ∈ lw_all := lw_g (lw_at lw_m4 150 rfl) rfl
theorem q994 : (Jvm.Cond.lays "NameOrchard$Sound" "NameOrchard$Sound" "many" "I") ∈ lw_all := lw_g (lw_at lw_m4 151 rfl) rfl
theorem q995 : (Jvm.Cond.soleField "NameOrchard$Sound" "many") ∈ lw_all := lw_g (lw_at lw_m4 152 rfl) rfl
theorem q996 : (Jvm.Cond.superclass "NameOrchard$Sound" "java/lang/Object") ∈ lw_all := lw_g (lw_at lw_m4 153 rfl) rfl
theorem q1033 : (Jvm.Cond.instanceMethod ({ cls := "NameOrchard$Sound", name := "first", desc := "()I" } : Jvm.MethodName)) ∈ lw_all := lw_g (lw_at lw_m4 190 rfl) rfl
theorem q1034 : (Jvm.Cond.selects "NameOrchard$Sound" ({ cls := "NameOrchard$Sound", name := "first", desc := "()I" } : Jvm.MethodName) ({ cls := "NameOrchard$Sound", name := "first", desc := "()I" } : Jvm.MethodName)) ∈ lw_all := lw_g (lw_at lw_m4 191 rfl) rfl
theorem q1035 : (Jvm.Cond.code ({ cls := "NameOrchard$Sound", name := "first", desc := "()I" } : Jvm.MethodName) prog_29_method_3_code (1 : Nat) (Option.some Jvm.ClassFile.FieldType.int)) ∈ lw_all := lw_g (lw_at lw_m4 192 rfl) rfl
theorem q1420 : (Jvm.Cond.instanceMethod ({ cls := "NameOrchard$Sound", name := "edits", desc := "(LNameOrchard$Sound;[I)I" } : Jvm.MethodName)) ∈ lw_all := lw_g (lw_at lw_m6 97 rfl) rfl
theorem q1421 : (Jvm.Cond.selects "NameOrchard$Sound" ({ cls := "NameOrchard$Sound", name := "edits", desc := "(LNameOrchard$Sound;[I)I" } : Jvm.MethodName) ({ cls := "NameOrchard$Sound", name := "edits", desc := "(LNameOrchard$Sound;[I)I" } : Jvm.MethodName)) ∈ lw_all := lw_g (lw_at lw_m6 98 rfl) rfl
theorem q1422 : (Jvm.Cond.code ({ cls := "NameOrchard$Sound", name := "edits", desc := "(LNameOrchard$Sound;[I)I" } : Jvm.MethodName) prog_29_method_7_code (7 : Nat) (Option.some Jvm.ClassFile.FieldType.int)) ∈ lw_all := lw_g (lw_at lw_m6 99 rfl) rfl
theorem q1423 : (Jvm.Cond.methodLink "NameOrchard$Sound" (25 : Nat) ({ cls := "java/lang/Math", name := "min", desc := "(II)I" } : Jvm.MethodName)) ∈ lw_all := lw_g (lw_at lw_m6 100 rfl) rfl
theorem q1426 : (Jvm.Cond.instanceMethod ({ cls := "NameOrchard$Sound", name := "start", desc := "(LNameOrchard$Sound;)I" } : Jvm.MethodName)) ∈ lw_all := lw_g (lw_at lw_m6 103 rfl) rfl
theorem q1427 : (Jvm.Cond.selects "NameOrchard$Sound" ({ cls := "NameOrchard$Sound", name := "start", desc := "(LNameOrchard$Sound;)I" } : Jvm.MethodName) ({ cls := "NameOrchard$Sound", name := "start", desc := "(LNameOrchard$Sound;)I" } : Jvm.MethodName)) ∈ lw_all := lw_g (lw_at lw_m6 104 rfl) rfl
theorem q1428 : (Jvm.Cond.code ({ cls := "NameOrchard$Sound", name := "start", desc := "(LNameOrchard$Sound;)I" } : Jvm.MethodName) prog_29_method_5_code (3 : Nat) (Option.some Jvm.ClassFile.FieldType.int)) ∈ lw_all := lw_g (lw_at lw_m6 105 rfl) rfl
theorem q1434 : (Jvm.Cond.instanceMethod ({ cls := "NameOrchard$Sound", name := "rhyme", desc := "(LNameOrchard$Sound;)I" } : Jvm.MethodName)) ∈ lw_all := lw_g (lw_at lw_m6 111 rfl) rfl
theorem q1435 : (Jvm.Cond.selects "NameOrchard$Sound" ({ cls := "NameOrchard$Sound", name := "rhyme", desc := "(LNameOrchard$Sound;)I" } : Jvm.MethodName) ({ cls := "NameOrchard$Sound", name := "rhyme", desc := "(LNameOrchard$Sound;)I" } : Jvm.MethodName)) ∈ lw_all := lw_g (lw_at lw_m6 112 rfl) rfl
theorem q1436 : (Jvm.Cond.code ({ cls := "NameOrchard$Sound", name := "rhyme", desc := "(LNameOrchard$Sound;)I" } : Jvm.MethodName) prog_29_method_6_code (3 : Nat) (Option.some Jvm.ClassFile.FieldType.int)) ∈ lw_all := lw_g (lw_at lw_m6 113 rfl) rfl
theorem q1445 : (Jvm.Cond.instanceMethod ({ cls := "NameOrchard$Sound", name := "many", desc := "()I" } : Jvm.MethodName)) ∈ lw_all := lw_g (lw_at lw_m6 122 rfl) rfl
theorem q1446 : (Jvm.Cond.selects "NameOrchard$Sound" ({ cls := "NameOrchard$Sound", name := "many", desc := "()I" } : Jvm.MethodName) ({ cls := "NameOrchard$Sound", name := "many", desc := "()I" } : Jvm.MethodName)) ∈ lw_all := lw_g (lw_at lw_m6 123 rfl) rfl
theorem q1447 : (Jvm.Cond.code ({ cls := "NameOrchard$Sound", name := "many", desc := "()I" } : Jvm.MethodName) prog_29_method_2_code (1 : Nat) (Option.some Jvm.ClassFile.FieldType.int)) ∈ lw_all := lw_g (lw_at lw_m6 124 rfl) rfl
theorem q1462 : (Jvm.Cond.instanceMethod ({ cls := "NameOrchard$Sound", name := "holds", desc := "(I)Z" } : Jvm.MethodName)) ∈ lw_all := lw_g (lw_at lw_m6 139 rfl) rfl
theorem q1463 : (Jvm.Cond.selects "NameOrchard$Sound" ({ cls := "NameOrchard$Sound", name := "holds", desc := "(I)Z" } : Jvm.MethodName) ({ cls := "NameOrchard$Sound", name := "holds", desc := "(I)Z" } : Jvm.MethodName)) ∈ lw_all := lw_g (lw_at lw_m6 140 rfl) rfl
theorem q1464 : (Jvm.Cond.code ({ cls := "NameOrchard$Sound", name := "holds", desc := "(I)Z" } : Jvm.MethodName) prog_29_method_4_code (3 : Nat) (Option.some Jvm.ClassFile.FieldType.boolean)) ∈ lw_all := lw_g (lw_at lw_m6 141 rfl) rfl
theorem q2618 : (Jvm.Cond.castable "NameOrchard$Sound" "java/lang/Object") ∈ lw_tbl := lw_at lw_m11 95 rfl
theorem in_X15 : ∀ w ∈ wsX150, w ∈ lw_all := lw_in wsX150 [990, 992, 994] (by decide +kernel) (by decide +kernel)
/-! NameOrchard$Person -/
set_option maxRecDepth 100000
def RX16 : String := "NameOrchard$Person"
def TX16 : u_T := fun k => match k with
  | 0 => ("NameOrchard$Person", "lane", "I", true)
  | 1 => ("NameOrchard$Person", "loud", "I", true)
  | _ => ("NameOrchard$Person", "mute", "I", true)
def tyX16 : Nat → FieldType := fun k => match k with
  | 0 => .int
  | 1 => .int
  | _ => .int
abbrev wsX160 : List Cond := u_ws RX16 TX16 3
theorem nmX16 : ∀ a, a < 3 → ∀ b, b < 3 → a ≠ b → (TX16 a).2.1 ≠ (TX16 b).2.1 := by decide +kernel
theorem tyX16_ok : ∀ k, k < 3 → parseFieldDescriptor (TX16 k).2.2.1 = some (tyX16 k) := by decide +kernel
abbrev cX16_init : ByteArray := prog_22_method_1_code
def yX16_init : MethodName := ⟨RX16, "<init>", "(III)V"⟩
def dkwX16_init_0 : List UInt8 := [42, 183, 0, 1, 42, 27, 181, 0, 7, 42, 28, 181, 0, 13, 42, 29, 181, 0, 16, 177]
abbrev dktX16_init_0 : List UInt8 := dkwX16_init_0 ++ []
theorem dksX16_init_0 : cX16_init.data.toList.drop 0 = dktX16_init_0 := by decide +kernel
theorem dX16_init_0 : decode cX16_init 0 = .ok (.aload_n 0, 1) := dk_42 (dk_at dksX16_init_0 0 rfl rfl)
theorem dX16_init_1 : decode cX16_init 1 = .ok (.invokespecial 1, 3) := dk_183 0 1 (dk_at dksX16_init_0 1 rfl rfl)
theorem dX16_init_4 : decode cX16_init 4 = .ok (.aload_n 0, 1) := dk_42 (dk_at dksX16_init_0 4 rfl rfl)
theorem dX16_init_5 : decode cX16_init 5 = .ok (.iload_n 1, 1) := dk_27 (dk_at dksX16_init_0 5 rfl rfl)
theorem dX16_init_6 : decode cX16_init 6 = .ok (.putfield 7, 3) := dk_181 0 7 (dk_at dksX16_init_0 6 rfl rfl)
theorem dX16_init_9 : decode cX16_init 9 = .ok (.aload_n 0, 1) := dk_42 (dk_at dksX16_init_0 9 rfl rfl)
theorem dX16_init_10 : decode cX16_init 10 = .ok (.iload_n 2, 1) := dk_28 (dk_at dksX16_init_0 10 rfl rfl)
theorem dX16_init_11 : decode cX16_init 11 = .ok (.putfield 13, 3) := dk_181 0 13 (dk_at dksX16_init_0 11 rfl rfl)
theorem dX16_init_14 : decode cX16_init 14 = .ok (.aload_n 0, 1) := dk_42 (dk_at dksX16_init_0 14 rfl rfl)
theorem dX16_init_15 : decode cX16_init 15 = .ok (.iload_n 3, 1) := dk_29 (dk_at dksX16_init_0 15 rfl rfl)
theorem dX16_init_16 : decode cX16_init 16 = .ok (.putfield 16, 3) := dk_181 0 16 (dk_at dksX16_init_0 16 rfl rfl)
theorem dX16_init_19 : decode cX16_init 19 = .ok (.return_, 1) := dk_177 (dk_at dksX16_init_0 19 rfl rfl)
theorem q154 : (Jvm.Cond.initialized "NameOrchard$Person") ∈ lw_all := lw_g (lw_at lw_m1 31 rfl) rfl
theorem q952 : (Jvm.Cond.selects "NameOrchard$Person" ({ cls := "java/lang/Object", name := "getClass", desc := "()Ljava/lang/Class;" } : Jvm.MethodName) ({ cls := "java/lang/Object", name := "getClass", desc := "()Ljava/lang/Class;" } : Jvm.MethodName)) ∈ lw_all := lw_g (lw_at lw_m4 109 rfl) rfl
theorem q1037 : (Jvm.Cond.instantiable "NameOrchard$Person" (3 : Nat)) ∈ lw_all := lw_g (lw_at lw_m4 194 rfl) rfl
theorem q1039 : (Jvm.Cond.instanceMethod ({ cls := "NameOrchard$Person", name := "<init>", desc := "(III)V" } : Jvm.MethodName)) ∈ lw_all := lw_g (lw_at lw_m4 196 rfl) rfl
theorem q1040 : (Jvm.Cond.code ({ cls := "NameOrchard$Person", name := "<init>", desc := "(III)V" } : Jvm.MethodName) prog_22_method_1_code (4 : Nat) (Option.none : Option Jvm.ClassFile.FieldType)) ∈ lw_all := lw_g (lw_at lw_m4 197 rfl) rfl
theorem q1041 : (Jvm.Cond.methodLink "NameOrchard$Person" (1 : Nat) ({ cls := "java/lang/Object", name := "<init>", desc := "()V" } : Jvm.MethodName)) ∈ lw_all := lw_g (lw_at lw_m4 198 rfl) rfl
theorem q1042 : (Jvm.Cond.fieldLink "NameOrchard$Person" (7 : Nat) "NameOrchard$Person" "lane" "I") ∈ lw_all := lw_g (lw_at lw_m4 199 rfl) rfl
theorem q1045 : (Jvm.Cond.fieldLink "NameOrchard$Person" (13 : Nat) "NameOrchard$Person" "loud" "I") ∈ lw_all := lw_g (lw_at lw_m4 202 rfl) rfl
theorem q1048 : (Jvm.Cond.fieldLink "NameOrchard$Person" (16 : Nat) "NameOrchard$Person" "mute" "I") ∈ lw_all := lw_g (lw_at lw_m4 205 rfl) rfl
theorem q1050 : (Jvm.Cond.laysFinal "NameOrchard$Person" "NameOrchard$Person" "lane" "I") ∈ lw_all := lw_g (lw_at lw_m4 207 rfl) rfl
theorem q1051 : (Jvm.Cond.soleField "NameOrchard$Person" "lane") ∈ lw_all := lw_g (lw_at lw_m4 208 rfl) rfl
theorem q1052 : (Jvm.Cond.laysFinal "NameOrchard$Person" "NameOrchard$Person" "loud" "I") ∈ lw_all := lw_g (lw_at lw_m4 209 rfl) rfl
theorem q1053 : (Jvm.Cond.soleField "NameOrchard$Person" "loud") ∈ lw_all := lw_g (lw_at lw_m4 210 rfl) rfl
theorem q1054 : (Jvm.Cond.laysFinal "NameOrchard$Person" "NameOrchard$Person" "mute" "I") ∈ lw_all := lw_g (lw_at lw_m4 211 rfl) rfl
theorem q1055 : (Jvm.Cond.soleField "NameOrchard$Person" "mute") ∈ lw_all := lw_g (lw_at lw_m4 212 rfl) rfl
theorem q1056 : (Jvm.Cond.superclass "NameOrchard$Person" "java/lang/Object") ∈ lw_all := lw_g (lw_at lw_m4 213 rfl) rfl
theorem q2619 : (Jvm.Cond.castable "NameOrchard$Person" "java/lang/Object") ∈ lw_tbl := lw_at lw_m11 96 rfl
theorem in_X16 : ∀ w ∈ wsX160, w ∈ lw_all := lw_in wsX160 [1050, 1052, 1054] (by decide +kernel) (by decide +kernel)
/-! NameOrchard$Expression -/
set_option maxRecDepth 100000
def RX17 : String := "NameOrchard$Expression"
abbrev cX17_init : ByteArray := prog_10_method_1_code
def yX17_init : MethodName := ⟨RX17, "<init>", "()V"⟩
theorem dX17_init_0 : decode cX17_init 0 = .ok (.aload_n 0, 1) := by decide +kernel
theorem dX17_init_1 : decode cX17_init 1 = .ok (.invokespecial 1, 3) := by decide +kernel
theorem dX17_init_4 : decode cX17_init 4 = .ok (.return_, 1) := by decide +kernel
theorem q158 : (Jvm.Cond.initialized "NameOrchard$Expression") ∈ lw_all := lw_g (lw_at lw_m1 35 rfl) rfl
theorem q1132 : (Jvm.Cond.instanceMethod ({ cls := "NameOrchard$Expression", name := "<init>", desc := "()V" } : Jvm.MethodName)) ∈ lw_all := lw_g (lw_at lw_m5 49 rfl) rfl
theorem q1133 : (Jvm.Cond.code ({ cls := "NameOrchard$Expression", name := "<init>", desc := "()V" } : Jvm.MethodName) prog_10_method_1_code (1 : Nat) (Option.none : Option Jvm.ClassFile.FieldType)) ∈ lw_all := lw_g (lw_at lw_m5 50 rfl) rfl
theorem q1134 : (Jvm.Cond.methodLink "NameOrchard$Expression" (1 : Nat) ({ cls := "java/lang/Object", name := "<init>", desc := "()V" } : Jvm.MethodName)) ∈ lw_all := lw_g (lw_at lw_m5 51 rfl) rfl
theorem q1346 : (Jvm.Cond.declares ({ cls := "NameOrchard$Expression", name := "of", desc := "(LNameOrchard$Facts;)I" } : Jvm.MethodName)) ∈ lw_tbl := lw_at lw_m6 23 rfl
theorem q1347 : (Jvm.Cond.sameMethod "NameOrchard$Expression" "NameOrchard$Expression" "of" "(LNameOrchard$Facts;)I") ∈ lw_all := lw_g (lw_at lw_m6 24 rfl) rfl
/-! NameOrchard$Fact -/
set_option maxRecDepth 100000
def RX18 : String := "NameOrchard$Fact"
def TX18 : u_T := fun k => match k with
  | _ => ("NameOrchard$Fact", "which", "I", true)
def tyX18 : Nat → FieldType := fun k => match k with
  | _ => .int
abbrev wsX180 : List Cond := u_ws RX18 TX18 1
theorem nmX18 : ∀ a, a < 1 → ∀ b, b < 1 → a ≠ b → (TX18 a).2.1 ≠ (TX18 b).2.1 := by decide +kernel
theorem tyX18_ok : ∀ k, k < 1 → parseFieldDescriptor (TX18 k).2.2.1 = some (tyX18 k) := by decide +kernel
abbrev cX18_init : ByteArray := prog_11_method_1_code
def yX18_init : MethodName := ⟨RX18, "<init>", "(I)V"⟩
def dkwX18_init_0 : List UInt8 := [42, 183, 0, 1, 42, 27, 181, 0, 7, 177]
abbrev dktX18_init_0 : List UInt8 := dkwX18_init_0 ++ []
theorem dksX18_init_0 : cX18_init.data.toList.drop 0 = dktX18_init_0 := by decide +kernel
theorem dX18_init_0 : decode cX18_init 0 = .ok (.aload_n 0, 1) := dk_42 (dk_at dksX18_init_0 0 rfl rfl)
theorem dX18_init_1 : decode cX18_init 1 = .ok (.invokespecial 1, 3) := dk_183 0 1 (dk_at dksX18_init_0 1 rfl rfl)
theorem dX18_init_4 : decode cX18_init 4 = .ok (.aload_n 0, 1) := dk_42 (dk_at dksX18_init_0 4 rfl rfl)
theorem dX18_init_5 : decode cX18_init 5 = .ok (.iload_n 1, 1) := dk_27 (dk_at dksX18_init_0 5 rfl rfl)
theorem dX18_init_6 : decode cX18_init 6 = .ok (.putfield 7, 3) := dk_181 0 7 (dk_at dksX18_init_0 6 rfl rfl)
theorem dX18_init_9 : decode cX18_init 9 = .ok (.return_, 1) := dk_177 (dk_at dksX18_init_0 9 rfl rfl)
abbrev cX18_of : ByteArray := prog_11_method_2_code
def yX18_of : MethodName := ⟨RX18, "of", "(LNameOrchard$Facts;)I"⟩
def dkwX18_of_0 : List UInt8 := [43, 180, 0, 13, 42, 180, 0, 7, 46, 172]
abbrev dktX18_of_0 : List UInt8 := dkwX18_of_0 ++ []
theorem dksX18_of_0 : cX18_of.data.toList.drop 0 = dktX18_of_0 := by decide +kernel
theorem dX18_of_0 : decode cX18_of 0 = .ok (.aload_n 1, 1) := dk_43 (dk_at dksX18_of_0 0 rfl rfl)
theorem dX18_of_1 : decode cX18_of 1 = .ok (.getfield 13, 3) := dk_180 0 13 (dk_at dksX18_of_0 1 rfl rfl)
theorem dX18_of_4 : decode cX18_of 4 = .ok (.aload_n 0, 1) := dk_42 (dk_at dksX18_of_0 4 rfl rfl)
theorem dX18_of_5 : decode cX18_of 5 = .ok (.getfield 7, 3) := dk_180 0 7 (dk_at dksX18_of_0 5 rfl rfl)
theorem dX18_of_8 : decode cX18_of 8 = .ok (.iaload, 1) := dk_46 (dk_at dksX18_of_0 8 rfl rfl)
theorem dX18_of_9 : decode cX18_of 9 = .ok (.ireturn, 1) := dk_172 (dk_at dksX18_of_0 9 rfl rfl)
theorem q159 : (Jvm.Cond.initialized "NameOrchard$Fact") ∈ lw_all := lw_g (lw_at lw_m1 36 rfl) rfl
theorem q349 : (Jvm.Cond.fieldLink "NameOrchard$Fact" (13 : Nat) "NameOrchard$Facts" "of" "[I") ∈ lw_all := lw_g (lw_at lw_m1 226 rfl) rfl
theorem q943 : (Jvm.Cond.selects "NameOrchard$Fact" ({ cls := "java/lang/Object", name := "getClass", desc := "()Ljava/lang/Class;" } : Jvm.MethodName) ({ cls := "java/lang/Object", name := "getClass", desc := "()Ljava/lang/Class;" } : Jvm.MethodName)) ∈ lw_all := lw_g (lw_at lw_m4 100 rfl) rfl
theorem q1127 : (Jvm.Cond.instantiable "NameOrchard$Fact" (1 : Nat)) ∈ lw_all := lw_g (lw_at lw_m5 44 rfl) rfl
theorem q1129 : (Jvm.Cond.instanceMethod ({ cls := "NameOrchard$Fact", name := "<init>", desc := "(I)V" } : Jvm.MethodName)) ∈ lw_all := lw_g (lw_at lw_m5 46 rfl) rfl
theorem q1130 : (Jvm.Cond.code ({ cls := "NameOrchard$Fact", name := "<init>", desc := "(I)V" } : Jvm.MethodName) prog_11_method_1_code (2 : Nat) (Option.none : Option Jvm.ClassFile.FieldType)) ∈ lw_all := lw_g (lw_at lw_m5 47 rfl) rfl
theorem q1131 : (Jvm.Cond.methodLinkNest "NameOrchard$Fact" (1 : Nat) ({ cls := "NameOrchard$Expression", name := "<init>", desc := "()V" } : Jvm.MethodName) "NameOrchard") ∈ lw_tbl := lw_at lw_m5 48 rfl
theorem q1135 : (Jvm.Cond.fieldLink "NameOrchard$Fact" (7 : Nat) "NameOrchard$Fact" "which" "I") ∈ lw_all := lw_g (lw_at lw_m5 52 rfl) rfl
theorem q1136 : (Jvm.Cond.laysFinal "NameOrchard$Fact" "NameOrchard$Fact" "which" "I") ∈ lw_all := lw_g (lw_at lw_m5 53 rfl) rfl
theorem q1137 : (Jvm.Cond.soleField "NameOrchard$Fact" "which") ∈ lw_all := lw_g (lw_at lw_m5 54 rfl) rfl
theorem q1138 : (Jvm.Cond.superclass "NameOrchard$Fact" "NameOrchard$Expression") ∈ lw_all := lw_g (lw_at lw_m5 55 rfl) rfl
theorem q1352 : (Jvm.Cond.instanceMethod ({ cls := "NameOrchard$Fact", name := "of", desc := "(LNameOrchard$Facts;)I" } : Jvm.MethodName)) ∈ lw_all := lw_g (lw_at lw_m6 29 rfl) rfl
theorem q1353 : (Jvm.Cond.code ({ cls := "NameOrchard$Fact", name := "of", desc := "(LNameOrchard$Facts;)I" } : Jvm.MethodName) prog_11_method_2_code (2 : Nat) (Option.some Jvm.ClassFile.FieldType.int)) ∈ lw_all := lw_g (lw_at lw_m6 30 rfl) rfl
theorem q1398 : (Jvm.Cond.selects "NameOrchard$Fact" ({ cls := "NameOrchard$Expression", name := "of", desc := "(LNameOrchard$Facts;)I" } : Jvm.MethodName) ({ cls := "NameOrchard$Fact", name := "of", desc := "(LNameOrchard$Facts;)I" } : Jvm.MethodName)) ∈ lw_all := lw_g (lw_at lw_m6 75 rfl) rfl
theorem q2621 : (Jvm.Cond.castable "NameOrchard$Fact" "java/lang/Object") ∈ lw_tbl := lw_at lw_m11 98 rfl
theorem in_X18 : ∀ w ∈ wsX180, w ∈ lw_all := lw_in wsX180 [1136] (by decide +kernel) (by decide +kernel)
/-! NameOrchard$Plain -/
set_option maxRecDepth 100000
def RX19 : String := "NameOrchard$Plain"
def TX19 : u_T := fun k => match k with
  | _ => ("NameOrchard$Plain", "n", "I", true)
def tyX19 : Nat → FieldType := fun k => match k with
  | _ => .int
abbrev wsX190 : List Cond := u_ws RX19 TX19 1
theorem nmX19 : ∀ a, a < 1 → ∀ b, b < 1 → a ≠ b → (TX19 a).2.1 ≠ (TX19 b).2.1 := by decide +kernel
theorem tyX19_ok : ∀ k, k < 1 → parseFieldDescriptor (TX19 k).2.2.1 = some (tyX19 k) := by decide +kernel
abbrev cX19_init : ByteArray := prog_24_method_1_code
def yX19_init : MethodName := ⟨RX19, "<init>", "(I)V"⟩
def dkwX19_init_0 : List UInt8 := [42, 183, 0, 1, 42, 27, 181, 0, 7, 177]
abbrev dktX19_init_0 : List UInt8 := dkwX19_init_0 ++ []
theorem dksX19_init_0 : cX19_init.data.toList.drop 0 = dktX19_init_0 := by decide +kernel
theorem dX19_init_0 : decode cX19_init 0 = .ok (.aload_n 0, 1) := dk_42 (dk_at dksX19_init_0 0 rfl rfl)
theorem dX19_init_1 : decode cX19_init 1 = .ok (.invokespecial 1, 3) := dk_183 0 1 (dk_at dksX19_init_0 1 rfl rfl)
theorem dX19_init_4 : decode cX19_init 4 = .ok (.aload_n 0, 1) := dk_42 (dk_at dksX19_init_0 4 rfl rfl)
theorem dX19_init_5 : decode cX19_init 5 = .ok (.iload_n 1, 1) := dk_27 (dk_at dksX19_init_0 5 rfl rfl)
theorem dX19_init_6 : decode cX19_init 6 = .ok (.putfield 7, 3) := dk_181 0 7 (dk_at dksX19_init_0 6 rfl rfl)
theorem dX19_init_9 : decode cX19_init 9 = .ok (.return_, 1) := dk_177 (dk_at dksX19_init_0 9 rfl rfl)
abbrev cX19_of : ByteArray := prog_24_method_2_code
def yX19_of : MethodName := ⟨RX19, "of", "(LNameOrchard$Facts;)I"⟩
theorem dX19_of_0 : decode cX19_of 0 = .ok (.aload_n 0, 1) := by decide +kernel
theorem dX19_of_1 : decode cX19_of 1 = .ok (.getfield 7, 3) := by decide +kernel
theorem dX19_of_4 : decode cX19_of 4 = .ok (.ireturn, 1) := by decide +kernel
theorem q160 : (Jvm.Cond.initialized "NameOrchard$Plain") ∈ lw_all := lw_g (lw_at lw_m1 37 rfl) rfl
theorem q954 : (Jvm.Cond.selects "NameOrchard$Plain" ({ cls := "java/lang/Object", name := "getClass", desc := "()Ljava/lang/Class;" } : Jvm.MethodName) ({ cls := "java/lang/Object", name := "getClass", desc := "()Ljava/lang/Class;" } : Jvm.MethodName)) ∈ lw_all := lw_g (lw_at lw_m4 111 rfl) rfl
theorem q1140 : (Jvm.Cond.instantiable "NameOrchard$Plain" (1 : Nat)) ∈ lw_all := lw_g (lw_at lw_m5 57 rfl) rfl
theorem q1142 : (Jvm.Cond.instanceMethod ({ cls := "NameOrchard$Plain", name := "<init>", desc := "(I)V" } : Jvm.MethodName)) ∈ lw_all := lw_g (lw_at lw_m5 59 rfl) rfl
theorem q1143 : (Jvm.Cond.code ({ cls := "NameOrchard$Plain", name := "<init>", desc := "(I)V" } : Jvm.MethodName) prog_24_method_1_code (2 : Nat) (Option.none : Option Jvm.ClassFile.FieldType)) ∈ lw_all := lw_g (lw_at lw_m5 60 rfl) rfl
theorem q1144 : (Jvm.Cond.methodLinkNest "NameOrchard$Plain" (1 : Nat) ({ cls := "NameOrchard$Expression", name := "<init>", desc := "()V" } : Jvm.MethodName) "NameOrchard") ∈ lw_tbl := lw_at lw_m5 61 rfl
theorem q1145 : (Jvm.Cond.fieldLink "NameOrchard$Plain" (7 : Nat) "NameOrchard$Plain" "n" "I") ∈ lw_all := lw_g (lw_at lw_m5 62 rfl) rfl
theorem q1146 : (Jvm.Cond.laysFinal "NameOrchard$Plain" "NameOrchard$Plain" "n" "I") ∈ lw_all := lw_g (lw_at lw_m5 63 rfl) rfl
theorem q1147 : (Jvm.Cond.soleField "NameOrchard$Plain" "n") ∈ lw_all := lw_g (lw_at lw_m5 64 rfl) rfl
theorem q1148 : (Jvm.Cond.superclass "NameOrchard$Plain" "NameOrchard$Expression") ∈ lw_all := lw_g (lw_at lw_m5 65 rfl) rfl
theorem q1357 : (Jvm.Cond.instanceMethod ({ cls := "NameOrchard$Plain", name := "of", desc := "(LNameOrchard$Facts;)I" } : Jvm.MethodName)) ∈ lw_all := lw_g (lw_at lw_m6 34 rfl) rfl
theorem q1358 : (Jvm.Cond.code ({ cls := "NameOrchard$Plain", name := "of", desc := "(LNameOrchard$Facts;)I" } : Jvm.MethodName) prog_24_method_2_code (2 : Nat) (Option.some Jvm.ClassFile.FieldType.int)) ∈ lw_all := lw_g (lw_at lw_m6 35 rfl) rfl
theorem q1400 : (Jvm.Cond.selects "NameOrchard$Plain" ({ cls := "NameOrchard$Expression", name := "of", desc := "(LNameOrchard$Facts;)I" } : Jvm.MethodName) ({ cls := "NameOrchard$Plain", name := "of", desc := "(LNameOrchard$Facts;)I" } : Jvm.MethodName)) ∈ lw_all := lw_g (lw_at lw_m6 77 rfl) rfl
theorem q2622 : (Jvm.Cond.castable "NameOrchard$Plain" "java/lang/Object") ∈ lw_tbl := lw_at lw_m11 99 rfl
theorem in_X19 : ∀ w ∈ wsX190, w ∈ lw_all := lw_in wsX190 [1146] (by decide +kernel) (by decide +kernel)
/-! NameOrchard$Not -/
set_option maxRecDepth 100000
def RX20 : String := "NameOrchard$Not"
def TX20 : u_T := fun k => match k with
  | _ => ("NameOrchard$Not", "e", "LNameOrchard$Expression;", true)
def tyX20 : Nat → FieldType := fun k => match k with
  | _ => .object "NameOrchard$Expression"
abbrev wsX200 : List Cond := u_ws RX20 TX20 1
theorem nmX20 : ∀ a, a < 1 → ∀ b, b < 1 → a ≠ b → (TX20 a).2.1 ≠ (TX20 b).2.1 := by decide +kernel
theorem tyX20_ok : ∀ k, k < 1 → parseFieldDescriptor (TX20 k).2.2.1 = some (tyX20 k) := by decide +kernel
abbrev cX20_init : ByteArray := prog_18_method_1_code
def yX20_init : MethodName := ⟨RX20, "<init>", "(LNameOrchard$Expression;)V"⟩
def dkwX20_init_0 : List UInt8 := [42, 183, 0, 1, 42, 43, 181, 0, 7, 177]
abbrev dktX20_init_0 : List UInt8 := dkwX20_init_0 ++ []
theorem dksX20_init_0 : cX20_init.data.toList.drop 0 = dktX20_init_0 := by decide +kernel
theorem dX20_init_0 : decode cX20_init 0 = .ok (.aload_n 0, 1) := dk_42 (dk_at dksX20_init_0 0 rfl rfl)
theorem dX20_init_1 : decode cX20_init 1 = .ok (.invokespecial 1, 3) := dk_183 0 1 (dk_at dksX20_init_0 1 rfl rfl)
theorem dX20_init_4 : decode cX20_init 4 = .ok (.aload_n 0, 1) := dk_42 (dk_at dksX20_init_0 4 rfl rfl)
theorem dX20_init_5 : decode cX20_init 5 = .ok (.aload_n 1, 1) := dk_43 (dk_at dksX20_init_0 5 rfl rfl)
theorem dX20_init_6 : decode cX20_init 6 = .ok (.putfield 7, 3) := dk_181 0 7 (dk_at dksX20_init_0 6 rfl rfl)
theorem dX20_init_9 : decode cX20_init 9 = .ok (.return_, 1) := dk_177 (dk_at dksX20_init_0 9 rfl rfl)
abbrev cX20_of : ByteArray := prog_18_method_2_code
def yX20_of : MethodName := ⟨RX20, "of", "(LNameOrchard$Facts;)I"⟩
def dkwX20_of_0 : List UInt8 := [42, 180, 0, 7, 43, 182, 0, 13, 154, 0, 7, 4, 167, 0, 4, 3, 172]
abbrev dktX20_of_0 : List UInt8 := dkwX20_of_0 ++ []
theorem dksX20_of_0 : cX20_of.data.toList.drop 0 = dktX20_of_0 := by decide +kernel
theorem dX20_of_0 : decode cX20_of 0 = .ok (.aload_n 0, 1) := dk_42 (dk_at dksX20_of_0 0 rfl rfl)
theorem dX20_of_1 : decode cX20_of 1 = .ok (.getfield 7, 3) := dk_180 0 7 (dk_at dksX20_of_0 1 rfl rfl)
theorem dX20_of_4 : decode cX20_of 4 = .ok (.aload_n 1, 1) := dk_43 (dk_at dksX20_of_0 4 rfl rfl)
theorem dX20_of_5 : decode cX20_of 5 = .ok (.invokevirtual 13, 3) := dk_182 0 13 (dk_at dksX20_of_0 5 rfl rfl)
theorem dX20_of_8 : decode cX20_of 8 = .ok (.ifCond .ne 7, 3) := dk_154 0 7 (dk_at dksX20_of_0 8 rfl rfl)
theorem dX20_of_11 : decode cX20_of 11 = .ok (.iconst 1, 1) := dk_4 (dk_at dksX20_of_0 11 rfl rfl)
theorem dX20_of_12 : decode cX20_of 12 = .ok (.goto 4, 3) := dk_167 0 4 (dk_at dksX20_of_0 12 rfl rfl)
theorem dX20_of_15 : decode cX20_of 15 = .ok (.iconst 0, 1) := dk_3 (dk_at dksX20_of_0 15 rfl rfl)
theorem dX20_of_16 : decode cX20_of 16 = .ok (.ireturn, 1) := dk_172 (dk_at dksX20_of_0 16 rfl rfl)
theorem q161 : (Jvm.Cond.initialized "NameOrchard$Not") ∈ lw_all := lw_g (lw_at lw_m1 38 rfl) rfl
theorem q948 : (Jvm.Cond.selects "NameOrchard$Not" ({ cls := "java/lang/Object", name := "getClass", desc := "()Ljava/lang/Class;" } : Jvm.MethodName) ({ cls := "java/lang/Object", name := "getClass", desc := "()Ljava/lang/Class;" } : Jvm.MethodName)) ∈ lw_all := lw_g (lw_at lw_m4 105 rfl) rfl
theorem q1150 : (Jvm.Cond.instantiable "NameOrchard$Not" (1 : Nat)) ∈ lw_all := lw_g (lw_at lw_m5 67 rfl) rfl
theorem q1152 : (Jvm.Cond.instanceMethod ({ cls := "NameOrchard$Not", name := "<init>", desc := "(LNameOrchard$Expression;)V" } : Jvm.MethodName)) ∈ lw_all := lw_g (lw_at lw_m5 69 rfl) rfl
theorem q1153 : (Jvm.Cond.code ({ cls := "NameOrchard$Not", name := "<init>", desc := "(LNameOrchard$Expression;)V" } : Jvm.MethodName) prog_18_method_1_code (2 : Nat) (Option.none : Option Jvm.ClassFile.FieldType)) ∈ lw_all := lw_g (lw_at lw_m5 70 rfl) rfl
theorem q1154 : (Jvm.Cond.methodLinkNest "NameOrchard$Not" (1 : Nat) ({ cls := "NameOrchard$Expression", name := "<init>", desc := "()V" } : Jvm.MethodName) "NameOrchard") ∈ lw_tbl := lw_at lw_m5 71 rfl
theorem q1155 : (Jvm.Cond.fieldLink "NameOrchard$Not" (7 : Nat) "NameOrchard$Not" "e" "LNameOrchard$Expression;") ∈ lw_all := lw_g (lw_at lw_m5 72 rfl) rfl
theorem q1156 : (Jvm.Cond.laysFinal "NameOrchard$Not" "NameOrchard$Not" "e" "LNameOrchard$Expression;") ∈ lw_all := lw_g (lw_at lw_m5 73 rfl) rfl
theorem q1157 : (Jvm.Cond.soleField "NameOrchard$Not" "e") ∈ lw_all := lw_g (lw_at lw_m5 74 rfl) rfl
theorem q1158 : (Jvm.Cond.superclass "NameOrchard$Not" "NameOrchard$Expression") ∈ lw_all := lw_g (lw_at lw_m5 75 rfl) rfl
theorem q1354 : (Jvm.Cond.instanceMethod ({ cls := "NameOrchard$Not", name := "of", desc := "(LNameOrchard$Facts;)I" } : Jvm.MethodName)) ∈ lw_all := lw_g (lw_at lw_m6 31 rfl) rfl
theorem q1355 : (Jvm.Cond.code ({ cls := "NameOrchard$Not", name := "of", desc := "(LNameOrchard$Facts;)I" } : Jvm.MethodName) prog_18_method_2_code (2 : Nat) (Option.some Jvm.ClassFile.FieldType.int)) ∈ lw_all := lw_g (lw_at lw_m6 32 rfl) rfl
theorem q1356 : (Jvm.Cond.methodLink "NameOrchard$Not" (13 : Nat) ({ cls := "NameOrchard$Expression", name := "of", desc := "(LNameOrchard$Facts;)I" } : Jvm.MethodName)) ∈ lw_all := lw_g (lw_at lw_m6 33 rfl) rfl
theorem q1399 : (Jvm.Cond.selects "NameOrchard$Not" ({ cls := "NameOrchard$Expression", name := "of", desc := "(LNameOrchard$Facts;)I" } : Jvm.MethodName) ({ cls := "NameOrchard$Not", name := "of", desc := "(LNameOrchard$Facts;)I" } : Jvm.MethodName)) ∈ lw_all := lw_g (lw_at lw_m6 76 rfl) rfl
theorem q2623 : (Jvm.Cond.castable "NameOrchard$Not" "java/lang/Object") ∈ lw_tbl := lw_at lw_m11 100 rfl
theorem in_X20 : ∀ w ∈ wsX200, w ∈ lw_all := lw_in wsX200 [1156] (by decide +kernel) (by decide +kernel)
/-! NameOrchard$Chain -/
set_option maxRecDepth 100000
def RX21 : String := "NameOrchard$Chain"
def TX21 : u_T := fun k => match k with
  | 0 => ("NameOrchard$Chain", "first", "LNameOrchard$Expression;", true)
  | _ => ("NameOrchard$Chain", "links", "Ljava/util/ArrayList;", true)
def tyX21 : Nat → FieldType := fun k => match k with
  | 0 => .object "NameOrchard$Expression"
  | _ => .object "java/util/ArrayList"
abbrev wsX210 : List Cond := u_ws RX21 TX21 2
theorem nmX21 : ∀ a, a < 2 → ∀ b, b < 2 → a ≠ b → (TX21 a).2.1 ≠ (TX21 b).2.1 := by decide +kernel
theorem tyX21_ok : ∀ k, k < 2 → parseFieldDescriptor (TX21 k).2.2.1 = some (tyX21 k) := by decide +kernel
abbrev cX21_init : ByteArray := prog_7_method_1_code
def yX21_init : MethodName := ⟨RX21, "<init>", "(LNameOrchard$Expression;)V"⟩
def dkwX21_init_0 : List UInt8 := [42, 183, 0, 1, 42, 187, 0, 7, 89, 4, 183, 0, 9, 181, 0, 12, 42, 43, 181, 0, 18, 177]
abbrev dktX21_init_0 : List UInt8 := dkwX21_init_0 ++ []
theorem dksX21_init_0 : cX21_init.data.toList.drop 0 = dktX21_init_0 := by decide +kernel
theorem dX21_init_0 : decode cX21_init 0 = .ok (.aload_n 0, 1) := dk_42 (dk_at dksX21_init_0 0 rfl rfl)
theorem dX21_init_1 : decode cX21_init 1 = .ok (.invokespecial 1, 3) := dk_183 0 1 (dk_at dksX21_init_0 1 rfl rfl)
theorem dX21_init_4 : decode cX21_init 4 = .ok (.aload_n 0, 1) := dk_42 (dk_at dksX21_init_0 4 rfl rfl)
theorem dX21_init_5 : decode cX21_init 5 = .ok (.new 7, 3) := dk_187 0 7 (dk_at dksX21_init_0 5 rfl rfl)
theorem dX21_init_8 : decode cX21_init 8 = .ok (.dup, 1) := dk_89 (dk_at dksX21_init_0 8 rfl rfl)
theorem dX21_init_9 : decode cX21_init 9 = .ok (.iconst 1, 1) := dk_4 (dk_at dksX21_init_0 9 rfl rfl)
theorem dX21_init_10 : decode cX21_init 10 = .ok (.invokespecial 9, 3) := dk_183 0 9 (dk_at dksX21_init_0 10 rfl rfl)
theorem dX21_init_13 : decode cX21_init 13 = .ok (.putfield 12, 3) := dk_181 0 12 (dk_at dksX21_init_0 13 rfl rfl)
theorem dX21_init_16 : decode cX21_init 16 = .ok (.aload_n 0, 1) := dk_42 (dk_at dksX21_init_0 16 rfl rfl)
theorem dX21_init_17 : decode cX21_init 17 = .ok (.aload_n 1, 1) := dk_43 (dk_at dksX21_init_0 17 rfl rfl)
theorem dX21_init_18 : decode cX21_init 18 = .ok (.putfield 18, 3) := dk_181 0 18 (dk_at dksX21_init_0 18 rfl rfl)
theorem dX21_init_21 : decode cX21_init 21 = .ok (.return_, 1) := dk_177 (dk_at dksX21_init_0 21 rfl rfl)
abbrev cX21_of : ByteArray := prog_7_method_2_code
def yX21_of : MethodName := ⟨RX21, "of", "(LNameOrchard$Facts;)I"⟩
def dkwX21_of_1 : List UInt8 := [180, 0, 12, 29, 182, 0, 30, 192, 0, 34, 28, 43, 182, 0, 36, 61, 132, 3, 1, 167, 255, 225, 28, 172]
abbrev dktX21_of_1 : List UInt8 := dkwX21_of_1 ++ []
def dkwX21_of_0 : List UInt8 := [42, 180, 0, 18, 43, 182, 0, 22, 61, 3, 62, 29, 42, 180, 0, 12, 182, 0, 26, 162, 0, 26, 42]
abbrev dktX21_of_0 : List UInt8 := dkwX21_of_0 ++ dktX21_of_1
theorem dksX21_of_0 : cX21_of.data.toList.drop 0 = dktX21_of_0 := by decide +kernel
theorem dksX21_of_1 : cX21_of.data.toList.drop 23 = dktX21_of_1 := dk_seg dksX21_of_0 23 rfl rfl
theorem dX21_of_0 : decode cX21_of 0 = .ok (.aload_n 0, 1) := dk_42 (dk_at dksX21_of_0 0 rfl rfl)
theorem dX21_of_1 : decode cX21_of 1 = .ok (.getfield 18, 3) := dk_180 0 18 (dk_at dksX21_of_0 1 rfl rfl)
theorem dX21_of_4 : decode cX21_of 4 = .ok (.aload_n 1, 1) := dk_43 (dk_at dksX21_of_0 4 rfl rfl)
theorem dX21_of_5 : decode cX21_of 5 = .ok (.invokevirtual 22, 3) := dk_182 0 22 (dk_at dksX21_of_0 5 rfl rfl)
theorem dX21_of_8 : decode cX21_of 8 = .ok (.istore_n 2, 1) := dk_61 (dk_at dksX21_of_0 8 rfl rfl)
theorem dX21_of_9 : decode cX21_of 9 = .ok (.iconst 0, 1) := dk_3 (dk_at dksX21_of_0 9 rfl rfl)
theorem dX21_of_10 : decode cX21_of 10 = .ok (.istore_n 3, 1) := dk_62 (dk_at dksX21_of_0 10 rfl rfl)
theorem dX21_of_11 : decode cX21_of 11 = .ok (.iload_n 3, 1) := dk_29 (dk_at dksX21_of_0 11 rfl rfl)
theorem dX21_of_12 : decode cX21_of 12 = .ok (.aload_n 0, 1) := dk_42 (dk_at dksX21_of_0 12 rfl rfl)
theorem dX21_of_13 : decode cX21_of 13 = .ok (.getfield 12, 3) := dk_180 0 12 (dk_at dksX21_of_0 13 rfl rfl)
theorem dX21_of_16 : decode cX21_of 16 = .ok (.invokevirtual 26, 3) := dk_182 0 26 (dk_at dksX21_of_0 16 rfl rfl)
theorem dX21_of_19 : decode cX21_of 19 = .ok (.if_icmp .ge 26, 3) := dk_162 0 26 (dk_at dksX21_of_0 19 rfl rfl)
theorem dX21_of_22 : decode cX21_of 22 = .ok (.aload_n 0, 1) := dk_42 (dk_at dksX21_of_0 22 rfl rfl)
theorem dX21_of_23 : decode cX21_of 23 = .ok (.getfield 12, 3) := dk_180 0 12 (dk_at dksX21_of_1 0 rfl rfl)
theorem dX21_of_26 : decode cX21_of 26 = .ok (.iload_n 3, 1) := dk_29 (dk_at dksX21_of_1 3 rfl rfl)
theorem dX21_of_27 : decode cX21_of 27 = .ok (.invokevirtual 30, 3) := dk_182 0 30 (dk_at dksX21_of_1 4 rfl rfl)
theorem dX21_of_30 : decode cX21_of 30 = .ok (.checkcast 34, 3) := dk_192 0 34 (dk_at dksX21_of_1 7 rfl rfl)
theorem dX21_of_33 : decode cX21_of 33 = .ok (.iload_n 2, 1) := dk_28 (dk_at dksX21_of_1 10 rfl rfl)
theorem dX21_of_34 : decode cX21_of 34 = .ok (.aload_n 1, 1) := dk_43 (dk_at dksX21_of_1 11 rfl rfl)
theorem dX21_of_35 : decode cX21_of 35 = .ok (.invokevirtual 36, 3) := dk_182 0 36 (dk_at dksX21_of_1 12 rfl rfl)
theorem dX21_of_38 : decode cX21_of 38 = .ok (.istore_n 2, 1) := dk_61 (dk_at dksX21_of_1 15 rfl rfl)
theorem dX21_of_39 : decode cX21_of 39 = .ok (.iinc 3 1, 3) := dk_132 3 1 (dk_at dksX21_of_1 16 rfl rfl)
theorem dX21_of_42 : decode cX21_of 42 = .ok (.goto (-31), 3) := dk_167 255 225 (dk_at dksX21_of_1 19 rfl rfl)
theorem dX21_of_45 : decode cX21_of 45 = .ok (.iload_n 2, 1) := dk_28 (dk_at dksX21_of_1 22 rfl rfl)
theorem dX21_of_46 : decode cX21_of 46 = .ok (.ireturn, 1) := dk_172 (dk_at dksX21_of_1 23 rfl rfl)
theorem q162 : (Jvm.Cond.initialized "NameOrchard$Chain") ∈ lw_all := lw_g (lw_at lw_m1 39 rfl) rfl
theorem q940 : (Jvm.Cond.selects "NameOrchard$Chain" ({ cls := "java/lang/Object", name := "getClass", desc := "()Ljava/lang/Class;" } : Jvm.MethodName) ({ cls := "java/lang/Object", name := "getClass", desc := "()Ljava/lang/Class;" } : Jvm.MethodName)) ∈ lw_all := lw_g (lw_at lw_m4 97 rfl) rfl
theorem q1171 : (Jvm.Cond.instantiable "NameOrchard$Chain" (2 : Nat)) ∈ lw_all := lw_g (lw_at lw_m5 88 rfl) rfl
theorem q1173 : (Jvm.Cond.instanceMethod ({ cls := "NameOrchard$Chain", name := "<init>", desc := "(LNameOrchard$Expression;)V" } : Jvm.MethodName)) ∈ lw_all := lw_g (lw_at lw_m5 90 rfl) rfl
theorem q1174 : (Jvm.Cond.code ({ cls := "NameOrchard$Chain", name := "<init>", desc := "(LNameOrchard$Expression;)V" } : Jvm.MethodName) prog_7_method_1_code (2 : Nat) (Option.none : Option Jvm.ClassFile.FieldType)) ∈ lw_all := lw_g (lw_at lw_m5 91 rfl) rfl
theorem q1175 : (Jvm.Cond.methodLinkNest "NameOrchard$Chain" (1 : Nat) ({ cls := "NameOrchard$Expression", name := "<init>", desc := "()V" } : Jvm.MethodName) "NameOrchard") ∈ lw_tbl := lw_at lw_m5 92 rfl
theorem q1176 : (Jvm.Cond.classLink "NameOrchard$Chain" (7 : Nat) "java/util/ArrayList") ∈ lw_all := lw_g (lw_at lw_m5 93 rfl) rfl
theorem q1177 : (Jvm.Cond.methodLink "NameOrchard$Chain" (9 : Nat) ({ cls := "java/util/ArrayList", name := "<init>", desc := "(I)V" } : Jvm.MethodName)) ∈ lw_all := lw_g (lw_at lw_m5 94 rfl) rfl
theorem q1178 : (Jvm.Cond.fieldLink "NameOrchard$Chain" (18 : Nat) "NameOrchard$Chain" "first" "LNameOrchard$Expression;") ∈ lw_all := lw_g (lw_at lw_m5 95 rfl) rfl
theorem q1179 : (Jvm.Cond.fieldLink "NameOrchard$Chain" (12 : Nat) "NameOrchard$Chain" "links" "Ljava/util/ArrayList;") ∈ lw_all := lw_g (lw_at lw_m5 96 rfl) rfl
theorem q1181 : (Jvm.Cond.laysFinal "NameOrchard$Chain" "NameOrchard$Chain" "first" "LNameOrchard$Expression;") ∈ lw_all := lw_g (lw_at lw_m5 98 rfl) rfl
theorem q1182 : (Jvm.Cond.soleField "NameOrchard$Chain" "first") ∈ lw_all := lw_g (lw_at lw_m5 99 rfl) rfl
theorem q1183 : (Jvm.Cond.laysFinal "NameOrchard$Chain" "NameOrchard$Chain" "links" "Ljava/util/ArrayList;") ∈ lw_all := lw_g (lw_at lw_m5 100 rfl) rfl
theorem q1184 : (Jvm.Cond.soleField "NameOrchard$Chain" "links") ∈ lw_all := lw_g (lw_at lw_m5 101 rfl) rfl
theorem q1185 : (Jvm.Cond.superclass "NameOrchard$Chain" "NameOrchard$Expression") ∈ lw_all := lw_g (lw_at lw_m5 102 rfl) rfl
theorem q1348 : (Jvm.Cond.selects "NameOrchard$Chain" ({ cls := "NameOrchard$Expression", name := "of", desc := "(LNameOrchard$Facts;)I" } : Jvm.MethodName) ({ cls := "NameOrchard$Chain", name := "of", desc := "(LNameOrchard$Facts;)I" } : Jvm.MethodName)) ∈ lw_all := lw_g (lw_at lw_m6 25 rfl) rfl
theorem q1349 : (Jvm.Cond.instanceMethod ({ cls := "NameOrchard$Chain", name := "of", desc := "(LNameOrchard$Facts;)I" } : Jvm.MethodName)) ∈ lw_all := lw_g (lw_at lw_m6 26 rfl) rfl
theorem q1350 : (Jvm.Cond.code ({ cls := "NameOrchard$Chain", name := "of", desc := "(LNameOrchard$Facts;)I" } : Jvm.MethodName) prog_7_method_2_code (4 : Nat) (Option.some Jvm.ClassFile.FieldType.int)) ∈ lw_all := lw_g (lw_at lw_m6 27 rfl) rfl
theorem q1351 : (Jvm.Cond.methodLink "NameOrchard$Chain" (22 : Nat) ({ cls := "NameOrchard$Expression", name := "of", desc := "(LNameOrchard$Facts;)I" } : Jvm.MethodName)) ∈ lw_all := lw_g (lw_at lw_m6 28 rfl) rfl
theorem q1359 : (Jvm.Cond.methodLink "NameOrchard$Chain" (26 : Nat) ({ cls := "java/util/ArrayList", name := "size", desc := "()I" } : Jvm.MethodName)) ∈ lw_all := lw_g (lw_at lw_m6 36 rfl) rfl
theorem q1360 : (Jvm.Cond.methodLink "NameOrchard$Chain" (30 : Nat) ({ cls := "java/util/ArrayList", name := "get", desc := "(I)Ljava/lang/Object;" } : Jvm.MethodName)) ∈ lw_all := lw_g (lw_at lw_m6 37 rfl) rfl
theorem q1361 : (Jvm.Cond.classLink "NameOrchard$Chain" (34 : Nat) "NameOrchard$Link") ∈ lw_all := lw_g (lw_at lw_m6 38 rfl) rfl
theorem q1362 : (Jvm.Cond.methodLink "NameOrchard$Chain" (36 : Nat) ({ cls := "NameOrchard$Link", name := "on", desc := "(ILNameOrchard$Facts;)I" } : Jvm.MethodName)) ∈ lw_all := lw_g (lw_at lw_m6 39 rfl) rfl
theorem q2624 : (Jvm.Cond.castable "NameOrchard$Chain" "java/lang/Object") ∈ lw_tbl := lw_at lw_m11 101 rfl
theorem in_X21 : ∀ w ∈ wsX210, w ∈ lw_all := lw_in wsX210 [1181, 1183] (by decide +kernel) (by decide +kernel)
/-! NameOrchard$Link -/
set_option maxRecDepth 100000
def RX22 : String := "NameOrchard$Link"
abbrev cX22_init : ByteArray := prog_15_method_1_code
def yX22_init : MethodName := ⟨RX22, "<init>", "(LNameOrchard$Expression;)V"⟩
def dkwX22_init_0 : List UInt8 := [42, 183, 0, 1, 42, 43, 181, 0, 7, 177]
abbrev dktX22_init_0 : List UInt8 := dkwX22_init_0 ++ []
theorem dksX22_init_0 : cX22_init.data.toList.drop 0 = dktX22_init_0 := by decide +kernel
theorem dX22_init_0 : decode cX22_init 0 = .ok (.aload_n 0, 1) := dk_42 (dk_at dksX22_init_0 0 rfl rfl)
theorem dX22_init_1 : decode cX22_init 1 = .ok (.invokespecial 1, 3) := dk_183 0 1 (dk_at dksX22_init_0 1 rfl rfl)
theorem dX22_init_4 : decode cX22_init 4 = .ok (.aload_n 0, 1) := dk_42 (dk_at dksX22_init_0 4 rfl rfl)
theorem dX22_init_5 : decode cX22_init 5 = .ok (.aload_n 1, 1) := dk_43 (dk_at dksX22_init_0 5 rfl rfl)
theorem dX22_init_6 : decode cX22_init 6 = .ok (.putfield 7, 3) := dk_181 0 7 (dk_at dksX22_init_0 6 rfl rfl)
theorem dX22_init_9 : decode cX22_init 9 = .ok (.return_, 1) := dk_177 (dk_at dksX22_init_0 9 rfl rfl)
abbrev cX22_on : ByteArray := prog_15_method_3_code
def yX22_on : MethodName := ⟨RX22, "on", "(ILNameOrchard$Facts;)I"⟩
def dkwX22_on_0 : List UInt8 := [42, 27, 42, 180, 0, 7, 44, 182, 0, 13, 182, 0, 19, 172]
abbrev dktX22_on_0 : List UInt8 := dkwX22_on_0 ++ []
theorem dksX22_on_0 : cX22_on.data.toList.drop 0 = dktX22_on_0 := by decide +kernel
theorem dX22_on_0 : decode cX22_on 0 = .ok (.aload_n 0, 1) := dk_42 (dk_at dksX22_on_0 0 rfl rfl)
theorem dX22_on_1 : decode cX22_on 1 = .ok (.iload_n 1, 1) := dk_27 (dk_at dksX22_on_0 1 rfl rfl)
theorem dX22_on_2 : decode cX22_on 2 = .ok (.aload_n 0, 1) := dk_42 (dk_at dksX22_on_0 2 rfl rfl)
theorem dX22_on_3 : decode cX22_on 3 = .ok (.getfield 7, 3) := dk_180 0 7 (dk_at dksX22_on_0 3 rfl rfl)
theorem dX22_on_6 : decode cX22_on 6 = .ok (.aload_n 2, 1) := dk_44 (dk_at dksX22_on_0 6 rfl rfl)
theorem dX22_on_7 : decode cX22_on 7 = .ok (.invokevirtual 13, 3) := dk_182 0 13 (dk_at dksX22_on_0 7 rfl rfl)
theorem dX22_on_10 : decode cX22_on 10 = .ok (.invokevirtual 19, 3) := dk_182 0 19 (dk_at dksX22_on_0 10 rfl rfl)
theorem dX22_on_13 : decode cX22_on 13 = .ok (.ireturn, 1) := dk_172 (dk_at dksX22_on_0 13 rfl rfl)
theorem q163 : (Jvm.Cond.initialized "NameOrchard$Link") ∈ lw_all := lw_g (lw_at lw_m1 40 rfl) rfl
theorem q1192 : (Jvm.Cond.instanceMethod ({ cls := "NameOrchard$Link", name := "<init>", desc := "(LNameOrchard$Expression;)V" } : Jvm.MethodName)) ∈ lw_all := lw_g (lw_at lw_m5 109 rfl) rfl
theorem q1193 : (Jvm.Cond.code ({ cls := "NameOrchard$Link", name := "<init>", desc := "(LNameOrchard$Expression;)V" } : Jvm.MethodName) prog_15_method_1_code (2 : Nat) (Option.none : Option Jvm.ClassFile.FieldType)) ∈ lw_all := lw_g (lw_at lw_m5 110 rfl) rfl
theorem q1194 : (Jvm.Cond.methodLink "NameOrchard$Link" (1 : Nat) ({ cls := "java/lang/Object", name := "<init>", desc := "()V" } : Jvm.MethodName)) ∈ lw_all := lw_g (lw_at lw_m5 111 rfl) rfl
theorem q1195 : (Jvm.Cond.fieldLink "NameOrchard$Link" (7 : Nat) "NameOrchard$Link" "e" "LNameOrchard$Expression;") ∈ lw_all := lw_g (lw_at lw_m5 112 rfl) rfl
theorem q1197 : (Jvm.Cond.soleField "NameOrchard$Link" "e") ∈ lw_all := lw_g (lw_at lw_m5 114 rfl) rfl
theorem q1363 : (Jvm.Cond.instanceMethod ({ cls := "NameOrchard$Link", name := "on", desc := "(ILNameOrchard$Facts;)I" } : Jvm.MethodName)) ∈ lw_all := lw_g (lw_at lw_m6 40 rfl) rfl
theorem q1364 : (Jvm.Cond.sameMethod "NameOrchard$Link" "NameOrchard$Link" "on" "(ILNameOrchard$Facts;)I") ∈ lw_all := lw_g (lw_at lw_m6 41 rfl) rfl
theorem q1372 : (Jvm.Cond.code ({ cls := "NameOrchard$Link", name := "on", desc := "(ILNameOrchard$Facts;)I" } : Jvm.MethodName) prog_15_method_3_code (3 : Nat) (Option.some Jvm.ClassFile.FieldType.int)) ∈ lw_all := lw_g (lw_at lw_m6 49 rfl) rfl
theorem q1373 : (Jvm.Cond.methodLink "NameOrchard$Link" (13 : Nat) ({ cls := "NameOrchard$Expression", name := "of", desc := "(LNameOrchard$Facts;)I" } : Jvm.MethodName)) ∈ lw_all := lw_g (lw_at lw_m6 50 rfl) rfl
theorem q1374 : (Jvm.Cond.methodLink "NameOrchard$Link" (19 : Nat) ({ cls := "NameOrchard$Link", name := "with", desc := "(II)I" } : Jvm.MethodName)) ∈ lw_all := lw_g (lw_at lw_m6 51 rfl) rfl
theorem q1375 : (Jvm.Cond.declares ({ cls := "NameOrchard$Link", name := "with", desc := "(II)I" } : Jvm.MethodName)) ∈ lw_tbl := lw_at lw_m6 52 rfl
theorem q1376 : (Jvm.Cond.sameMethod "NameOrchard$Link" "NameOrchard$Link" "with" "(II)I") ∈ lw_all := lw_g (lw_at lw_m6 53 rfl) rfl
/-! NameOrchard$Times -/
set_option maxRecDepth 100000
def RX23 : String := "NameOrchard$Times"
def TX23 : u_T := fun k => match k with
  | _ => ("NameOrchard$Link", "e", "LNameOrchard$Expression;", true)
def tyX23 : Nat → FieldType := fun k => match k with
  | _ => .object "NameOrchard$Expression"
abbrev wsX230 : List Cond := u_ws RX23 TX23 1
theorem nmX23 : ∀ a, a < 1 → ∀ b, b < 1 → a ≠ b → (TX23 a).2.1 ≠ (TX23 b).2.1 := by decide +kernel
theorem tyX23_ok : ∀ k, k < 1 → parseFieldDescriptor (TX23 k).2.2.1 = some (tyX23 k) := by decide +kernel
abbrev cX23_init : ByteArray := prog_30_method_1_code
def yX23_init : MethodName := ⟨RX23, "<init>", "(LNameOrchard$Expression;)V"⟩
def dkwX23_init_0 : List UInt8 := [42, 43, 183, 0, 1, 177]
abbrev dktX23_init_0 : List UInt8 := dkwX23_init_0 ++ []
theorem dksX23_init_0 : cX23_init.data.toList.drop 0 = dktX23_init_0 := by decide +kernel
theorem dX23_init_0 : decode cX23_init 0 = .ok (.aload_n 0, 1) := dk_42 (dk_at dksX23_init_0 0 rfl rfl)
theorem dX23_init_1 : decode cX23_init 1 = .ok (.aload_n 1, 1) := dk_43 (dk_at dksX23_init_0 1 rfl rfl)
theorem dX23_init_2 : decode cX23_init 2 = .ok (.invokespecial 1, 3) := dk_183 0 1 (dk_at dksX23_init_0 2 rfl rfl)
theorem dX23_init_5 : decode cX23_init 5 = .ok (.return_, 1) := dk_177 (dk_at dksX23_init_0 5 rfl rfl)
abbrev cX23_with : ByteArray := prog_30_method_2_code
def yX23_with : MethodName := ⟨RX23, "with", "(II)I"⟩
def dkwX23_with_0 : List UInt8 := [27, 28, 104, 172]
abbrev dktX23_with_0 : List UInt8 := dkwX23_with_0 ++ []
theorem dksX23_with_0 : cX23_with.data.toList.drop 0 = dktX23_with_0 := by decide +kernel
theorem dX23_with_0 : decode cX23_with 0 = .ok (.iload_n 1, 1) := dk_27 (dk_at dksX23_with_0 0 rfl rfl)
theorem dX23_with_1 : decode cX23_with 1 = .ok (.iload_n 2, 1) := dk_28 (dk_at dksX23_with_0 1 rfl rfl)
theorem dX23_with_2 : decode cX23_with 2 = .ok (.imul, 1) := dk_104 (dk_at dksX23_with_0 2 rfl rfl)
theorem dX23_with_3 : decode cX23_with 3 = .ok (.ireturn, 1) := dk_172 (dk_at dksX23_with_0 3 rfl rfl)
theorem q164 : (Jvm.Cond.initialized "NameOrchard$Times") ∈ lw_all := lw_g (lw_at lw_m1 41 rfl) rfl
theorem q960 : (Jvm.Cond.selects "NameOrchard$Times" ({ cls := "java/lang/Object", name := "getClass", desc := "()Ljava/lang/Class;" } : Jvm.MethodName) ({ cls := "java/lang/Object", name := "getClass", desc := "()Ljava/lang/Class;" } : Jvm.MethodName)) ∈ lw_all := lw_g (lw_at lw_m4 117 rfl) rfl
theorem q1187 : (Jvm.Cond.instantiable "NameOrchard$Times" (1 : Nat)) ∈ lw_all := lw_g (lw_at lw_m5 104 rfl) rfl
theorem q1189 : (Jvm.Cond.instanceMethod ({ cls := "NameOrchard$Times", name := "<init>", desc := "(LNameOrchard$Expression;)V" } : Jvm.MethodName)) ∈ lw_all := lw_g (lw_at lw_m5 106 rfl) rfl
theorem q1190 : (Jvm.Cond.code ({ cls := "NameOrchard$Times", name := "<init>", desc := "(LNameOrchard$Expression;)V" } : Jvm.MethodName) prog_30_method_1_code (2 : Nat) (Option.none : Option Jvm.ClassFile.FieldType)) ∈ lw_all := lw_g (lw_at lw_m5 107 rfl) rfl
theorem q1191 : (Jvm.Cond.methodLink "NameOrchard$Times" (1 : Nat) ({ cls := "NameOrchard$Link", name := "<init>", desc := "(LNameOrchard$Expression;)V" } : Jvm.MethodName)) ∈ lw_all := lw_g (lw_at lw_m5 108 rfl) rfl
theorem q1196 : (Jvm.Cond.laysFinal "NameOrchard$Times" "NameOrchard$Link" "e" "LNameOrchard$Expression;") ∈ lw_all := lw_g (lw_at lw_m5 113 rfl) rfl
theorem q1198 : (Jvm.Cond.superclass "NameOrchard$Times" "NameOrchard$Link") ∈ lw_all := lw_g (lw_at lw_m5 115 rfl) rfl
theorem q1371 : (Jvm.Cond.selects "NameOrchard$Times" ({ cls := "NameOrchard$Link", name := "on", desc := "(ILNameOrchard$Facts;)I" } : Jvm.MethodName) ({ cls := "NameOrchard$Link", name := "on", desc := "(ILNameOrchard$Facts;)I" } : Jvm.MethodName)) ∈ lw_all := lw_g (lw_at lw_m6 48 rfl) rfl
theorem q1395 : (Jvm.Cond.selects "NameOrchard$Times" ({ cls := "NameOrchard$Link", name := "with", desc := "(II)I" } : Jvm.MethodName) ({ cls := "NameOrchard$Times", name := "with", desc := "(II)I" } : Jvm.MethodName)) ∈ lw_all := lw_g (lw_at lw_m6 72 rfl) rfl
theorem q1396 : (Jvm.Cond.instanceMethod ({ cls := "NameOrchard$Times", name := "with", desc := "(II)I" } : Jvm.MethodName)) ∈ lw_all := lw_g (lw_at lw_m6 73 rfl) rfl
theorem q1397 : (Jvm.Cond.code ({ cls := "NameOrchard$Times", name := "with", desc := "(II)I" } : Jvm.MethodName) prog_30_method_2_code (3 : Nat) (Option.some Jvm.ClassFile.FieldType.int)) ∈ lw_all := lw_g (lw_at lw_m6 74 rfl) rfl
theorem q2597 : (Jvm.Cond.castable "NameOrchard$Times" "NameOrchard$Link") ∈ lw_tbl := lw_at lw_m11 74 rfl
theorem q2625 : (Jvm.Cond.castable "NameOrchard$Times" "java/lang/Object") ∈ lw_tbl := lw_at lw_m11 102 rfl
theorem in_X23 : ∀ w ∈ wsX230, w ∈ lw_all := lw_in wsX230 [1196] (by decide +kernel) (by decide +kernel)
/-! NameOrchard$Plus -/
set_option maxRecDepth 100000
def RX24 : String := "NameOrchard$Plus"
def TX24 : u_T := fun k => match k with
  | _ => ("NameOrchard$Link", "e", "LNameOrchard$Expression;", true)
def tyX24 : Nat → FieldType := fun k => match k with
  | _ => .object "NameOrchard$Expression"
abbrev wsX240 : List Cond := u_ws RX24 TX24 1
theorem nmX24 : ∀ a, a < 1 → ∀ b, b < 1 → a ≠ b → (TX24 a).2.1 ≠ (TX24 b).2.1 := by decide +kernel
theorem tyX24_ok : ∀ k, k < 1 → parseFieldDescriptor (TX24 k).2.2.1 = some (tyX24 k) := by decide +kernel
abbrev cX24_init : ByteArray := prog_25_method_1_code
def yX24_init : MethodName := ⟨RX24, "<init>", "(LNameOrchard$Expression;)V"⟩
def dkwX24_init_0 : List UInt8 := [42, 43, 183, 0, 1, 177]
abbrev dktX24_init_0 : List UInt8 := dkwX24_init_0 ++ []
theorem dksX24_init_0 : cX24_init.data.toList.drop 0 = dktX24_init_0 := by decide +kernel
theorem dX24_init_0 : decode cX24_init 0 = .ok (.aload_n 0, 1) := dk_42 (dk_at dksX24_init_0 0 rfl rfl)
theorem dX24_init_1 : decode cX24_init 1 = .ok (.aload_n 1, 1) := dk_43 (dk_at dksX24_init_0 1 rfl rfl)
theorem dX24_init_2 : decode cX24_init 2 = .ok (.invokespecial 1, 3) := dk_183 0 1 (dk_at dksX24_init_0 2 rfl rfl)
theorem dX24_init_5 : decode cX24_init 5 = .ok (.return_, 1) := dk_177 (dk_at dksX24_init_0 5 rfl rfl)
abbrev cX24_with : ByteArray := prog_25_method_2_code
def yX24_with : MethodName := ⟨RX24, "with", "(II)I"⟩
def dkwX24_with_0 : List UInt8 := [27, 28, 96, 172]
abbrev dktX24_with_0 : List UInt8 := dkwX24_with_0 ++ []
theorem dksX24_with_0 : cX24_with.data.toList.drop 0 = dktX24_with_0 := by decide +kernel
theorem dX24_with_0 : decode cX24_with 0 = .ok (.iload_n 1, 1) := dk_27 (dk_at dksX24_with_0 0 rfl rfl)
theorem dX24_with_1 : decode cX24_with 1 = .ok (.iload_n 2, 1) := dk_28 (dk_at dksX24_with_0 1 rfl rfl)
theorem dX24_with_2 : decode cX24_with 2 = .ok (.iadd, 1) := dk_96 (dk_at dksX24_with_0 2 rfl rfl)
theorem dX24_with_3 : decode cX24_with 3 = .ok (.ireturn, 1) := dk_172 (dk_at dksX24_with_0 3 rfl rfl)
theorem q165 : (Jvm.Cond.initialized "NameOrchard$Plus") ∈ lw_all := lw_g (lw_at lw_m1 42 rfl) rfl
theorem q955 : (Jvm.Cond.selects "NameOrchard$Plus" ({ cls := "java/lang/Object", name := "getClass", desc := "()Ljava/lang/Class;" } : Jvm.MethodName) ({ cls := "java/lang/Object", name := "getClass", desc := "()Ljava/lang/Class;" } : Jvm.MethodName)) ∈ lw_all := lw_g (lw_at lw_m4 112 rfl) rfl
theorem q1200 : (Jvm.Cond.instantiable "NameOrchard$Plus" (1 : Nat)) ∈ lw_all := lw_g (lw_at lw_m5 117 rfl) rfl
theorem q1202 : (Jvm.Cond.instanceMethod ({ cls := "NameOrchard$Plus", name := "<init>", desc := "(LNameOrchard$Expression;)V" } : Jvm.MethodName)) ∈ lw_all := lw_g (lw_at lw_m5 119 rfl) rfl
theorem q1203 : (Jvm.Cond.code ({ cls := "NameOrchard$Plus", name := "<init>", desc := "(LNameOrchard$Expression;)V" } : Jvm.MethodName) prog_25_method_1_code (2 : Nat) (Option.none : Option Jvm.ClassFile.FieldType)) ∈ lw_all := lw_g (lw_at lw_m5 120 rfl) rfl
theorem q1204 : (Jvm.Cond.methodLink "NameOrchard$Plus" (1 : Nat) ({ cls := "NameOrchard$Link", name := "<init>", desc := "(LNameOrchard$Expression;)V" } : Jvm.MethodName)) ∈ lw_all := lw_g (lw_at lw_m5 121 rfl) rfl
theorem q1205 : (Jvm.Cond.laysFinal "NameOrchard$Plus" "NameOrchard$Link" "e" "LNameOrchard$Expression;") ∈ lw_all := lw_g (lw_at lw_m5 122 rfl) rfl
theorem q1206 : (Jvm.Cond.superclass "NameOrchard$Plus" "NameOrchard$Link") ∈ lw_all := lw_g (lw_at lw_m5 123 rfl) rfl
theorem q1369 : (Jvm.Cond.selects "NameOrchard$Plus" ({ cls := "NameOrchard$Link", name := "on", desc := "(ILNameOrchard$Facts;)I" } : Jvm.MethodName) ({ cls := "NameOrchard$Link", name := "on", desc := "(ILNameOrchard$Facts;)I" } : Jvm.MethodName)) ∈ lw_all := lw_g (lw_at lw_m6 46 rfl) rfl
theorem q1389 : (Jvm.Cond.selects "NameOrchard$Plus" ({ cls := "NameOrchard$Link", name := "with", desc := "(II)I" } : Jvm.MethodName) ({ cls := "NameOrchard$Plus", name := "with", desc := "(II)I" } : Jvm.MethodName)) ∈ lw_all := lw_g (lw_at lw_m6 66 rfl) rfl
theorem q1390 : (Jvm.Cond.instanceMethod ({ cls := "NameOrchard$Plus", name := "with", desc := "(II)I" } : Jvm.MethodName)) ∈ lw_all := lw_g (lw_at lw_m6 67 rfl) rfl
theorem q1391 : (Jvm.Cond.code ({ cls := "NameOrchard$Plus", name := "with", desc := "(II)I" } : Jvm.MethodName) prog_25_method_2_code (3 : Nat) (Option.some Jvm.ClassFile.FieldType.int)) ∈ lw_all := lw_g (lw_at lw_m6 68 rfl) rfl
theorem q2595 : (Jvm.Cond.castable "NameOrchard$Plus" "NameOrchard$Link") ∈ lw_tbl := lw_at lw_m11 72 rfl
theorem q2626 : (Jvm.Cond.castable "NameOrchard$Plus" "java/lang/Object") ∈ lw_tbl := lw_at lw_m11 103 rfl
theorem in_X24 : ∀ w ∈ wsX240, w ∈ lw_all := lw_in wsX240 [1205] (by decide +kernel) (by decide +kernel)
/-! NameOrchard$Minus -/
set_option maxRecDepth 100000
def RX25 : String := "NameOrchard$Minus"
def TX25 : u_T := fun k => match k with
  | _ => ("NameOrchard$Link", "e", "LNameOrchard$Expression;", true)
def tyX25 : Nat → FieldType := fun k => match k with
  | _ => .object "NameOrchard$Expression"
abbrev wsX250 : List Cond := u_ws RX25 TX25 1
theorem nmX25 : ∀ a, a < 1 → ∀ b, b < 1 → a ≠ b → (TX25 a).2.1 ≠ (TX25 b).2.1 := by decide +kernel
theorem tyX25_ok : ∀ k, k < 1 → parseFieldDescriptor (TX25 k).2.2.1 = some (tyX25 k) := by decide +kernel
abbrev cX25_init : ByteArray := prog_17_method_1_code
def yX25_init : MethodName := ⟨RX25, "<init>", "(LNameOrchard$Expression;)V"⟩
def dkwX25_init_0 : List UInt8 := [42, 43, 183, 0, 1, 177]
abbrev dktX25_init_0 : List UInt8 := dkwX25_init_0 ++ []
theorem dksX25_init_0 : cX25_init.data.toList.drop 0 = dktX25_init_0 := by decide +kernel
theorem dX25_init_0 : decode cX25_init 0 = .ok (.aload_n 0, 1) := dk_42 (dk_at dksX25_init_0 0 rfl rfl)
theorem dX25_init_1 : decode cX25_init 1 = .ok (.aload_n 1, 1) := dk_43 (dk_at dksX25_init_0 1 rfl rfl)
theorem dX25_init_2 : decode cX25_init 2 = .ok (.invokespecial 1, 3) := dk_183 0 1 (dk_at dksX25_init_0 2 rfl rfl)
theorem dX25_init_5 : decode cX25_init 5 = .ok (.return_, 1) := dk_177 (dk_at dksX25_init_0 5 rfl rfl)
abbrev cX25_with : ByteArray := prog_17_method_2_code
def yX25_with : MethodName := ⟨RX25, "with", "(II)I"⟩
def dkwX25_with_0 : List UInt8 := [27, 28, 100, 172]
abbrev dktX25_with_0 : List UInt8 := dkwX25_with_0 ++ []
theorem dksX25_with_0 : cX25_with.data.toList.drop 0 = dktX25_with_0 := by decide +kernel
theorem dX25_with_0 : decode cX25_with 0 = .ok (.iload_n 1, 1) := dk_27 (dk_at dksX25_with_0 0 rfl rfl)
theorem dX25_with_1 : decode cX25_with 1 = .ok (.iload_n 2, 1) := dk_28 (dk_at dksX25_with_0 1 rfl rfl)
theorem dX25_with_2 : decode cX25_with 2 = .ok (.isub, 1) := dk_100 (dk_at dksX25_with_0 2 rfl rfl)
theorem dX25_with_3 : decode cX25_with 3 = .ok (.ireturn, 1) := dk_172 (dk_at dksX25_with_0 3 rfl rfl)
theorem q166 : (Jvm.Cond.initialized "NameOrchard$Minus") ∈ lw_all := lw_g (lw_at lw_m1 43 rfl) rfl
theorem q947 : (Jvm.Cond.selects "NameOrchard$Minus" ({ cls := "java/lang/Object", name := "getClass", desc := "()Ljava/lang/Class;" } : Jvm.MethodName) ({ cls := "java/lang/Object", name := "getClass", desc := "()Ljava/lang/Class;" } : Jvm.MethodName)) ∈ lw_all := lw_g (lw_at lw_m4 104 rfl) rfl
theorem q1208 : (Jvm.Cond.instantiable "NameOrchard$Minus" (1 : Nat)) ∈ lw_all := lw_g (lw_at lw_m5 125 rfl) rfl
theorem q1210 : (Jvm.Cond.instanceMethod ({ cls := "NameOrchard$Minus", name := "<init>", desc := "(LNameOrchard$Expression;)V" } : Jvm.MethodName)) ∈ lw_all := lw_g (lw_at lw_m5 127 rfl) rfl
theorem q1211 : (Jvm.Cond.code ({ cls := "NameOrchard$Minus", name := "<init>", desc := "(LNameOrchard$Expression;)V" } : Jvm.MethodName) prog_17_method_1_code (2 : Nat) (Option.none : Option Jvm.ClassFile.FieldType)) ∈ lw_all := lw_g (lw_at lw_m5 128 rfl) rfl
theorem q1212 : (Jvm.Cond.methodLink "NameOrchard$Minus" (1 : Nat) ({ cls := "NameOrchard$Link", name := "<init>", desc := "(LNameOrchard$Expression;)V" } : Jvm.MethodName)) ∈ lw_all := lw_g (lw_at lw_m5 129 rfl) rfl
theorem q1213 : (Jvm.Cond.laysFinal "NameOrchard$Minus" "NameOrchard$Link" "e" "LNameOrchard$Expression;") ∈ lw_all := lw_g (lw_at lw_m5 130 rfl) rfl
theorem q1214 : (Jvm.Cond.superclass "NameOrchard$Minus" "NameOrchard$Link") ∈ lw_all := lw_g (lw_at lw_m5 131 rfl) rfl
theorem q1367 : (Jvm.Cond.selects "NameOrchard$Minus" ({ cls := "NameOrchard$Link", name := "on", desc := "(ILNameOrchard$Facts;)I" } : Jvm.MethodName) ({ cls := "NameOrchard$Link", name := "on", desc := "(ILNameOrchard$Facts;)I" } : Jvm.MethodName)) ∈ lw_all := lw_g (lw_at lw_m6 44 rfl) rfl
theorem q1383 : (Jvm.Cond.selects "NameOrchard$Minus" ({ cls := "NameOrchard$Link", name := "with", desc := "(II)I" } : Jvm.MethodName) ({ cls := "NameOrchard$Minus", name := "with", desc := "(II)I" } : Jvm.MethodName)) ∈ lw_all := lw_g (lw_at lw_m6 60 rfl) rfl
theorem q1384 : (Jvm.Cond.instanceMethod ({ cls := "NameOrchard$Minus", name := "with", desc := "(II)I" } : Jvm.MethodName)) ∈ lw_all := lw_g (lw_at lw_m6 61 rfl) rfl
theorem q1385 : (Jvm.Cond.code ({ cls := "NameOrchard$Minus", name := "with", desc := "(II)I" } : Jvm.MethodName) prog_17_method_2_code (3 : Nat) (Option.some Jvm.ClassFile.FieldType.int)) ∈ lw_all := lw_g (lw_at lw_m6 62 rfl) rfl
theorem q2593 : (Jvm.Cond.castable "NameOrchard$Minus" "NameOrchard$Link") ∈ lw_tbl := lw_at lw_m11 70 rfl
theorem q2627 : (Jvm.Cond.castable "NameOrchard$Minus" "java/lang/Object") ∈ lw_tbl := lw_at lw_m11 104 rfl
theorem in_X25 : ∀ w ∈ wsX250, w ∈ lw_all := lw_in wsX250 [1213] (by decide +kernel) (by decide +kernel)
/-! NameOrchard$Less -/
set_option maxRecDepth 100000
def RX26 : String := "NameOrchard$Less"
def TX26 : u_T := fun k => match k with
  | _ => ("NameOrchard$Link", "e", "LNameOrchard$Expression;", true)
def tyX26 : Nat → FieldType := fun k => match k with
  | _ => .object "NameOrchard$Expression"
abbrev wsX260 : List Cond := u_ws RX26 TX26 1
theorem nmX26 : ∀ a, a < 1 → ∀ b, b < 1 → a ≠ b → (TX26 a).2.1 ≠ (TX26 b).2.1 := by decide +kernel
theorem tyX26_ok : ∀ k, k < 1 → parseFieldDescriptor (TX26 k).2.2.1 = some (tyX26 k) := by decide +kernel
abbrev cX26_init : ByteArray := prog_13_method_1_code
def yX26_init : MethodName := ⟨RX26, "<init>", "(LNameOrchard$Expression;)V"⟩
def dkwX26_init_0 : List UInt8 := [42, 43, 183, 0, 1, 177]
abbrev dktX26_init_0 : List UInt8 := dkwX26_init_0 ++ []
theorem dksX26_init_0 : cX26_init.data.toList.drop 0 = dktX26_init_0 := by decide +kernel
theorem dX26_init_0 : decode cX26_init 0 = .ok (.aload_n 0, 1) := dk_42 (dk_at dksX26_init_0 0 rfl rfl)
theorem dX26_init_1 : decode cX26_init 1 = .ok (.aload_n 1, 1) := dk_43 (dk_at dksX26_init_0 1 rfl rfl)
theorem dX26_init_2 : decode cX26_init 2 = .ok (.invokespecial 1, 3) := dk_183 0 1 (dk_at dksX26_init_0 2 rfl rfl)
theorem dX26_init_5 : decode cX26_init 5 = .ok (.return_, 1) := dk_177 (dk_at dksX26_init_0 5 rfl rfl)
abbrev cX26_with : ByteArray := prog_13_method_2_code
def yX26_with : MethodName := ⟨RX26, "with", "(II)I"⟩
def dkwX26_with_0 : List UInt8 := [27, 28, 162, 0, 7, 4, 167, 0, 4, 3, 172]
abbrev dktX26_with_0 : List UInt8 := dkwX26_with_0 ++ []
theorem dksX26_with_0 : cX26_with.data.toList.drop 0 = dktX26_with_0 := by decide +kernel
theorem dX26_with_0 : decode cX26_with 0 = .ok (.iload_n 1, 1) := dk_27 (dk_at dksX26_with_0 0 rfl rfl)
theorem dX26_with_1 : decode cX26_with 1 = .ok (.iload_n 2, 1) := dk_28 (dk_at dksX26_with_0 1 rfl rfl)
theorem dX26_with_2 : decode cX26_with 2 = .ok (.if_icmp .ge 7, 3) := dk_162 0 7 (dk_at dksX26_with_0 2 rfl rfl)
theorem dX26_with_5 : decode cX26_with 5 = .ok (.iconst 1, 1) := dk_4 (dk_at dksX26_with_0 5 rfl rfl)
theorem dX26_with_6 : decode cX26_with 6 = .ok (.goto 4, 3) := dk_167 0 4 (dk_at dksX26_with_0 6 rfl rfl)
theorem dX26_with_9 : decode cX26_with 9 = .ok (.iconst 0, 1) := dk_3 (dk_at dksX26_with_0 9 rfl rfl)
theorem dX26_with_10 : decode cX26_with 10 = .ok (.ireturn, 1) := dk_172 (dk_at dksX26_with_0 10 rfl rfl)
theorem q167 : (Jvm.Cond.initialized "NameOrchard$Less") ∈ lw_all := lw_g (lw_at lw_m1 44 rfl) rfl
theorem q945 : (Jvm.Cond.selects "NameOrchard$Less" ({ cls := "java/lang/Object", name := "getClass", desc := "()Ljava/lang/Class;" } : Jvm.MethodName) ({ cls := "java/lang/Object", name := "getClass", desc := "()Ljava/lang/Class;" } : Jvm.MethodName)) ∈ lw_all := lw_g (lw_at lw_m4 102 rfl) rfl
theorem q1216 : (Jvm.Cond.instantiable "NameOrchard$Less" (1 : Nat)) ∈ lw_all := lw_g (lw_at lw_m5 133 rfl) rfl
theorem q1218 : (Jvm.Cond.instanceMethod ({ cls := "NameOrchard$Less", name := "<init>", desc := "(LNameOrchard$Expression;)V" } : Jvm.MethodName)) ∈ lw_all := lw_g (lw_at lw_m5 135 rfl) rfl
theorem q1219 : (Jvm.Cond.code ({ cls := "NameOrchard$Less", name := "<init>", desc := "(LNameOrchard$Expression;)V" } : Jvm.MethodName) prog_13_method_1_code (2 : Nat) (Option.none : Option Jvm.ClassFile.FieldType)) ∈ lw_all := lw_g (lw_at lw_m5 136 rfl) rfl
theorem q1220 : (Jvm.Cond.methodLink "NameOrchard$Less" (1 : Nat) ({ cls := "NameOrchard$Link", name := "<init>", desc := "(LNameOrchard$Expression;)V" } : Jvm.MethodName)) ∈ lw_all := lw_g (lw_at lw_m5 137 rfl) rfl
theorem q1221 : (Jvm.Cond.laysFinal "NameOrchard$Less" "NameOrchard$Link" "e" "LNameOrchard$Expression;") ∈ lw_all := lw_g (lw_at lw_m5 138 rfl) rfl
theorem q1222 : (Jvm.Cond.superclass "NameOrchard$Less" "NameOrchard$Link") ∈ lw_all := lw_g (lw_at lw_m5 139 rfl) rfl
theorem q1366 : (Jvm.Cond.selects "NameOrchard$Less" ({ cls := "NameOrchard$Link", name := "on", desc := "(ILNameOrchard$Facts;)I" } : Jvm.MethodName) ({ cls := "NameOrchard$Link", name := "on", desc := "(ILNameOrchard$Facts;)I" } : Jvm.MethodName)) ∈ lw_all := lw_g (lw_at lw_m6 43 rfl) rfl
theorem q1380 : (Jvm.Cond.selects "NameOrchard$Less" ({ cls := "NameOrchard$Link", name := "with", desc := "(II)I" } : Jvm.MethodName) ({ cls := "NameOrchard$Less", name := "with", desc := "(II)I" } : Jvm.MethodName)) ∈ lw_all := lw_g (lw_at lw_m6 57 rfl) rfl
theorem q1381 : (Jvm.Cond.instanceMethod ({ cls := "NameOrchard$Less", name := "with", desc := "(II)I" } : Jvm.MethodName)) ∈ lw_all := lw_g (lw_at lw_m6 58 rfl) rfl
theorem q1382 : (Jvm.Cond.code ({ cls := "NameOrchard$Less", name := "with", desc := "(II)I" } : Jvm.MethodName) prog_13_method_2_code (3 : Nat) (Option.some Jvm.ClassFile.FieldType.int)) ∈ lw_all := lw_g (lw_at lw_m6 59 rfl) rfl
theorem q2592 : (Jvm.Cond.castable "NameOrchard$Less" "NameOrchard$Link") ∈ lw_tbl := lw_at lw_m11 69 rfl
theorem q2628 : (Jvm.Cond.castable "NameOrchard$Less" "java/lang/Object") ∈ lw_tbl := lw_at lw_m11 105 rfl
theorem in_X26 : ∀ w ∈ wsX260, w ∈ lw_all := lw_in wsX260 [1221] (by decide +kernel) (by decide +kernel)
/-! NameOrchard$Same -/
set_option maxRecDepth 100000
def RX27 : String := "NameOrchard$Same"
def TX27 : u_T := fun k => match k with
  | _ => ("NameOrchard$Link", "e", "LNameOrchard$Expression;", true)
def tyX27 : Nat → FieldType := fun k => match k with
  | _ => .object "NameOrchard$Expression"
abbrev wsX270 : List Cond := u_ws RX27 TX27 1
theorem nmX27 : ∀ a, a < 1 → ∀ b, b < 1 → a ≠ b → (TX27 a).2.1 ≠ (TX27 b).2.1 := by decide +kernel
theorem tyX27_ok : ∀ k, k < 1 → parseFieldDescriptor (TX27 k).2.2.1 = some (tyX27 k) := by decide +kernel
abbrev cX27_init : ByteArray := prog_28_method_1_code
def yX27_init : MethodName := ⟨RX27, "<init>", "(LNameOrchard$Expression;)V"⟩
def dkwX27_init_0 : List UInt8 := [42, 43, 183, 0, 1, 177]
abbrev dktX27_init_0 : List UInt8 := dkwX27_init_0 ++ []
theorem dksX27_init_0 : cX27_init.data.toList.drop 0 = dktX27_init_0 := by decide +kernel
theorem dX27_init_0 : decode cX27_init 0 = .ok (.aload_n 0, 1) := dk_42 (dk_at dksX27_init_0 0 rfl rfl)
theorem dX27_init_1 : decode cX27_init 1 = .ok (.aload_n 1, 1) := dk_43 (dk_at dksX27_init_0 1 rfl rfl)
theorem dX27_init_2 : decode cX27_init 2 = .ok (.invokespecial 1, 3) := dk_183 0 1 (dk_at dksX27_init_0 2 rfl rfl)
theorem dX27_init_5 : decode cX27_init 5 = .ok (.return_, 1) := dk_177 (dk_at dksX27_init_0 5 rfl rfl)
abbrev cX27_with : ByteArray := prog_28_method_2_code
def yX27_with : MethodName := ⟨RX27, "with", "(II)I"⟩
def dkwX27_with_0 : List UInt8 := [27, 28, 160, 0, 7, 4, 167, 0, 4, 3, 172]
abbrev dktX27_with_0 : List UInt8 := dkwX27_with_0 ++ []
theorem dksX27_with_0 : cX27_with.data.toList.drop 0 = dktX27_with_0 := by decide +kernel
theorem dX27_with_0 : decode cX27_with 0 = .ok (.iload_n 1, 1) := dk_27 (dk_at dksX27_with_0 0 rfl rfl)
theorem dX27_with_1 : decode cX27_with 1 = .ok (.iload_n 2, 1) := dk_28 (dk_at dksX27_with_0 1 rfl rfl)
theorem dX27_with_2 : decode cX27_with 2 = .ok (.if_icmp .ne 7, 3) := dk_160 0 7 (dk_at dksX27_with_0 2 rfl rfl)
theorem dX27_with_5 : decode cX27_with 5 = .ok (.iconst 1, 1) := dk_4 (dk_at dksX27_with_0 5 rfl rfl)
theorem dX27_with_6 : decode cX27_with 6 = .ok (.goto 4, 3) := dk_167 0 4 (dk_at dksX27_with_0 6 rfl rfl)
theorem dX27_with_9 : decode cX27_with 9 = .ok (.iconst 0, 1) := dk_3 (dk_at dksX27_with_0 9 rfl rfl)
theorem dX27_with_10 : decode cX27_with 10 = .ok (.ireturn, 1) := dk_172 (dk_at dksX27_with_0 10 rfl rfl)
theorem q168 : (Jvm.Cond.initialized "NameOrchard$Same") ∈ lw_all := lw_g (lw_at lw_m1 45 rfl) rfl
theorem q958 : (Jvm.Cond.selects "NameOrchard$Same" ({ cls := "java/lang/Object", name := "getClass", desc := "()Ljava/lang/Class;" } : Jvm.MethodName) ({ cls := "java/lang/Object", name := "getClass", desc := "()Ljava/lang/Class;" } : Jvm.MethodName)) ∈ lw_all := lw_g (lw_at lw_m4 115 rfl) rfl
theorem q1224 : (Jvm.Cond.instantiable "NameOrchard$Same" (1 : Nat)) ∈ lw_all := lw_g (lw_at lw_m5 141 rfl) rfl
theorem q1226 : (Jvm.Cond.instanceMethod ({ cls := "NameOrchard$Same", name := "<init>", desc := "(LNameOrchard$Expression;)V" } : Jvm.MethodName)) ∈ lw_all := lw_g (lw_at lw_m5 143 rfl) rfl
theorem q1227 : (Jvm.Cond.code ({ cls := "NameOrchard$Same", name := "<init>", desc := "(LNameOrchard$Expression;)V" } : Jvm.MethodName) prog_28_method_1_code (2 : Nat) (Option.none : Option Jvm.ClassFile.FieldType)) ∈ lw_all := lw_g (lw_at lw_m5 144 rfl) rfl
theorem q1228 : (Jvm.Cond.methodLink "NameOrchard$Same" (1 : Nat) ({ cls := "NameOrchard$Link", name := "<init>", desc := "(LNameOrchard$Expression;)V" } : Jvm.MethodName)) ∈ lw_all := lw_g (lw_at lw_m5 145 rfl) rfl
theorem q1229 : (Jvm.Cond.laysFinal "NameOrchard$Same" "NameOrchard$Link" "e" "LNameOrchard$Expression;") ∈ lw_all := lw_g (lw_at lw_m5 146 rfl) rfl
theorem q1230 : (Jvm.Cond.superclass "NameOrchard$Same" "NameOrchard$Link") ∈ lw_all := lw_g (lw_at lw_m5 147 rfl) rfl
theorem q1370 : (Jvm.Cond.selects "NameOrchard$Same" ({ cls := "NameOrchard$Link", name := "on", desc := "(ILNameOrchard$Facts;)I" } : Jvm.MethodName) ({ cls := "NameOrchard$Link", name := "on", desc := "(ILNameOrchard$Facts;)I" } : Jvm.MethodName)) ∈ lw_all := lw_g (lw_at lw_m6 47 rfl) rfl
theorem q1392 : (Jvm.Cond.selects "NameOrchard$Same" ({ cls := "NameOrchard$Link", name := "with", desc := "(II)I" } : Jvm.MethodName) ({ cls := "NameOrchard$Same", name := "with", desc := "(II)I" } : Jvm.MethodName)) ∈ lw_all := lw_g (lw_at lw_m6 69 rfl) rfl
theorem q1393 : (Jvm.Cond.instanceMethod ({ cls := "NameOrchard$Same", name := "with", desc := "(II)I" } : Jvm.MethodName)) ∈ lw_all := lw_g (lw_at lw_m6 70 rfl) rfl
theorem q1394 : (Jvm.Cond.code ({ cls := "NameOrchard$Same", name := "with", desc := "(II)I" } : Jvm.MethodName) prog_28_method_2_code (3 : Nat) (Option.some Jvm.ClassFile.FieldType.int)) ∈ lw_all := lw_g (lw_at lw_m6 71 rfl) rfl
theorem q2596 : (Jvm.Cond.castable "NameOrchard$Same" "NameOrchard$Link") ∈ lw_tbl := lw_at lw_m11 73 rfl
theorem q2629 : (Jvm.Cond.castable "NameOrchard$Same" "java/lang/Object") ∈ lw_tbl := lw_at lw_m11 106 rfl
theorem in_X27 : ∀ w ∈ wsX270, w ∈ lw_all := lw_in wsX270 [1229] (by decide +kernel) (by decide +kernel)
/-! NameOrchard$And -/
set_option maxRecDepth 100000
def RX28 : String := "NameOrchard$And"
def TX28 : u_T := fun k => match k with
  | _ => ("NameOrchard$Link", "e", "LNameOrchard$Expression;", true)
def tyX28 : Nat → FieldType := fun k => match k with
  | _ => .object "NameOrchard$Expression"
abbrev wsX280 : List Cond := u_ws RX28 TX28 1
theorem nmX28 : ∀ a, a < 1 → ∀ b, b < 1 → a ≠ b → (TX28 a).2.1 ≠ (TX28 b).2.1 := by decide +kernel
theorem tyX28_ok : ∀ k, k < 1 → parseFieldDescriptor (TX28 k).2.2.1 = some (tyX28 k) := by decide +kernel
abbrev cX28_init : ByteArray := prog_3_method_1_code
def yX28_init : MethodName := ⟨RX28, "<init>", "(LNameOrchard$Expression;)V"⟩
def dkwX28_init_0 : List UInt8 := [42, 43, 183, 0, 1, 177]
abbrev dktX28_init_0 : List UInt8 := dkwX28_init_0 ++ []
theorem dksX28_init_0 : cX28_init.data.toList.drop 0 = dktX28_init_0 := by decide +kernel
theorem dX28_init_0 : decode cX28_init 0 = .ok (.aload_n 0, 1) := dk_42 (dk_at dksX28_init_0 0 rfl rfl)
theorem dX28_init_1 : decode cX28_init 1 = .ok (.aload_n 1, 1) := dk_43 (dk_at dksX28_init_0 1 rfl rfl)
theorem dX28_init_2 : decode cX28_init 2 = .ok (.invokespecial 1, 3) := dk_183 0 1 (dk_at dksX28_init_0 2 rfl rfl)
theorem dX28_init_5 : decode cX28_init 5 = .ok (.return_, 1) := dk_177 (dk_at dksX28_init_0 5 rfl rfl)
abbrev cX28_with : ByteArray := prog_3_method_2_code
def yX28_with : MethodName := ⟨RX28, "with", "(II)I"⟩
def dkwX28_with_0 : List UInt8 := [27, 153, 0, 11, 28, 153, 0, 7, 4, 167, 0, 4, 3, 172]
abbrev dktX28_with_0 : List UInt8 := dkwX28_with_0 ++ []
theorem dksX28_with_0 : cX28_with.data.toList.drop 0 = dktX28_with_0 := by decide +kernel
theorem dX28_with_0 : decode cX28_with 0 = .ok (.iload_n 1, 1) := dk_27 (dk_at dksX28_with_0 0 rfl rfl)
theorem dX28_with_1 : decode cX28_with 1 = .ok (.ifCond .eq 11, 3) := dk_153 0 11 (dk_at dksX28_with_0 1 rfl rfl)
theorem dX28_with_4 : decode cX28_with 4 = .ok (.iload_n 2, 1) := dk_28 (dk_at dksX28_with_0 4 rfl rfl)
theorem dX28_with_5 : decode cX28_with 5 = .ok (.ifCond .eq 7, 3) := dk_153 0 7 (dk_at dksX28_with_0 5 rfl rfl)
theorem dX28_with_8 : decode cX28_with 8 = .ok (.iconst 1, 1) := dk_4 (dk_at dksX28_with_0 8 rfl rfl)
theorem dX28_with_9 : decode cX28_with 9 = .ok (.goto 4, 3) := dk_167 0 4 (dk_at dksX28_with_0 9 rfl rfl)
theorem dX28_with_12 : decode cX28_with 12 = .ok (.iconst 0, 1) := dk_3 (dk_at dksX28_with_0 12 rfl rfl)
theorem dX28_with_13 : decode cX28_with 13 = .ok (.ireturn, 1) := dk_172 (dk_at dksX28_with_0 13 rfl rfl)
theorem q169 : (Jvm.Cond.initialized "NameOrchard$And") ∈ lw_all := lw_g (lw_at lw_m1 46 rfl) rfl
theorem q936 : (Jvm.Cond.selects "NameOrchard$And" ({ cls := "java/lang/Object", name := "getClass", desc := "()Ljava/lang/Class;" } : Jvm.MethodName) ({ cls := "java/lang/Object", name := "getClass", desc := "()Ljava/lang/Class;" } : Jvm.MethodName)) ∈ lw_all := lw_g (lw_at lw_m4 93 rfl) rfl
theorem q1232 : (Jvm.Cond.instantiable "NameOrchard$And" (1 : Nat)) ∈ lw_all := lw_g (lw_at lw_m5 149 rfl) rfl
theorem q1234 : (Jvm.Cond.instanceMethod ({ cls := "NameOrchard$And", name := "<init>", desc := "(LNameOrchard$Expression;)V" } : Jvm.MethodName)) ∈ lw_all := lw_g (lw_at lw_m5 151 rfl) rfl
theorem q1235 : (Jvm.Cond.code ({ cls := "NameOrchard$And", name := "<init>", desc := "(LNameOrchard$Expression;)V" } : Jvm.MethodName) prog_3_method_1_code (2 : Nat) (Option.none : Option Jvm.ClassFile.FieldType)) ∈ lw_all := lw_g (lw_at lw_m5 152 rfl) rfl
theorem q1236 : (Jvm.Cond.methodLink "NameOrchard$And" (1 : Nat) ({ cls := "NameOrchard$Link", name := "<init>", desc := "(LNameOrchard$Expression;)V" } : Jvm.MethodName)) ∈ lw_all := lw_g (lw_at lw_m5 153 rfl) rfl
theorem q1237 : (Jvm.Cond.laysFinal "NameOrchard$And" "NameOrchard$Link" "e" "LNameOrchard$Expression;") ∈ lw_all := lw_g (lw_at lw_m5 154 rfl) rfl
theorem q1238 : (Jvm.Cond.superclass "NameOrchard$And" "NameOrchard$Link") ∈ lw_all := lw_g (lw_at lw_m5 155 rfl) rfl
theorem q1365 : (Jvm.Cond.selects "NameOrchard$And" ({ cls := "NameOrchard$Link", name := "on", desc := "(ILNameOrchard$Facts;)I" } : Jvm.MethodName) ({ cls := "NameOrchard$Link", name := "on", desc := "(ILNameOrchard$Facts;)I" } : Jvm.MethodName)) ∈ lw_all := lw_g (lw_at lw_m6 42 rfl) rfl
theorem q1377 : (Jvm.Cond.selects "NameOrchard$And" ({ cls := "NameOrchard$Link", name := "with", desc := "(II)I" } : Jvm.MethodName) ({ cls := "NameOrchard$And", name := "with", desc := "(II)I" } : Jvm.MethodName)) ∈ lw_all := lw_g (lw_at lw_m6 54 rfl) rfl
theorem q1378 : (Jvm.Cond.instanceMethod ({ cls := "NameOrchard$And", name := "with", desc := "(II)I" } : Jvm.MethodName)) ∈ lw_all := lw_g (lw_at lw_m6 55 rfl) rfl
theorem q1379 : (Jvm.Cond.code ({ cls := "NameOrchard$And", name := "with", desc := "(II)I" } : Jvm.MethodName) prog_3_method_2_code (3 : Nat) (Option.some Jvm.ClassFile.FieldType.int)) ∈ lw_all := lw_g (lw_at lw_m6 56 rfl) rfl
theorem q2591 : (Jvm.Cond.castable "NameOrchard$And" "NameOrchard$Link") ∈ lw_tbl := lw_at lw_m11 68 rfl
theorem q2630 : (Jvm.Cond.castable "NameOrchard$And" "java/lang/Object") ∈ lw_tbl := lw_at lw_m11 107 rfl
theorem in_X28 : ∀ w ∈ wsX280, w ∈ lw_all := lw_in wsX280 [1237] (by decide +kernel) (by decide +kernel)
/-! NameOrchard$Or -/
set_option maxRecDepth 100000
def RX29 : String := "NameOrchard$Or"
def TX29 : u_T := fun k => match k with
  | _ => ("NameOrchard$Link", "e", "LNameOrchard$Expression;", true)
def tyX29 : Nat → FieldType := fun k => match k with
  | _ => .object "NameOrchard$Expression"
abbrev wsX290 : List Cond := u_ws RX29 TX29 1
theorem nmX29 : ∀ a, a < 1 → ∀ b, b < 1 → a ≠ b → (TX29 a).2.1 ≠ (TX29 b).2.1 := by decide +kernel
theorem tyX29_ok : ∀ k, k < 1 → parseFieldDescriptor (TX29 k).2.2.1 = some (tyX29 k) := by decide +kernel
abbrev cX29_init : ByteArray := prog_19_method_1_code
def yX29_init : MethodName := ⟨RX29, "<init>", "(LNameOrchard$Expression;)V"⟩
def dkwX29_init_0 : List UInt8 := [42, 43, 183, 0, 1, 177]
abbrev dktX29_init_0 : List UInt8 := dkwX29_init_0 ++ []
theorem dksX29_init_0 : cX29_init.data.toList.drop 0 = dktX29_init_0 := by decide +kernel
theorem dX29_init_0 : decode cX29_init 0 = .ok (.aload_n 0, 1) := dk_42 (dk_at dksX29_init_0 0 rfl rfl)
theorem dX29_init_1 : decode cX29_init 1 = .ok (.aload_n 1, 1) := dk_43 (dk_at dksX29_init_0 1 rfl rfl)
theorem dX29_init_2 : decode cX29_init 2 = .ok (.invokespecial 1, 3) := dk_183 0 1 (dk_at dksX29_init_0 2 rfl rfl)
theorem dX29_init_5 : decode cX29_init 5 = .ok (.return_, 1) := dk_177 (dk_at dksX29_init_0 5 rfl rfl)
abbrev cX29_with : ByteArray := prog_19_method_2_code
def yX29_with : MethodName := ⟨RX29, "with", "(II)I"⟩
def dkwX29_with_0 : List UInt8 := [27, 154, 0, 7, 28, 153, 0, 7, 4, 167, 0, 4, 3, 172]
abbrev dktX29_with_0 : List UInt8 := dkwX29_with_0 ++ []
theorem dksX29_with_0 : cX29_with.data.toList.drop 0 = dktX29_with_0 := by decide +kernel
theorem dX29_with_0 : decode cX29_with 0 = .ok (.iload_n 1, 1) := dk_27 (dk_at dksX29_with_0 0 rfl rfl)
theorem dX29_with_1 : decode cX29_with 1 = .ok (.ifCond .ne 7, 3) := dk_154 0 7 (dk_at dksX29_with_0 1 rfl rfl)
theorem dX29_with_4 : decode cX29_with 4 = .ok (.iload_n 2, 1) := dk_28 (dk_at dksX29_with_0 4 rfl rfl)
theorem dX29_with_5 : decode cX29_with 5 = .ok (.ifCond .eq 7, 3) := dk_153 0 7 (dk_at dksX29_with_0 5 rfl rfl)
theorem dX29_with_8 : decode cX29_with 8 = .ok (.iconst 1, 1) := dk_4 (dk_at dksX29_with_0 8 rfl rfl)
theorem dX29_with_9 : decode cX29_with 9 = .ok (.goto 4, 3) := dk_167 0 4 (dk_at dksX29_with_0 9 rfl rfl)
theorem dX29_with_12 : decode cX29_with 12 = .ok (.iconst 0, 1) := dk_3 (dk_at dksX29_with_0 12 rfl rfl)
theorem dX29_with_13 : decode cX29_with 13 = .ok (.ireturn, 1) := dk_172 (dk_at dksX29_with_0 13 rfl rfl)
theorem q170 : (Jvm.Cond.initialized "NameOrchard$Or") ∈ lw_all := lw_g (lw_at lw_m1 47 rfl) rfl
theorem q949 : (Jvm.Cond.selects "NameOrchard$Or" ({ cls := "java/lang/Object", name := "getClass", desc := "()Ljava/lang/Class;" } : Jvm.MethodName) ({ cls := "java/lang/Object", name := "getClass", desc := "()Ljava/lang/Class;" } : Jvm.MethodName)) ∈ lw_all := lw_g (lw_at lw_m4 106 rfl) rfl
theorem q1240 : (Jvm.Cond.instantiable "NameOrchard$Or" (1 : Nat)) ∈ lw_all := lw_g (lw_at lw_m5 157 rfl) rfl
theorem q1242 : (Jvm.Cond.instanceMethod ({ cls := "NameOrchard$Or", name := "<init>", desc := "(LNameOrchard$Expression;)V" } : Jvm.MethodName)) ∈ lw_all := lw_g (lw_at lw_m5 159 rfl) rfl
theorem q1243 : (Jvm.Cond.code ({ cls := "NameOrchard$Or", name := "<init>", desc := "(LNameOrchard$Expression;)V" } : Jvm.MethodName) prog_19_method_1_code (2 : Nat) (Option.none : Option Jvm.ClassFile.FieldType)) ∈ lw_all := lw_g (lw_at lw_m5 160 rfl) rfl
theorem q1244 : (Jvm.Cond.methodLink "NameOrchard$Or" (1 : Nat) ({ cls := "NameOrchard$Link", name := "<init>", desc := "(LNameOrchard$Expression;)V" } : Jvm.MethodName)) ∈ lw_all := lw_g (lw_at lw_m5 161 rfl) rfl
theorem q1245 : (Jvm.Cond.laysFinal "NameOrchard$Or" "NameOrchard$Link" "e" "LNameOrchard$Expression;") ∈ lw_all := lw_g (lw_at lw_m5 162 rfl) rfl
theorem q1246 : (Jvm.Cond.superclass "NameOrchard$Or" "NameOrchard$Link") ∈ lw_all := lw_g (lw_at lw_m5 163 rfl) rfl
theorem q1368 : (Jvm.Cond.selects "NameOrchard$Or" ({ cls := "NameOrchard$Link", name := "on", desc := "(ILNameOrchard$Facts;)I" } : Jvm.MethodName) ({ cls := "NameOrchard$Link", name := "on", desc := "(ILNameOrchard$Facts;)I" } : Jvm.MethodName)) ∈ lw_all := lw_g (lw_at lw_m6 45 rfl) rfl
theorem q1386 : (Jvm.Cond.selects "NameOrchard$Or" ({ cls := "NameOrchard$Link", name := "with", desc := "(II)I" } : Jvm.MethodName) ({ cls := "NameOrchard$Or", name := "with", desc := "(II)I" } : Jvm.MethodName)) ∈ lw_all := lw_g (lw_at lw_m6 63 rfl) rfl
theorem q1387 : (Jvm.Cond.instanceMethod ({ cls := "NameOrchard$Or", name := "with", desc := "(II)I" } : Jvm.MethodName)) ∈ lw_all := lw_g (lw_at lw_m6 64 rfl) rfl
theorem q1388 : (Jvm.Cond.code ({ cls := "NameOrchard$Or", name := "with", desc := "(II)I" } : Jvm.MethodName) prog_19_method_2_code (3 : Nat) (Option.some Jvm.ClassFile.FieldType.int)) ∈ lw_all := lw_g (lw_at lw_m6 65 rfl) rfl
theorem q2594 : (Jvm.Cond.castable "NameOrchard$Or" "NameOrchard$Link") ∈ lw_tbl := lw_at lw_m11 71 rfl
theorem q2631 : (Jvm.Cond.castable "NameOrchard$Or" "java/lang/Object") ∈ lw_tbl := lw_at lw_m11 108 rfl
theorem in_X29 : ∀ w ∈ wsX290, w ∈ lw_all := lw_in wsX290 [1245] (by decide +kernel) (by decide +kernel)
/-! NameOrchard$Line -/
set_option maxRecDepth 100000
def RX30 : String := "NameOrchard$Line"
abbrev cX30_init : ByteArray := prog_14_method_1_code
def yX30_init : MethodName := ⟨RX30, "<init>", "()V"⟩
theorem dX30_init_0 : decode cX30_init 0 = .ok (.aload_n 0, 1) := by decide +kernel
theorem dX30_init_1 : decode cX30_init 1 = .ok (.invokespecial 1, 3) := by decide +kernel
theorem dX30_init_4 : decode cX30_init 4 = .ok (.return_, 1) := by decide +kernel
theorem q171 : (Jvm.Cond.initialized "NameOrchard$Line") ∈ lw_all := lw_g (lw_at lw_m1 48 rfl) rfl
theorem q1279 : (Jvm.Cond.instanceMethod ({ cls := "NameOrchard$Line", name := "<init>", desc := "()V" } : Jvm.MethodName)) ∈ lw_all := lw_g (lw_at lw_m5 196 rfl) rfl
theorem q1280 : (Jvm.Cond.code ({ cls := "NameOrchard$Line", name := "<init>", desc := "()V" } : Jvm.MethodName) prog_14_method_1_code (1 : Nat) (Option.none : Option Jvm.ClassFile.FieldType)) ∈ lw_all := lw_g (lw_at lw_m5 197 rfl) rfl
theorem q1281 : (Jvm.Cond.methodLink "NameOrchard$Line" (1 : Nat) ({ cls := "java/lang/Object", name := "<init>", desc := "()V" } : Jvm.MethodName)) ∈ lw_all := lw_g (lw_at lw_m5 198 rfl) rfl
theorem q1602 : (Jvm.Cond.declares ({ cls := "NameOrchard$Line", name := "isDone", desc := "(LNameOrchard$Boughs;)Z" } : Jvm.MethodName)) ∈ lw_tbl := lw_at lw_m7 39 rfl
theorem q1603 : (Jvm.Cond.sameMethod "NameOrchard$Line" "NameOrchard$Line" "isDone" "(LNameOrchard$Boughs;)Z") ∈ lw_all := lw_g (lw_at lw_m7 40 rfl) rfl
/-! NameOrchard$Calls -/
set_option maxRecDepth 100000
def RX31 : String := "NameOrchard$Calls"
def TX31 : u_T := fun k => match k with
  | 0 => ("NameOrchard$Calls", "person", "I", true)
  | _ => ("NameOrchard$Calls", "sound", "I", true)
def tyX31 : Nat → FieldType := fun k => match k with
  | 0 => .int
  | _ => .int
abbrev wsX310 : List Cond := u_ws RX31 TX31 2
theorem nmX31 : ∀ a, a < 2 → ∀ b, b < 2 → a ≠ b → (TX31 a).2.1 ≠ (TX31 b).2.1 := by decide +kernel
theorem tyX31_ok : ∀ k, k < 2 → parseFieldDescriptor (TX31 k).2.2.1 = some (tyX31 k) := by decide +kernel
abbrev cX31_init : ByteArray := prog_6_method_1_code
def yX31_init : MethodName := ⟨RX31, "<init>", "(II)V"⟩
def dkwX31_init_0 : List UInt8 := [42, 183, 0, 1, 42, 27, 181, 0, 7, 42, 28, 181, 0, 13, 177]
abbrev dktX31_init_0 : List UInt8 := dkwX31_init_0 ++ []
theorem dksX31_init_0 : cX31_init.data.toList.drop 0 = dktX31_init_0 := by decide +kernel
theorem dX31_init_0 : decode cX31_init 0 = .ok (.aload_n 0, 1) := dk_42 (dk_at dksX31_init_0 0 rfl rfl)
theorem dX31_init_1 : decode cX31_init 1 = .ok (.invokespecial 1, 3) := dk_183 0 1 (dk_at dksX31_init_0 1 rfl rfl)
theorem dX31_init_4 : decode cX31_init 4 = .ok (.aload_n 0, 1) := dk_42 (dk_at dksX31_init_0 4 rfl rfl)
theorem dX31_init_5 : decode cX31_init 5 = .ok (.iload_n 1, 1) := dk_27 (dk_at dksX31_init_0 5 rfl rfl)
theorem dX31_init_6 : decode cX31_init 6 = .ok (.putfield 7, 3) := dk_181 0 7 (dk_at dksX31_init_0 6 rfl rfl)
theorem dX31_init_9 : decode cX31_init 9 = .ok (.aload_n 0, 1) := dk_42 (dk_at dksX31_init_0 9 rfl rfl)
theorem dX31_init_10 : decode cX31_init 10 = .ok (.iload_n 2, 1) := dk_28 (dk_at dksX31_init_0 10 rfl rfl)
theorem dX31_init_11 : decode cX31_init 11 = .ok (.putfield 13, 3) := dk_181 0 13 (dk_at dksX31_init_0 11 rfl rfl)
theorem dX31_init_14 : decode cX31_init 14 = .ok (.return_, 1) := dk_177 (dk_at dksX31_init_0 14 rfl rfl)
abbrev cX31_isDone : ByteArray := prog_6_method_2_code
def yX31_isDone : MethodName := ⟨RX31, "isDone", "(LNameOrchard$Boughs;)Z"⟩
def dkwX31_isDone_1 : List UInt8 := [180, 0, 7, 42, 180, 0, 13, 182, 0, 28, 87, 4, 172]
abbrev dktX31_isDone_1 : List UInt8 := dkwX31_isDone_1 ++ []
def dkwX31_isDone_0 : List UInt8 := [43, 180, 0, 16, 42, 180, 0, 7, 42, 180, 0, 13, 182, 0, 22, 154, 0, 5, 3, 172, 43, 42]
abbrev dktX31_isDone_0 : List UInt8 := dkwX31_isDone_0 ++ dktX31_isDone_1
theorem dksX31_isDone_0 : cX31_isDone.data.toList.drop 0 = dktX31_isDone_0 := by decide +kernel
theorem dksX31_isDone_1 : cX31_isDone.data.toList.drop 22 = dktX31_isDone_1 := dk_seg dksX31_isDone_0 22 rfl rfl
theorem dX31_isDone_0 : decode cX31_isDone 0 = .ok (.aload_n 1, 1) := dk_43 (dk_at dksX31_isDone_0 0 rfl rfl)
theorem dX31_isDone_1 : decode cX31_isDone 1 = .ok (.getfield 16, 3) := dk_180 0 16 (dk_at dksX31_isDone_0 1 rfl rfl)
theorem dX31_isDone_4 : decode cX31_isDone 4 = .ok (.aload_n 0, 1) := dk_42 (dk_at dksX31_isDone_0 4 rfl rfl)
theorem dX31_isDone_5 : decode cX31_isDone 5 = .ok (.getfield 7, 3) := dk_180 0 7 (dk_at dksX31_isDone_0 5 rfl rfl)
theorem dX31_isDone_8 : decode cX31_isDone 8 = .ok (.aload_n 0, 1) := dk_42 (dk_at dksX31_isDone_0 8 rfl rfl)
theorem dX31_isDone_9 : decode cX31_isDone 9 = .ok (.getfield 13, 3) := dk_180 0 13 (dk_at dksX31_isDone_0 9 rfl rfl)
theorem dX31_isDone_12 : decode cX31_isDone 12 = .ok (.invokevirtual 22, 3) := dk_182 0 22 (dk_at dksX31_isDone_0 12 rfl rfl)
theorem dX31_isDone_15 : decode cX31_isDone 15 = .ok (.ifCond .ne 5, 3) := dk_154 0 5 (dk_at dksX31_isDone_0 15 rfl rfl)
theorem dX31_isDone_18 : decode cX31_isDone 18 = .ok (.iconst 0, 1) := dk_3 (dk_at dksX31_isDone_0 18 rfl rfl)
theorem dX31_isDone_19 : decode cX31_isDone 19 = .ok (.ireturn, 1) := dk_172 (dk_at dksX31_isDone_0 19 rfl rfl)
theorem dX31_isDone_20 : decode cX31_isDone 20 = .ok (.aload_n 1, 1) := dk_43 (dk_at dksX31_isDone_0 20 rfl rfl)
theorem dX31_isDone_21 : decode cX31_isDone 21 = .ok (.aload_n 0, 1) := dk_42 (dk_at dksX31_isDone_0 21 rfl rfl)
theorem dX31_isDone_22 : decode cX31_isDone 22 = .ok (.getfield 7, 3) := dk_180 0 7 (dk_at dksX31_isDone_1 0 rfl rfl)
theorem dX31_isDone_25 : decode cX31_isDone 25 = .ok (.aload_n 0, 1) := dk_42 (dk_at dksX31_isDone_1 3 rfl rfl)
theorem dX31_isDone_26 : decode cX31_isDone 26 = .ok (.getfield 13, 3) := dk_180 0 13 (dk_at dksX31_isDone_1 4 rfl rfl)
theorem dX31_isDone_29 : decode cX31_isDone 29 = .ok (.invokevirtual 28, 3) := dk_182 0 28 (dk_at dksX31_isDone_1 7 rfl rfl)
theorem dX31_isDone_32 : decode cX31_isDone 32 = .ok (.pop, 1) := dk_87 (dk_at dksX31_isDone_1 10 rfl rfl)
theorem dX31_isDone_33 : decode cX31_isDone 33 = .ok (.iconst 1, 1) := dk_4 (dk_at dksX31_isDone_1 11 rfl rfl)
theorem dX31_isDone_34 : decode cX31_isDone 34 = .ok (.ireturn, 1) := dk_172 (dk_at dksX31_isDone_1 12 rfl rfl)
theorem q172 : (Jvm.Cond.initialized "NameOrchard$Calls") ∈ lw_all := lw_g (lw_at lw_m1 49 rfl) rfl
theorem q274 : (Jvm.Cond.fieldLink "NameOrchard$Calls" (16 : Nat) "NameOrchard$Boughs" "orchard" "LNameOrchard$Orchard;") ∈ lw_all := lw_g (lw_at lw_m1 151 rfl) rfl
theorem q939 : (Jvm.Cond.selects "NameOrchard$Calls" ({ cls := "java/lang/Object", name := "getClass", desc := "()Ljava/lang/Class;" } : Jvm.MethodName) ({ cls := "java/lang/Object", name := "getClass", desc := "()Ljava/lang/Class;" } : Jvm.MethodName)) ∈ lw_all := lw_g (lw_at lw_m4 96 rfl) rfl
theorem q1274 : (Jvm.Cond.instantiable "NameOrchard$Calls" (2 : Nat)) ∈ lw_all := lw_g (lw_at lw_m5 191 rfl) rfl
theorem q1276 : (Jvm.Cond.instanceMethod ({ cls := "NameOrchard$Calls", name := "<init>", desc := "(II)V" } : Jvm.MethodName)) ∈ lw_all := lw_g (lw_at lw_m5 193 rfl) rfl
theorem q1277 : (Jvm.Cond.code ({ cls := "NameOrchard$Calls", name := "<init>", desc := "(II)V" } : Jvm.MethodName) prog_6_method_1_code (3 : Nat) (Option.none : Option Jvm.ClassFile.FieldType)) ∈ lw_all := lw_g (lw_at lw_m5 194 rfl) rfl
theorem q1278 : (Jvm.Cond.methodLinkNest "NameOrchard$Calls" (1 : Nat) ({ cls := "NameOrchard$Line", name := "<init>", desc := "()V" } : Jvm.MethodName) "NameOrchard") ∈ lw_tbl := lw_at lw_m5 195 rfl
theorem q1282 : (Jvm.Cond.fieldLink "NameOrchard$Calls" (7 : Nat) "NameOrchard$Calls" "person" "I") ∈ lw_all := lw_g (lw_at lw_m5 199 rfl) rfl
theorem q1283 : (Jvm.Cond.fieldLink "NameOrchard$Calls" (13 : Nat) "NameOrchard$Calls" "sound" "I") ∈ lw_all := lw_g (lw_at lw_m5 200 rfl) rfl
theorem q1284 : (Jvm.Cond.laysFinal "NameOrchard$Calls" "NameOrchard$Calls" "person" "I") ∈ lw_all := lw_g (lw_at lw_m5 201 rfl) rfl
theorem q1285 : (Jvm.Cond.soleField "NameOrchard$Calls" "person") ∈ lw_all := lw_g (lw_at lw_m5 202 rfl) rfl
theorem q1286 : (Jvm.Cond.laysFinal "NameOrchard$Calls" "NameOrchard$Calls" "sound" "I") ∈ lw_all := lw_g (lw_at lw_m5 203 rfl) rfl
theorem q1287 : (Jvm.Cond.soleField "NameOrchard$Calls" "sound") ∈ lw_all := lw_g (lw_at lw_m5 204 rfl) rfl
theorem q1288 : (Jvm.Cond.superclass "NameOrchard$Calls" "NameOrchard$Line") ∈ lw_all := lw_g (lw_at lw_m5 205 rfl) rfl
theorem q1604 : (Jvm.Cond.selects "NameOrchard$Calls" ({ cls := "NameOrchard$Line", name := "isDone", desc := "(LNameOrchard$Boughs;)Z" } : Jvm.MethodName) ({ cls := "NameOrchard$Calls", name := "isDone", desc := "(LNameOrchard$Boughs;)Z" } : Jvm.MethodName)) ∈ lw_all := lw_g (lw_at lw_m7 41 rfl) rfl
theorem q1605 : (Jvm.Cond.instanceMethod ({ cls := "NameOrchard$Calls", name := "isDone", desc := "(LNameOrchard$Boughs;)Z" } : Jvm.MethodName)) ∈ lw_all := lw_g (lw_at lw_m7 42 rfl) rfl
theorem q1606 : (Jvm.Cond.code ({ cls := "NameOrchard$Calls", name := "isDone", desc := "(LNameOrchard$Boughs;)Z" } : Jvm.MethodName) prog_6_method_2_code (2 : Nat) (Option.some Jvm.ClassFile.FieldType.boolean)) ∈ lw_all := lw_g (lw_at lw_m7 43 rfl) rfl
theorem q1607 : (Jvm.Cond.methodLink "NameOrchard$Calls" (22 : Nat) ({ cls := "NameOrchard$Orchard", name := "says", desc := "(II)Z" } : Jvm.MethodName)) ∈ lw_all := lw_g (lw_at lw_m7 44 rfl) rfl
theorem q1608 : (Jvm.Cond.methodLink "NameOrchard$Calls" (28 : Nat) ({ cls := "NameOrchard$Boughs", name := "calledBy", desc := "(II)I" } : Jvm.MethodName)) ∈ lw_all := lw_g (lw_at lw_m7 45 rfl) rfl
theorem q2598 : (Jvm.Cond.castable "NameOrchard$Calls" "NameOrchard$Line") ∈ lw_tbl := lw_at lw_m11 75 rfl
theorem q2632 : (Jvm.Cond.castable "NameOrchard$Calls" "java/lang/Object") ∈ lw_tbl := lw_at lw_m11 109 rfl
theorem in_X31 : ∀ w ∈ wsX310, w ∈ lw_all := lw_in wsX310 [1284, 1286] (by decide +kernel) (by decide +kernel)
/-! NameOrchard$Picks -/
set_option maxRecDepth 100000
def RX32 : String := "NameOrchard$Picks"
def TX32 : u_T := fun k => match k with
  | _ => ("NameOrchard$Picks", "apple", "I", true)
def tyX32 : Nat → FieldType := fun k => match k with
  | _ => .int
abbrev wsX320 : List Cond := u_ws RX32 TX32 1
theorem nmX32 : ∀ a, a < 1 → ∀ b, b < 1 → a ≠ b → (TX32 a).2.1 ≠ (TX32 b).2.1 := by decide +kernel
theorem tyX32_ok : ∀ k, k < 1 → parseFieldDescriptor (TX32 k).2.2.1 = some (tyX32 k) := by decide +kernel
abbrev cX32_init : ByteArray := prog_23_method_1_code
def yX32_init : MethodName := ⟨RX32, "<init>", "(I)V"⟩
def dkwX32_init_0 : List UInt8 := [42, 183, 0, 1, 42, 27, 181, 0, 7, 177]
abbrev dktX32_init_0 : List UInt8 := dkwX32_init_0 ++ []
theorem dksX32_init_0 : cX32_init.data.toList.drop 0 = dktX32_init_0 := by decide +kernel
theorem dX32_init_0 : decode cX32_init 0 = .ok (.aload_n 0, 1) := dk_42 (dk_at dksX32_init_0 0 rfl rfl)
theorem dX32_init_1 : decode cX32_init 1 = .ok (.invokespecial 1, 3) := dk_183 0 1 (dk_at dksX32_init_0 1 rfl rfl)
theorem dX32_init_4 : decode cX32_init 4 = .ok (.aload_n 0, 1) := dk_42 (dk_at dksX32_init_0 4 rfl rfl)
theorem dX32_init_5 : decode cX32_init 5 = .ok (.iload_n 1, 1) := dk_27 (dk_at dksX32_init_0 5 rfl rfl)
theorem dX32_init_6 : decode cX32_init 6 = .ok (.putfield 7, 3) := dk_181 0 7 (dk_at dksX32_init_0 6 rfl rfl)
theorem dX32_init_9 : decode cX32_init 9 = .ok (.return_, 1) := dk_177 (dk_at dksX32_init_0 9 rfl rfl)
abbrev cX32_isDone : ByteArray := prog_23_method_2_code
def yX32_isDone : MethodName := ⟨RX32, "isDone", "(LNameOrchard$Boughs;)Z"⟩
def dkwX32_isDone_0 : List UInt8 := [43, 42, 180, 0, 7, 182, 0, 13, 154, 0, 5, 3, 172, 43, 42, 180, 0, 7, 182, 0, 19, 87, 4, 172]
abbrev dktX32_isDone_0 : List UInt8 := dkwX32_isDone_0 ++ []
theorem dksX32_isDone_0 : cX32_isDone.data.toList.drop 0 = dktX32_isDone_0 := by decide +kernel
theorem dX32_isDone_0 : decode cX32_isDone 0 = .ok (.aload_n 1, 1) := dk_43 (dk_at dksX32_isDone_0 0 rfl rfl)
theorem dX32_isDone_1 : decode cX32_isDone 1 = .ok (.aload_n 0, 1) := dk_42 (dk_at dksX32_isDone_0 1 rfl rfl)
theorem dX32_isDone_2 : decode cX32_isDone 2 = .ok (.getfield 7, 3) := dk_180 0 7 (dk_at dksX32_isDone_0 2 rfl rfl)
theorem dX32_isDone_5 : decode cX32_isDone 5 = .ok (.invokevirtual 13, 3) := dk_182 0 13 (dk_at dksX32_isDone_0 5 rfl rfl)
theorem dX32_isDone_8 : decode cX32_isDone 8 = .ok (.ifCond .ne 5, 3) := dk_154 0 5 (dk_at dksX32_isDone_0 8 rfl rfl)
theorem dX32_isDone_11 : decode cX32_isDone 11 = .ok (.iconst 0, 1) := dk_3 (dk_at dksX32_isDone_0 11 rfl rfl)
theorem dX32_isDone_12 : decode cX32_isDone 12 = .ok (.ireturn, 1) := dk_172 (dk_at dksX32_isDone_0 12 rfl rfl)
theorem dX32_isDone_13 : decode cX32_isDone 13 = .ok (.aload_n 1, 1) := dk_43 (dk_at dksX32_isDone_0 13 rfl rfl)
theorem dX32_isDone_14 : decode cX32_isDone 14 = .ok (.aload_n 0, 1) := dk_42 (dk_at dksX32_isDone_0 14 rfl rfl)
theorem dX32_isDone_15 : decode cX32_isDone 15 = .ok (.getfield 7, 3) := dk_180 0 7 (dk_at dksX32_isDone_0 15 rfl rfl)
theorem dX32_isDone_18 : decode cX32_isDone 18 = .ok (.invokevirtual 19, 3) := dk_182 0 19 (dk_at dksX32_isDone_0 18 rfl rfl)
theorem dX32_isDone_21 : decode cX32_isDone 21 = .ok (.pop, 1) := dk_87 (dk_at dksX32_isDone_0 21 rfl rfl)
theorem dX32_isDone_22 : decode cX32_isDone 22 = .ok (.iconst 1, 1) := dk_4 (dk_at dksX32_isDone_0 22 rfl rfl)
theorem dX32_isDone_23 : decode cX32_isDone 23 = .ok (.ireturn, 1) := dk_172 (dk_at dksX32_isDone_0 23 rfl rfl)
theorem q173 : (Jvm.Cond.initialized "NameOrchard$Picks") ∈ lw_all := lw_g (lw_at lw_m1 50 rfl) rfl
theorem q953 : (Jvm.Cond.selects "NameOrchard$Picks" ({ cls := "java/lang/Object", name := "getClass", desc := "()Ljava/lang/Class;" } : Jvm.MethodName) ({ cls := "java/lang/Object", name := "getClass", desc := "()Ljava/lang/Class;" } : Jvm.MethodName)) ∈ lw_all := lw_g (lw_at lw_m4 110 rfl) rfl
theorem q1290 : (Jvm.Cond.instantiable "NameOrchard$Picks" (1 : Nat)) ∈ lw_all := lw_g (lw_at lw_m5 207 rfl) rfl
theorem q1292 : (Jvm.Cond.instanceMethod ({ cls := "NameOrchard$Picks", name := "<init>", desc := "(I)V" } : Jvm.MethodName)) ∈ lw_all := lw_g (lw_at lw_m5 209 rfl) rfl
theorem q1293 : (Jvm.Cond.code ({ cls := "NameOrchard$Picks", name := "<init>", desc := "(I)V" } : Jvm.MethodName) prog_23_method_1_code (2 : Nat) (Option.none : Option Jvm.ClassFile.FieldType)) ∈ lw_all := lw_g (lw_at lw_m5 210 rfl) rfl
theorem q1294 : (Jvm.Cond.methodLinkNest "NameOrchard$Picks" (1 : Nat) ({ cls := "NameOrchard$Line", name := "<init>", desc := "()V" } : Jvm.MethodName) "NameOrchard") ∈ lw_tbl := lw_at lw_m5 211 rfl
theorem q1295 : (Jvm.Cond.fieldLink "NameOrchard$Picks" (7 : Nat) "NameOrchard$Picks" "apple" "I") ∈ lw_all := lw_g (lw_at lw_m5 212 rfl) rfl
theorem q1296 : (Jvm.Cond.laysFinal "NameOrchard$Picks" "NameOrchard$Picks" "apple" "I") ∈ lw_all := lw_g (lw_at lw_m5 213 rfl) rfl
theorem q1297 : (Jvm.Cond.soleField "NameOrchard$Picks" "apple") ∈ lw_all := lw_g (lw_at lw_m5 214 rfl) rfl
theorem q1298 : (Jvm.Cond.superclass "NameOrchard$Picks" "NameOrchard$Line") ∈ lw_all := lw_g (lw_at lw_m5 215 rfl) rfl
theorem q1613 : (Jvm.Cond.selects "NameOrchard$Picks" ({ cls := "NameOrchard$Line", name := "isDone", desc := "(LNameOrchard$Boughs;)Z" } : Jvm.MethodName) ({ cls := "NameOrchard$Picks", name := "isDone", desc := "(LNameOrchard$Boughs;)Z" } : Jvm.MethodName)) ∈ lw_all := lw_g (lw_at lw_m7 50 rfl) rfl
theorem q1614 : (Jvm.Cond.instanceMethod ({ cls := "NameOrchard$Picks", name := "isDone", desc := "(LNameOrchard$Boughs;)Z" } : Jvm.MethodName)) ∈ lw_all := lw_g (lw_at lw_m7 51 rfl) rfl
theorem q1615 : (Jvm.Cond.code ({ cls := "NameOrchard$Picks", name := "isDone", desc := "(LNameOrchard$Boughs;)Z" } : Jvm.MethodName) prog_23_method_2_code (2 : Nat) (Option.some Jvm.ClassFile.FieldType.boolean)) ∈ lw_all := lw_g (lw_at lw_m7 52 rfl) rfl
theorem q1616 : (Jvm.Cond.methodLink "NameOrchard$Picks" (13 : Nat) ({ cls := "NameOrchard$Boughs", name := "mayPick", desc := "(I)Z" } : Jvm.MethodName)) ∈ lw_all := lw_g (lw_at lw_m7 53 rfl) rfl
theorem q1617 : (Jvm.Cond.methodLink "NameOrchard$Picks" (19 : Nat) ({ cls := "NameOrchard$Boughs", name := "picks", desc := "(I)I" } : Jvm.MethodName)) ∈ lw_all := lw_g (lw_at lw_m7 54 rfl) rfl
theorem q2600 : (Jvm.Cond.castable "NameOrchard$Picks" "NameOrchard$Line") ∈ lw_tbl := lw_at lw_m11 77 rfl
theorem q2633 : (Jvm.Cond.castable "NameOrchard$Picks" "java/lang/Object") ∈ lw_tbl := lw_at lw_m11 110 rfl
theorem in_X32 : ∀ w ∈ wsX320, w ∈ lw_all := lw_in wsX320 [1296] (by decide +kernel) (by decide +kernel)
/-! NameOrchard$Passes -/
set_option maxRecDepth 100000
def RX33 : String := "NameOrchard$Passes"
abbrev cX33_init : ByteArray := prog_21_method_1_code
def yX33_init : MethodName := ⟨RX33, "<init>", "()V"⟩
theorem dX33_init_0 : decode cX33_init 0 = .ok (.aload_n 0, 1) := by decide +kernel
theorem dX33_init_1 : decode cX33_init 1 = .ok (.invokespecial 1, 3) := by decide +kernel
theorem dX33_init_4 : decode cX33_init 4 = .ok (.return_, 1) := by decide +kernel
abbrev cX33_isDone : ByteArray := prog_21_method_2_code
def yX33_isDone : MethodName := ⟨RX33, "isDone", "(LNameOrchard$Boughs;)Z"⟩
def dkwX33_isDone_0 : List UInt8 := [43, 182, 0, 7, 4, 172]
abbrev dktX33_isDone_0 : List UInt8 := dkwX33_isDone_0 ++ []
theorem dksX33_isDone_0 : cX33_isDone.data.toList.drop 0 = dktX33_isDone_0 := by decide +kernel
theorem dX33_isDone_0 : decode cX33_isDone 0 = .ok (.aload_n 1, 1) := dk_43 (dk_at dksX33_isDone_0 0 rfl rfl)
theorem dX33_isDone_1 : decode cX33_isDone 1 = .ok (.invokevirtual 7, 3) := dk_182 0 7 (dk_at dksX33_isDone_0 1 rfl rfl)
theorem dX33_isDone_4 : decode cX33_isDone 4 = .ok (.iconst 1, 1) := dk_4 (dk_at dksX33_isDone_0 4 rfl rfl)
theorem dX33_isDone_5 : decode cX33_isDone 5 = .ok (.ireturn, 1) := dk_172 (dk_at dksX33_isDone_0 5 rfl rfl)
theorem q174 : (Jvm.Cond.initialized "NameOrchard$Passes") ∈ lw_all := lw_g (lw_at lw_m1 51 rfl) rfl
theorem q951 : (Jvm.Cond.selects "NameOrchard$Passes" ({ cls := "java/lang/Object", name := "getClass", desc := "()Ljava/lang/Class;" } : Jvm.MethodName) ({ cls := "java/lang/Object", name := "getClass", desc := "()Ljava/lang/Class;" } : Jvm.MethodName)) ∈ lw_all := lw_g (lw_at lw_m4 108 rfl) rfl
theorem q1300 : (Jvm.Cond.instantiable "NameOrchard$Passes" (0 : Nat)) ∈ lw_all := lw_g (lw_at lw_m5 217 rfl) rfl
theorem q1302 : (Jvm.Cond.instanceMethod ({ cls := "NameOrchard$Passes", name := "<init>", desc := "()V" } : Jvm.MethodName)) ∈ lw_all := lw_g (lw_at lw_m5 219 rfl) rfl
theorem q1303 : (Jvm.Cond.code ({ cls := "NameOrchard$Passes", name := "<init>", desc := "()V" } : Jvm.MethodName) prog_21_method_1_code (1 : Nat) (Option.none : Option Jvm.ClassFile.FieldType)) ∈ lw_all := lw_g (lw_at lw_m5 220 rfl) rfl
theorem q1304 : (Jvm.Cond.methodLinkNest "NameOrchard$Passes" (1 : Nat) ({ cls := "NameOrchard$Line", name := "<init>", desc := "()V" } : Jvm.MethodName) "NameOrchard") ∈ lw_tbl := lw_at lw_m5 221 rfl
theorem q1305 : (Jvm.Cond.superclass "NameOrchard$Passes" "NameOrchard$Line") ∈ lw_all := lw_g (lw_at lw_m5 222 rfl) rfl
theorem q1609 : (Jvm.Cond.selects "NameOrchard$Passes" ({ cls := "NameOrchard$Line", name := "isDone", desc := "(LNameOrchard$Boughs;)Z" } : Jvm.MethodName) ({ cls := "NameOrchard$Passes", name := "isDone", desc := "(LNameOrchard$Boughs;)Z" } : Jvm.MethodName)) ∈ lw_all := lw_g (lw_at lw_m7 46 rfl) rfl
theorem q1610 : (Jvm.Cond.instanceMethod ({ cls := "NameOrchard$Passes", name := "isDone", desc := "(LNameOrchard$Boughs;)Z" } : Jvm.MethodName)) ∈ lw_all := lw_g (lw_at lw_m7 47 rfl) rfl
theorem q1611 : (Jvm.Cond.code ({ cls := "NameOrchard$Passes", name := "isDone", desc := "(LNameOrchard$Boughs;)Z" } : Jvm.MethodName) prog_21_method_2_code (2 : Nat) (Option.some Jvm.ClassFile.FieldType.boolean)) ∈ lw_all := lw_g (lw_at lw_m7 48 rfl) rfl
theorem q1612 : (Jvm.Cond.methodLink "NameOrchard$Passes" (7 : Nat) ({ cls := "NameOrchard$Boughs", name := "passes", desc := "()V" } : Jvm.MethodName)) ∈ lw_all := lw_g (lw_at lw_m7 49 rfl) rfl
theorem q2599 : (Jvm.Cond.castable "NameOrchard$Passes" "NameOrchard$Line") ∈ lw_tbl := lw_at lw_m11 76 rfl
theorem q2634 : (Jvm.Cond.castable "NameOrchard$Passes" "java/lang/Object") ∈ lw_tbl := lw_at lw_m11 111 rfl
/-! NameOrchard$Mark -/
set_option maxRecDepth 100000
def RX34 : String := "NameOrchard$Mark"
def TX34 : u_T := fun k => match k with
  | 0 => ("NameOrchard$Mark", "boughs", "LNameOrchard$Boughs;", true)
  | 1 => ("NameOrchard$Mark", "days", "Ljava/util/ArrayList;", true)
  | 2 => ("NameOrchard$Mark", "lies", "[I", true)
  | _ => ("NameOrchard$Mark", "told", "Ljava/util/ArrayList;", true)
def tyX34 : Nat → FieldType := fun k => match k with
  | 0 => .object "NameOrchard$Boughs"
  | 1 => .object "java/util/ArrayList"
  | 2 => .array .int
  | _ => .object "java/util/ArrayList"
abbrev wsX340 : List Cond := u_ws RX34 TX34 4
theorem nmX34 : ∀ a, a < 4 → ∀ b, b < 4 → a ≠ b → (TX34 a).2.1 ≠ (TX34 b).2.1 := by decide +kernel
theorem tyX34_ok : ∀ k, k < 4 → parseFieldDescriptor (TX34 k).2.2.1 = some (tyX34 k) := by decide +kernel
abbrev cX34_init : ByteArray := prog_16_method_1_code
def yX34_init : MethodName := ⟨RX34, "<init>", "(LNameOrchard$Boughs;Ljava/util/ArrayList;[ILjava/util/ArrayList;)V"⟩
def dkwX34_init_1 : List UInt8 := [181, 0, 21, 177]
abbrev dktX34_init_1 : List UInt8 := dkwX34_init_1 ++ []
def dkwX34_init_0 : List UInt8 := [42, 183, 0, 1, 42, 43, 181, 0, 7, 42, 44, 181, 0, 13, 42, 45, 181, 0, 17, 42, 25, 4]
abbrev dktX34_init_0 : List UInt8 := dkwX34_init_0 ++ dktX34_init_1
theorem dksX34_init_0 : cX34_init.data.toList.drop 0 = dktX34_init_0 := by decide +kernel
theorem dksX34_init_1 : cX34_init.data.toList.drop 22 = dktX34_init_1 := dk_seg dksX34_init_0 22 rfl rfl
theorem dX34_init_0 : decode cX34_init 0 = .ok (.aload_n 0, 1) := dk_42 (dk_at dksX34_init_0 0 rfl rfl)
theorem dX34_init_1 : decode cX34_init 1 = .ok (.invokespecial 1, 3) := dk_183 0 1 (dk_at dksX34_init_0 1 rfl rfl)
theorem dX34_init_4 : decode cX34_init 4 = .ok (.aload_n 0, 1) := dk_42 (dk_at dksX34_init_0 4 rfl rfl)
theorem dX34_init_5 : decode cX34_init 5 = .ok (.aload_n 1, 1) := dk_43 (dk_at dksX34_init_0 5 rfl rfl)
theorem dX34_init_6 : decode cX34_init 6 = .ok (.putfield 7, 3) := dk_181 0 7 (dk_at dksX34_init_0 6 rfl rfl)
theorem dX34_init_9 : decode cX34_init 9 = .ok (.aload_n 0, 1) := dk_42 (dk_at dksX34_init_0 9 rfl rfl)
theorem dX34_init_10 : decode cX34_init 10 = .ok (.aload_n 2, 1) := dk_44 (dk_at dksX34_init_0 10 rfl rfl)
theorem dX34_init_11 : decode cX34_init 11 = .ok (.putfield 13, 3) := dk_181 0 13 (dk_at dksX34_init_0 11 rfl rfl)
theorem dX34_init_14 : decode cX34_init 14 = .ok (.aload_n 0, 1) := dk_42 (dk_at dksX34_init_0 14 rfl rfl)
theorem dX34_init_15 : decode cX34_init 15 = .ok (.aload_n 3, 1) := dk_45 (dk_at dksX34_init_0 15 rfl rfl)
theorem dX34_init_16 : decode cX34_init 16 = .ok (.putfield 17, 3) := dk_181 0 17 (dk_at dksX34_init_0 16 rfl rfl)
theorem dX34_init_19 : decode cX34_init 19 = .ok (.aload_n 0, 1) := dk_42 (dk_at dksX34_init_0 19 rfl rfl)
theorem dX34_init_20 : decode cX34_init 20 = .ok (.aload 4, 2) := dk_25 4 (dk_at dksX34_init_0 20 rfl rfl)
theorem dX34_init_22 : decode cX34_init 22 = .ok (.putfield 21, 3) := dk_181 0 21 (dk_at dksX34_init_1 0 rfl rfl)
theorem dX34_init_25 : decode cX34_init 25 = .ok (.return_, 1) := dk_177 (dk_at dksX34_init_1 3 rfl rfl)
theorem q177 : (Jvm.Cond.initialized "NameOrchard$Mark") ∈ lw_all := lw_g (lw_at lw_m1 54 rfl) rfl
theorem q946 : (Jvm.Cond.selects "NameOrchard$Mark" ({ cls := "java/lang/Object", name := "getClass", desc := "()Ljava/lang/Class;" } : Jvm.MethodName) ({ cls := "java/lang/Object", name := "getClass", desc := "()Ljava/lang/Class;" } : Jvm.MethodName)) ∈ lw_all := lw_g (lw_at lw_m4 103 rfl) rfl
theorem q1791 : (Jvm.Cond.instantiable "NameOrchard$Mark" (4 : Nat)) ∈ lw_all := lw_g (lw_at lw_m7 228 rfl) rfl
theorem q1800 : (Jvm.Cond.instanceMethod ({ cls := "NameOrchard$Mark", name := "<init>", desc := "(LNameOrchard$Boughs;Ljava/util/ArrayList;[ILjava/util/ArrayList;)V" } : Jvm.MethodName)) ∈ lw_all := lw_g (lw_at lw_m7 237 rfl) rfl
theorem q1801 : (Jvm.Cond.code ({ cls := "NameOrchard$Mark", name := "<init>", desc := "(LNameOrchard$Boughs;Ljava/util/ArrayList;[ILjava/util/ArrayList;)V" } : Jvm.MethodName) prog_16_method_1_code (5 : Nat) (Option.none : Option Jvm.ClassFile.FieldType)) ∈ lw_all := lw_g (lw_at lw_m7 238 rfl) rfl
theorem q1802 : (Jvm.Cond.methodLink "NameOrchard$Mark" (1 : Nat) ({ cls := "java/lang/Object", name := "<init>", desc := "()V" } : Jvm.MethodName)) ∈ lw_all := lw_g (lw_at lw_m7 239 rfl) rfl
theorem q1803 : (Jvm.Cond.fieldLink "NameOrchard$Mark" (7 : Nat) "NameOrchard$Mark" "boughs" "LNameOrchard$Boughs;") ∈ lw_all := lw_g (lw_at lw_m8 0 rfl) rfl
theorem q1805 : (Jvm.Cond.fieldLink "NameOrchard$Mark" (13 : Nat) "NameOrchard$Mark" "days" "Ljava/util/ArrayList;") ∈ lw_all := lw_g (lw_at lw_m8 2 rfl) rfl
theorem q1807 : (Jvm.Cond.fieldLink "NameOrchard$Mark" (17 : Nat) "NameOrchard$Mark" "lies" "[I") ∈ lw_all := lw_g (lw_at lw_m8 4 rfl) rfl
theorem q1809 : (Jvm.Cond.fieldLink "NameOrchard$Mark" (21 : Nat) "NameOrchard$Mark" "told" "Ljava/util/ArrayList;") ∈ lw_all := lw_g (lw_at lw_m8 6 rfl) rfl
theorem q1811 : (Jvm.Cond.laysFinal "NameOrchard$Mark" "NameOrchard$Mark" "boughs" "LNameOrchard$Boughs;") ∈ lw_all := lw_g (lw_at lw_m8 8 rfl) rfl
theorem q1812 : (Jvm.Cond.soleField "NameOrchard$Mark" "boughs") ∈ lw_all := lw_g (lw_at lw_m8 9 rfl) rfl
theorem q1813 : (Jvm.Cond.laysFinal "NameOrchard$Mark" "NameOrchard$Mark" "days" "Ljava/util/ArrayList;") ∈ lw_all := lw_g (lw_at lw_m8 10 rfl) rfl
theorem q1814 : (Jvm.Cond.soleField "NameOrchard$Mark" "days") ∈ lw_all := lw_g (lw_at lw_m8 11 rfl) rfl
theorem q1815 : (Jvm.Cond.laysFinal "NameOrchard$Mark" "NameOrchard$Mark" "lies" "[I") ∈ lw_all := lw_g (lw_at lw_m8 12 rfl) rfl
theorem q1816 : (Jvm.Cond.soleField "NameOrchard$Mark" "lies") ∈ lw_all := lw_g (lw_at lw_m8 13 rfl) rfl
theorem q1817 : (Jvm.Cond.laysFinal "NameOrchard$Mark" "NameOrchard$Mark" "told" "Ljava/util/ArrayList;") ∈ lw_all := lw_g (lw_at lw_m8 14 rfl) rfl
theorem q1818 : (Jvm.Cond.soleField "NameOrchard$Mark" "told") ∈ lw_all := lw_g (lw_at lw_m8 15 rfl) rfl
theorem q1819 : (Jvm.Cond.superclass "NameOrchard$Mark" "java/lang/Object") ∈ lw_all := lw_g (lw_at lw_m8 16 rfl) rfl
theorem q2603 : (Jvm.Cond.castable "NameOrchard$Mark" "java/lang/Object") ∈ lw_tbl := lw_at lw_m11 80 rfl
theorem in_X34 : ∀ w ∈ wsX340, w ∈ lw_all := lw_in wsX340 [1811, 1813, 1815, 1817] (by decide +kernel) (by decide +kernel)
