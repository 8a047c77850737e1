/-! NameOrchard -/
set_option maxRecDepth 100000
def RX1 : String := "NameOrchard"
def TX1 : u_T := fun k => match k with
  | 0 => ("NameOrchard", "reader", "LNameOrchard$Reader;", true)
  | 1 => ("NameOrchard", "boughs", "LNameOrchard$Boughs;", false)
  | 2 => ("NameOrchard", "trial", "LNameOrchard$Boughs;", true)
  | 3 => ("NameOrchard", "days", "Ljava/util/ArrayList;", false)
  | 4 => ("NameOrchard", "lies", "[I", false)
  | 5 => ("NameOrchard", "told", "Ljava/util/ArrayList;", false)
  | 6 => ("NameOrchard", "behind", "Ljava/util/ArrayList;", true)
  | 7 => ("NameOrchard", "reach", "LNameOrchard$Reach;", true)
  | 8 => ("NameOrchard", "crops", "LNameOrchard$Crops;", true)
  | 9 => ("NameOrchard", "weeks", "LNameOrchard$Weeks;", true)
  | 10 => ("NameOrchard", "g", "J", false)
  | _ => ("NameOrchard", "marks", "[LNameOrchard$Mark;", true)
def tyX1 : Nat → FieldType := fun k => match k with
  | 0 => .object "NameOrchard$Reader"
  | 1 => .object "NameOrchard$Boughs"
  | 2 => .object "NameOrchard$Boughs"
  | 3 => .object "java/util/ArrayList"
  | 4 => .array .int
  | 5 => .object "java/util/ArrayList"
  | 6 => .object "java/util/ArrayList"
  | 7 => .object "NameOrchard$Reach"
  | 8 => .object "NameOrchard$Crops"
  | 9 => .object "NameOrchard$Weeks"
  | 10 => .long
  | _ => .array (.object "NameOrchard$Mark")
abbrev wsX10 : List Cond := u_ws RX1 TX1 12
theorem nmX1 : ∀ a, a < 12 → ∀ b, b < 12 → a ≠ b → (TX1 a).2.1 ≠ (TX1 b).2.1 := by decide +kernel
theorem tyX1_ok : ∀ k, k < 12 → parseFieldDescriptor (TX1 k).2.2.1 = some (tyX1 k) := by decide +kernel
abbrev cX1_init : ByteArray := prog_1_method_5_code
def yX1_init : MethodName := ⟨RX1, "<init>", "()V"⟩
def dkwX1_init_5 : List UInt8 := [42, 183, 0, 85, 181, 0, 86, 42, 7, 189, 0, 90, 181, 0, 92, 177]
abbrev dktX1_init_5 : List UInt8 := dkwX1_init_5 ++ []
def dkwX1_init_4 : List UInt8 := [42, 183, 0, 69, 181, 0, 72, 42, 187, 0, 76, 89, 42, 183, 0, 78, 181, 0, 79, 42, 187, 0, 83, 89]
abbrev dktX1_init_4 : List UInt8 := dkwX1_init_4 ++ dktX1_init_5
def dkwX1_init_3 : List UInt8 := [89, 5, 183, 0, 49, 181, 0, 60, 42, 187, 0, 47, 89, 183, 0, 63, 181, 0, 64, 42, 187, 0, 67, 89]
abbrev dktX1_init_3 : List UInt8 := dkwX1_init_3 ++ dktX1_init_4
def dkwX1_init_2 : List UInt8 := [42, 187, 0, 47, 89, 5, 183, 0, 49, 181, 0, 52, 42, 16, 10, 188, 10, 181, 0, 56, 42, 187, 0, 47]
abbrev dktX1_init_2 : List UInt8 := dkwX1_init_2 ++ dktX1_init_3
def dkwX1_init_1 : List UInt8 := [187, 0, 33, 89, 183, 0, 35, 182, 0, 36, 181, 0, 40, 42, 187, 0, 30, 89, 183, 0, 32, 181, 0, 44]
abbrev dktX1_init_1 : List UInt8 := dkwX1_init_1 ++ dktX1_init_2
def dkwX1_init_0 : List UInt8 := [42, 183, 0, 18, 42, 187, 0, 23, 89, 183, 0, 25, 181, 0, 26, 42, 187, 0, 30, 89, 183, 0, 32]
abbrev dktX1_init_0 : List UInt8 := dkwX1_init_0 ++ dktX1_init_1
theorem dksX1_init_0 : cX1_init.data.toList.drop 0 = dktX1_init_0 := by decide +kernel
theorem dksX1_init_1 : cX1_init.data.toList.drop 23 = dktX1_init_1 := dk_seg dksX1_init_0 23 rfl rfl
theorem dksX1_init_2 : cX1_init.data.toList.drop 47 = dktX1_init_2 := dk_seg dksX1_init_1 24 rfl rfl
theorem dksX1_init_3 : cX1_init.data.toList.drop 71 = dktX1_init_3 := dk_seg dksX1_init_2 24 rfl rfl
theorem dksX1_init_4 : cX1_init.data.toList.drop 95 = dktX1_init_4 := dk_seg dksX1_init_3 24 rfl rfl
theorem dksX1_init_5 : cX1_init.data.toList.drop 119 = dktX1_init_5 := dk_seg dksX1_init_4 24 rfl rfl
theorem dX1_init_0 : decode cX1_init 0 = .ok (.aload_n 0, 1) := dk_42 (dk_at dksX1_init_0 0 rfl rfl)
theorem dX1_init_1 : decode cX1_init 1 = .ok (.invokespecial 18, 3) := dk_183 0 18 (dk_at dksX1_init_0 1 rfl rfl)
theorem dX1_init_4 : decode cX1_init 4 = .ok (.aload_n 0, 1) := dk_42 (dk_at dksX1_init_0 4 rfl rfl)
theorem dX1_init_5 : decode cX1_init 5 = .ok (.new 23, 3) := dk_187 0 23 (dk_at dksX1_init_0 5 rfl rfl)
theorem dX1_init_8 : decode cX1_init 8 = .ok (.dup, 1) := dk_89 (dk_at dksX1_init_0 8 rfl rfl)
theorem dX1_init_9 : decode cX1_init 9 = .ok (.invokespecial 25, 3) := dk_183 0 25 (dk_at dksX1_init_0 9 rfl rfl)
theorem dX1_init_12 : decode cX1_init 12 = .ok (.putfield 26, 3) := dk_181 0 26 (dk_at dksX1_init_0 12 rfl rfl)
theorem dX1_init_15 : decode cX1_init 15 = .ok (.aload_n 0, 1) := dk_42 (dk_at dksX1_init_0 15 rfl rfl)
theorem dX1_init_16 : decode cX1_init 16 = .ok (.new 30, 3) := dk_187 0 30 (dk_at dksX1_init_0 16 rfl rfl)
theorem dX1_init_19 : decode cX1_init 19 = .ok (.dup, 1) := dk_89 (dk_at dksX1_init_0 19 rfl rfl)
theorem dX1_init_20 : decode cX1_init 20 = .ok (.invokespecial 32, 3) := dk_183 0 32 (dk_at dksX1_init_0 20 rfl rfl)
theorem dX1_init_23 : decode cX1_init 23 = .ok (.new 33, 3) := dk_187 0 33 (dk_at dksX1_init_1 0 rfl rfl)
theorem dX1_init_26 : decode cX1_init 26 = .ok (.dup, 1) := dk_89 (dk_at dksX1_init_1 3 rfl rfl)
theorem dX1_init_27 : decode cX1_init 27 = .ok (.invokespecial 35, 3) := dk_183 0 35 (dk_at dksX1_init_1 4 rfl rfl)
theorem dX1_init_30 : decode cX1_init 30 = .ok (.invokevirtual 36, 3) := dk_182 0 36 (dk_at dksX1_init_1 7 rfl rfl)
theorem dX1_init_33 : decode cX1_init 33 = .ok (.putfield 40, 3) := dk_181 0 40 (dk_at dksX1_init_1 10 rfl rfl)
theorem dX1_init_36 : decode cX1_init 36 = .ok (.aload_n 0, 1) := dk_42 (dk_at dksX1_init_1 13 rfl rfl)
theorem dX1_init_37 : decode cX1_init 37 = .ok (.new 30, 3) := dk_187 0 30 (dk_at dksX1_init_1 14 rfl rfl)
theorem dX1_init_40 : decode cX1_init 40 = .ok (.dup, 1) := dk_89 (dk_at dksX1_init_1 17 rfl rfl)
theorem dX1_init_41 : decode cX1_init 41 = .ok (.invokespecial 32, 3) := dk_183 0 32 (dk_at dksX1_init_1 18 rfl rfl)
theorem dX1_init_44 : decode cX1_init 44 = .ok (.putfield 44, 3) := dk_181 0 44 (dk_at dksX1_init_1 21 rfl rfl)
theorem dX1_init_47 : decode cX1_init 47 = .ok (.aload_n 0, 1) := dk_42 (dk_at dksX1_init_2 0 rfl rfl)
theorem dX1_init_48 : decode cX1_init 48 = .ok (.new 47, 3) := dk_187 0 47 (dk_at dksX1_init_2 1 rfl rfl)
theorem dX1_init_51 : decode cX1_init 51 = .ok (.dup, 1) := dk_89 (dk_at dksX1_init_2 4 rfl rfl)
theorem dX1_init_52 : decode cX1_init 52 = .ok (.iconst 2, 1) := dk_5 (dk_at dksX1_init_2 5 rfl rfl)
theorem dX1_init_53 : decode cX1_init 53 = .ok (.invokespecial 49, 3) := dk_183 0 49 (dk_at dksX1_init_2 6 rfl rfl)
theorem dX1_init_56 : decode cX1_init 56 = .ok (.putfield 52, 3) := dk_181 0 52 (dk_at dksX1_init_2 9 rfl rfl)
theorem dX1_init_59 : decode cX1_init 59 = .ok (.aload_n 0, 1) := dk_42 (dk_at dksX1_init_2 12 rfl rfl)
theorem dX1_init_60 : decode cX1_init 60 = .ok (.bipush 10, 2) := dk_16 10 (dk_at dksX1_init_2 13 rfl rfl)
theorem dX1_init_62 : decode cX1_init 62 = .ok (.newarray .int, 2) := dk_188_10 (dk_at dksX1_init_2 15 rfl rfl)
theorem dX1_init_64 : decode cX1_init 64 = .ok (.putfield 56, 3) := dk_181 0 56 (dk_at dksX1_init_2 17 rfl rfl)
theorem dX1_init_67 : decode cX1_init 67 = .ok (.aload_n 0, 1) := dk_42 (dk_at dksX1_init_2 20 rfl rfl)
theorem dX1_init_68 : decode cX1_init 68 = .ok (.new 47, 3) := dk_187 0 47 (dk_at dksX1_init_2 21 rfl rfl)
theorem dX1_init_71 : decode cX1_init 71 = .ok (.dup, 1) := dk_89 (dk_at dksX1_init_3 0 rfl rfl)
theorem dX1_init_72 : decode cX1_init 72 = .ok (.iconst 2, 1) := dk_5 (dk_at dksX1_init_3 1 rfl rfl)
theorem dX1_init_73 : decode cX1_init 73 = .ok (.invokespecial 49, 3) := dk_183 0 49 (dk_at dksX1_init_3 2 rfl rfl)
theorem dX1_init_76 : decode cX1_init 76 = .ok (.putfield 60, 3) := dk_181 0 60 (dk_at dksX1_init_3 5 rfl rfl)
theorem dX1_init_79 : decode cX1_init 79 = .ok (.aload_n 0, 1) := dk_42 (dk_at dksX1_init_3 8 rfl rfl)
theorem dX1_init_80 : decode cX1_init 80 = .ok (.new 47, 3) := dk_187 0 47 (dk_at dksX1_init_3 9 rfl rfl)
theorem dX1_init_83 : decode cX1_init 83 = .ok (.dup, 1) := dk_89 (dk_at dksX1_init_3 12 rfl rfl)
theorem dX1_init_84 : decode cX1_init 84 = .ok (.invokespecial 63, 3) := dk_183 0 63 (dk_at dksX1_init_3 13 rfl rfl)
theorem dX1_init_87 : decode cX1_init 87 = .ok (.putfield 64, 3) := dk_181 0 64 (dk_at dksX1_init_3 16 rfl rfl)
theorem dX1_init_90 : decode cX1_init 90 = .ok (.aload_n 0, 1) := dk_42 (dk_at dksX1_init_3 19 rfl rfl)
theorem dX1_init_91 : decode cX1_init 91 = .ok (.new 67, 3) := dk_187 0 67 (dk_at dksX1_init_3 20 rfl rfl)
theorem dX1_init_94 : decode cX1_init 94 = .ok (.dup, 1) := dk_89 (dk_at dksX1_init_3 23 rfl rfl)
theorem dX1_init_95 : decode cX1_init 95 = .ok (.aload_n 0, 1) := dk_42 (dk_at dksX1_init_4 0 rfl rfl)
theorem dX1_init_96 : decode cX1_init 96 = .ok (.invokespecial 69, 3) := dk_183 0 69 (dk_at dksX1_init_4 1 rfl rfl)
theorem dX1_init_99 : decode cX1_init 99 = .ok (.putfield 72, 3) := dk_181 0 72 (dk_at dksX1_init_4 4 rfl rfl)
theorem dX1_init_102 : decode cX1_init 102 = .ok (.aload_n 0, 1) := dk_42 (dk_at dksX1_init_4 7 rfl rfl)
theorem dX1_init_103 : decode cX1_init 103 = .ok (.new 76, 3) := dk_187 0 76 (dk_at dksX1_init_4 8 rfl rfl)
theorem dX1_init_106 : decode cX1_init 106 = .ok (.dup, 1) := dk_89 (dk_at dksX1_init_4 11 rfl rfl)
theorem dX1_init_107 : decode cX1_init 107 = .ok (.aload_n 0, 1) := dk_42 (dk_at dksX1_init_4 12 rfl rfl)
theorem dX1_init_108 : decode cX1_init 108 = .ok (.invokespecial 78, 3) := dk_183 0 78 (dk_at dksX1_init_4 13 rfl rfl)
theorem dX1_init_111 : decode cX1_init 111 = .ok (.putfield 79, 3) := dk_181 0 79 (dk_at dksX1_init_4 16 rfl rfl)
theorem dX1_init_114 : decode cX1_init 114 = .ok (.aload_n 0, 1) := dk_42 (dk_at dksX1_init_4 19 rfl rfl)
theorem dX1_init_115 : decode cX1_init 115 = .ok (.new 83, 3) := dk_187 0 83 (dk_at dksX1_init_4 20 rfl rfl)
theorem dX1_init_118 : decode cX1_init 118 = .ok (.dup, 1) := dk_89 (dk_at dksX1_init_4 23 rfl rfl)
theorem dX1_init_119 : decode cX1_init 119 = .ok (.aload_n 0, 1) := dk_42 (dk_at dksX1_init_5 0 rfl rfl)
theorem dX1_init_120 : decode cX1_init 120 = .ok (.invokespecial 85, 3) := dk_183 0 85 (dk_at dksX1_init_5 1 rfl rfl)
theorem dX1_init_123 : decode cX1_init 123 = .ok (.putfield 86, 3) := dk_181 0 86 (dk_at dksX1_init_5 4 rfl rfl)
theorem dX1_init_126 : decode cX1_init 126 = .ok (.aload_n 0, 1) := dk_42 (dk_at dksX1_init_5 7 rfl rfl)
theorem dX1_init_127 : decode cX1_init 127 = .ok (.iconst 4, 1) := dk_7 (dk_at dksX1_init_5 8 rfl rfl)
theorem dX1_init_128 : decode cX1_init 128 = .ok (.anewarray 90, 3) := dk_189 0 90 (dk_at dksX1_init_5 9 rfl rfl)
theorem dX1_init_131 : decode cX1_init 131 = .ok (.putfield 92, 3) := dk_181 0 92 (dk_at dksX1_init_5 12 rfl rfl)
theorem dX1_init_134 : decode cX1_init 134 = .ok (.return_, 1) := dk_177 (dk_at dksX1_init_5 15 rfl rfl)
abbrev cX1_feed : ByteArray := prog_1_method_6_code
def yX1_feed : MethodName := ⟨RX1, "feed", "(JJJ)I"⟩
def dkwX1_feed_1 : List UInt8 := [182, 0, 96, 42, 180, 0, 26, 180, 0, 100, 172]
abbrev dktX1_feed_1 : List UInt8 := dkwX1_feed_1 ++ []
def dkwX1_feed_0 : List UInt8 := [42, 180, 0, 26, 31, 182, 0, 96, 42, 180, 0, 26, 33, 182, 0, 96, 42, 180, 0, 26, 22, 5]
abbrev dktX1_feed_0 : List UInt8 := dkwX1_feed_0 ++ dktX1_feed_1
theorem dksX1_feed_0 : cX1_feed.data.toList.drop 0 = dktX1_feed_0 := by decide +kernel
theorem dksX1_feed_1 : cX1_feed.data.toList.drop 22 = dktX1_feed_1 := dk_seg dksX1_feed_0 22 rfl rfl
theorem dX1_feed_0 : decode cX1_feed 0 = .ok (.aload_n 0, 1) := dk_42 (dk_at dksX1_feed_0 0 rfl rfl)
theorem dX1_feed_1 : decode cX1_feed 1 = .ok (.getfield 26, 3) := dk_180 0 26 (dk_at dksX1_feed_0 1 rfl rfl)
theorem dX1_feed_4 : decode cX1_feed 4 = .ok (.lload_n 1, 1) := dk_31 (dk_at dksX1_feed_0 4 rfl rfl)
theorem dX1_feed_5 : decode cX1_feed 5 = .ok (.invokevirtual 96, 3) := dk_182 0 96 (dk_at dksX1_feed_0 5 rfl rfl)
theorem dX1_feed_8 : decode cX1_feed 8 = .ok (.aload_n 0, 1) := dk_42 (dk_at dksX1_feed_0 8 rfl rfl)
theorem dX1_feed_9 : decode cX1_feed 9 = .ok (.getfield 26, 3) := dk_180 0 26 (dk_at dksX1_feed_0 9 rfl rfl)
theorem dX1_feed_12 : decode cX1_feed 12 = .ok (.lload_n 3, 1) := dk_33 (dk_at dksX1_feed_0 12 rfl rfl)
theorem dX1_feed_13 : decode cX1_feed 13 = .ok (.invokevirtual 96, 3) := dk_182 0 96 (dk_at dksX1_feed_0 13 rfl rfl)
theorem dX1_feed_16 : decode cX1_feed 16 = .ok (.aload_n 0, 1) := dk_42 (dk_at dksX1_feed_0 16 rfl rfl)
theorem dX1_feed_17 : decode cX1_feed 17 = .ok (.getfield 26, 3) := dk_180 0 26 (dk_at dksX1_feed_0 17 rfl rfl)
theorem dX1_feed_20 : decode cX1_feed 20 = .ok (.lload 5, 2) := dk_22 5 (dk_at dksX1_feed_0 20 rfl rfl)
theorem dX1_feed_22 : decode cX1_feed 22 = .ok (.invokevirtual 96, 3) := dk_182 0 96 (dk_at dksX1_feed_1 0 rfl rfl)
theorem dX1_feed_25 : decode cX1_feed 25 = .ok (.aload_n 0, 1) := dk_42 (dk_at dksX1_feed_1 3 rfl rfl)
theorem dX1_feed_26 : decode cX1_feed 26 = .ok (.getfield 26, 3) := dk_180 0 26 (dk_at dksX1_feed_1 4 rfl rfl)
theorem dX1_feed_29 : decode cX1_feed 29 = .ok (.getfield 100, 3) := dk_180 0 100 (dk_at dksX1_feed_1 7 rfl rfl)
theorem dX1_feed_32 : decode cX1_feed 32 = .ok (.ireturn, 1) := dk_172 (dk_at dksX1_feed_1 10 rfl rfl)
abbrev cX1_within : ByteArray := prog_1_method_1_code
def yX1_within : MethodName := ⟨RX1, "within", "(III)Z"⟩
def dkwX1_within_0 : List UInt8 := [26, 27, 161, 0, 12, 26, 28, 163, 0, 7, 4, 167, 0, 4, 3, 172]
abbrev dktX1_within_0 : List UInt8 := dkwX1_within_0 ++ []
theorem dksX1_within_0 : cX1_within.data.toList.drop 0 = dktX1_within_0 := by decide +kernel
theorem dX1_within_0 : decode cX1_within 0 = .ok (.iload_n 0, 1) := dk_26 (dk_at dksX1_within_0 0 rfl rfl)
theorem dX1_within_1 : decode cX1_within 1 = .ok (.iload_n 1, 1) := dk_27 (dk_at dksX1_within_0 1 rfl rfl)
theorem dX1_within_2 : decode cX1_within 2 = .ok (.if_icmp .lt 12, 3) := dk_161 0 12 (dk_at dksX1_within_0 2 rfl rfl)
theorem dX1_within_5 : decode cX1_within 5 = .ok (.iload_n 0, 1) := dk_26 (dk_at dksX1_within_0 5 rfl rfl)
theorem dX1_within_6 : decode cX1_within 6 = .ok (.iload_n 2, 1) := dk_28 (dk_at dksX1_within_0 6 rfl rfl)
theorem dX1_within_7 : decode cX1_within 7 = .ok (.if_icmp .gt 7, 3) := dk_163 0 7 (dk_at dksX1_within_0 7 rfl rfl)
theorem dX1_within_10 : decode cX1_within 10 = .ok (.iconst 1, 1) := dk_4 (dk_at dksX1_within_0 10 rfl rfl)
theorem dX1_within_11 : decode cX1_within 11 = .ok (.goto 4, 3) := dk_167 0 4 (dk_at dksX1_within_0 11 rfl rfl)
theorem dX1_within_14 : decode cX1_within 14 = .ok (.iconst 0, 1) := dk_3 (dk_at dksX1_within_0 14 rfl rfl)
theorem dX1_within_15 : decode cX1_within 15 = .ok (.ireturn, 1) := dk_172 (dk_at dksX1_within_0 15 rfl rfl)
abbrev cX1_orchard : ByteArray := prog_1_method_7_code
def yX1_orchard : MethodName := ⟨RX1, "orchard", "()I"⟩
def dkwX1_orchard_3 : List UInt8 := [180, 0, 92, 27, 1, 83, 132, 1, 1, 167, 255, 241, 3, 172, 76, 43, 180, 0, 113, 172]
abbrev dktX1_orchard_3 : List UInt8 := dkwX1_orchard_3 ++ []
def dkwX1_orchard_2 : List UInt8 := [5, 183, 0, 49, 181, 0, 60, 42, 180, 0, 64, 182, 0, 108, 3, 60, 27, 7, 162, 0, 16, 42]
abbrev dktX1_orchard_2 : List UInt8 := dkwX1_orchard_2 ++ dktX1_orchard_3
def dkwX1_orchard_1 : List UInt8 := [187, 0, 47, 89, 5, 183, 0, 49, 181, 0, 52, 42, 16, 10, 188, 10, 181, 0, 56, 42, 187, 0, 47, 89]
abbrev dktX1_orchard_1 : List UInt8 := dkwX1_orchard_1 ++ dktX1_orchard_2
def dkwX1_orchard_0 : List UInt8 := [42, 187, 0, 30, 89, 183, 0, 32, 42, 180, 0, 26, 182, 0, 104, 182, 0, 36, 181, 0, 40, 42]
abbrev dktX1_orchard_0 : List UInt8 := dkwX1_orchard_0 ++ dktX1_orchard_1
theorem dksX1_orchard_0 : cX1_orchard.data.toList.drop 0 = dktX1_orchard_0 := by decide +kernel
theorem dksX1_orchard_1 : cX1_orchard.data.toList.drop 22 = dktX1_orchard_1 := dk_seg dksX1_orchard_0 22 rfl rfl
theorem dksX1_orchard_2 : cX1_orchard.data.toList.drop 46 = dktX1_orchard_2 := dk_seg dksX1_orchard_1 24 rfl rfl
theorem dksX1_orchard_3 : cX1_orchard.data.toList.drop 68 = dktX1_orchard_3 := dk_seg dksX1_orchard_2 22 rfl rfl
theorem dX1_orchard_0 : decode cX1_orchard 0 = .ok (.aload_n 0, 1) := dk_42 (dk_at dksX1_orchard_0 0 rfl rfl)
theorem dX1_orchard_1 : decode cX1_orchard 1 = .ok (.new 30, 3) := dk_187 0 30 (dk_at dksX1_orchard_0 1 rfl rfl)
theorem dX1_orchard_4 : decode cX1_orchard 4 = .ok (.dup, 1) := dk_89 (dk_at dksX1_orchard_0 4 rfl rfl)
theorem dX1_orchard_5 : decode cX1_orchard 5 = .ok (.invokespecial 32, 3) := dk_183 0 32 (dk_at dksX1_orchard_0 5 rfl rfl)
theorem dX1_orchard_8 : decode cX1_orchard 8 = .ok (.aload_n 0, 1) := dk_42 (dk_at dksX1_orchard_0 8 rfl rfl)
theorem dX1_orchard_9 : decode cX1_orchard 9 = .ok (.getfield 26, 3) := dk_180 0 26 (dk_at dksX1_orchard_0 9 rfl rfl)
theorem dX1_orchard_12 : decode cX1_orchard 12 = .ok (.invokevirtual 104, 3) := dk_182 0 104 (dk_at dksX1_orchard_0 12 rfl rfl)
theorem dX1_orchard_15 : decode cX1_orchard 15 = .ok (.invokevirtual 36, 3) := dk_182 0 36 (dk_at dksX1_orchard_0 15 rfl rfl)
theorem dX1_orchard_18 : decode cX1_orchard 18 = .ok (.putfield 40, 3) := dk_181 0 40 (dk_at dksX1_orchard_0 18 rfl rfl)
theorem dX1_orchard_21 : decode cX1_orchard 21 = .ok (.aload_n 0, 1) := dk_42 (dk_at dksX1_orchard_0 21 rfl rfl)
theorem dX1_orchard_22 : decode cX1_orchard 22 = .ok (.new 47, 3) := dk_187 0 47 (dk_at dksX1_orchard_1 0 rfl rfl)
theorem dX1_orchard_25 : decode cX1_orchard 25 = .ok (.dup, 1) := dk_89 (dk_at dksX1_orchard_1 3 rfl rfl)
theorem dX1_orchard_26 : decode cX1_orchard 26 = .ok (.iconst 2, 1) := dk_5 (dk_at dksX1_orchard_1 4 rfl rfl)
theorem dX1_orchard_27 : decode cX1_orchard 27 = .ok (.invokespecial 49, 3) := dk_183 0 49 (dk_at dksX1_orchard_1 5 rfl rfl)
theorem dX1_orchard_30 : decode cX1_orchard 30 = .ok (.putfield 52, 3) := dk_181 0 52 (dk_at dksX1_orchard_1 8 rfl rfl)
theorem dX1_orchard_33 : decode cX1_orchard 33 = .ok (.aload_n 0, 1) := dk_42 (dk_at dksX1_orchard_1 11 rfl rfl)
theorem dX1_orchard_34 : decode cX1_orchard 34 = .ok (.bipush 10, 2) := dk_16 10 (dk_at dksX1_orchard_1 12 rfl rfl)
theorem dX1_orchard_36 : decode cX1_orchard 36 = .ok (.newarray .int, 2) := dk_188_10 (dk_at dksX1_orchard_1 14 rfl rfl)
theorem dX1_orchard_38 : decode cX1_orchard 38 = .ok (.putfield 56, 3) := dk_181 0 56 (dk_at dksX1_orchard_1 16 rfl rfl)
theorem dX1_orchard_41 : decode cX1_orchard 41 = .ok (.aload_n 0, 1) := dk_42 (dk_at dksX1_orchard_1 19 rfl rfl)
theorem dX1_orchard_42 : decode cX1_orchard 42 = .ok (.new 47, 3) := dk_187 0 47 (dk_at dksX1_orchard_1 20 rfl rfl)
theorem dX1_orchard_45 : decode cX1_orchard 45 = .ok (.dup, 1) := dk_89 (dk_at dksX1_orchard_1 23 rfl rfl)
theorem dX1_orchard_46 : decode cX1_orchard 46 = .ok (.iconst 2, 1) := dk_5 (dk_at dksX1_orchard_2 0 rfl rfl)
theorem dX1_orchard_47 : decode cX1_orchard 47 = .ok (.invokespecial 49, 3) := dk_183 0 49 (dk_at dksX1_orchard_2 1 rfl rfl)
theorem dX1_orchard_50 : decode cX1_orchard 50 = .ok (.putfield 60, 3) := dk_181 0 60 (dk_at dksX1_orchard_2 4 rfl rfl)
theorem dX1_orchard_53 : decode cX1_orchard 53 = .ok (.aload_n 0, 1) := dk_42 (dk_at dksX1_orchard_2 7 rfl rfl)
theorem dX1_orchard_54 : decode cX1_orchard 54 = .ok (.getfield 64, 3) := dk_180 0 64 (dk_at dksX1_orchard_2 8 rfl rfl)
theorem dX1_orchard_57 : decode cX1_orchard 57 = .ok (.invokevirtual 108, 3) := dk_182 0 108 (dk_at dksX1_orchard_2 11 rfl rfl)
theorem dX1_orchard_60 : decode cX1_orchard 60 = .ok (.iconst 0, 1) := dk_3 (dk_at dksX1_orchard_2 14 rfl rfl)
theorem dX1_orchard_61 : decode cX1_orchard 61 = .ok (.istore_n 1, 1) := dk_60 (dk_at dksX1_orchard_2 15 rfl rfl)
theorem dX1_orchard_62 : decode cX1_orchard 62 = .ok (.iload_n 1, 1) := dk_27 (dk_at dksX1_orchard_2 16 rfl rfl)
theorem dX1_orchard_63 : decode cX1_orchard 63 = .ok (.iconst 4, 1) := dk_7 (dk_at dksX1_orchard_2 17 rfl rfl)
theorem dX1_orchard_64 : decode cX1_orchard 64 = .ok (.if_icmp .ge 16, 3) := dk_162 0 16 (dk_at dksX1_orchard_2 18 rfl rfl)
theorem dX1_orchard_67 : decode cX1_orchard 67 = .ok (.aload_n 0, 1) := dk_42 (dk_at dksX1_orchard_2 21 rfl rfl)
theorem dX1_orchard_68 : decode cX1_orchard 68 = .ok (.getfield 92, 3) := dk_180 0 92 (dk_at dksX1_orchard_3 0 rfl rfl)
theorem dX1_orchard_71 : decode cX1_orchard 71 = .ok (.iload_n 1, 1) := dk_27 (dk_at dksX1_orchard_3 3 rfl rfl)
theorem dX1_orchard_72 : decode cX1_orchard 72 = .ok (.aconst_null, 1) := dk_1 (dk_at dksX1_orchard_3 4 rfl rfl)
theorem dX1_orchard_73 : decode cX1_orchard 73 = .ok (.aastore, 1) := dk_83 (dk_at dksX1_orchard_3 5 rfl rfl)
theorem dX1_orchard_74 : decode cX1_orchard 74 = .ok (.iinc 1 1, 3) := dk_132 1 1 (dk_at dksX1_orchard_3 6 rfl rfl)
theorem dX1_orchard_77 : decode cX1_orchard 77 = .ok (.goto (-15), 3) := dk_167 255 241 (dk_at dksX1_orchard_3 9 rfl rfl)
theorem dX1_orchard_80 : decode cX1_orchard 80 = .ok (.iconst 0, 1) := dk_3 (dk_at dksX1_orchard_3 12 rfl rfl)
theorem dX1_orchard_81 : decode cX1_orchard 81 = .ok (.ireturn, 1) := dk_172 (dk_at dksX1_orchard_3 13 rfl rfl)
theorem dX1_orchard_82 : decode cX1_orchard 82 = .ok (.astore_n 1, 1) := dk_76 (dk_at dksX1_orchard_3 14 rfl rfl)
theorem dX1_orchard_83 : decode cX1_orchard 83 = .ok (.aload_n 1, 1) := dk_43 (dk_at dksX1_orchard_3 15 rfl rfl)
theorem dX1_orchard_84 : decode cX1_orchard 84 = .ok (.getfield 113, 3) := dk_180 0 113 (dk_at dksX1_orchard_3 16 rfl rfl)
theorem dX1_orchard_87 : decode cX1_orchard 87 = .ok (.ireturn, 1) := dk_172 (dk_at dksX1_orchard_3 19 rfl rfl)
abbrev cX1_made : ByteArray := prog_1_method_4_code
def yX1_made : MethodName := ⟨RX1, "made", "(IIIIII)LNameOrchard$Apple;"⟩
def dkwX1_made_4 : List UInt8 := [89, 27, 28, 29, 21, 4, 21, 5, 183, 0, 17, 176]
abbrev dktX1_made_4 : List UInt8 := dkwX1_made_4 ++ []
def dkwX1_made_3 : List UInt8 := [21, 5, 183, 0, 11, 176, 187, 0, 12, 89, 27, 28, 29, 21, 4, 21, 5, 183, 0, 14, 176, 187, 0, 15]
abbrev dktX1_made_3 : List UInt8 := dkwX1_made_3 ++ dktX1_made_4
def dkwX1_made_2 : List UInt8 := [187, 0, 3, 89, 27, 28, 29, 21, 4, 21, 5, 183, 0, 5, 176, 187, 0, 9, 89, 27, 28, 29, 21, 4]
abbrev dktX1_made_2 : List UInt8 := dkwX1_made_2 ++ dktX1_made_3
def dkwX1_made_1 : List UInt8 := [170, 0, 0, 0, 0, 0, 72, 0, 0, 0, 1, 0, 0, 0, 3, 0, 0, 0, 27, 0, 0, 0, 42, 0, 0, 0, 57]
abbrev dktX1_made_1 : List UInt8 := dkwX1_made_1 ++ dktX1_made_2
def dkwX1_made_0 : List UInt8 := [26]
abbrev dktX1_made_0 : List UInt8 := dkwX1_made_0 ++ dktX1_made_1
theorem dksX1_made_0 : cX1_made.data.toList.drop 0 = dktX1_made_0 := by decide +kernel
theorem dksX1_made_1 : cX1_made.data.toList.drop 1 = dktX1_made_1 := dk_seg dksX1_made_0 1 rfl rfl
theorem dksX1_made_2 : cX1_made.data.toList.drop 28 = dktX1_made_2 := dk_seg dksX1_made_1 27 rfl rfl
theorem dksX1_made_3 : cX1_made.data.toList.drop 52 = dktX1_made_3 := dk_seg dksX1_made_2 24 rfl rfl
theorem dksX1_made_4 : cX1_made.data.toList.drop 76 = dktX1_made_4 := dk_seg dksX1_made_3 24 rfl rfl
theorem dX1_made_0 : decode cX1_made 0 = .ok (.iload_n 0, 1) := dk_26 (dk_at dksX1_made_0 0 rfl rfl)
theorem dX1_made_1 : decode cX1_made 1 = .ok (.tableswitch 72 1 3 #[27, 42, 57], 27) := by decide +kernel
theorem dX1_made_28 : decode cX1_made 28 = .ok (.new 3, 3) := dk_187 0 3 (dk_at dksX1_made_2 0 rfl rfl)
theorem dX1_made_31 : decode cX1_made 31 = .ok (.dup, 1) := dk_89 (dk_at dksX1_made_2 3 rfl rfl)
theorem dX1_made_32 : decode cX1_made 32 = .ok (.iload_n 1, 1) := dk_27 (dk_at dksX1_made_2 4 rfl rfl)
theorem dX1_made_33 : decode cX1_made 33 = .ok (.iload_n 2, 1) := dk_28 (dk_at dksX1_made_2 5 rfl rfl)
theorem dX1_made_34 : decode cX1_made 34 = .ok (.iload_n 3, 1) := dk_29 (dk_at dksX1_made_2 6 rfl rfl)
theorem dX1_made_35 : decode cX1_made 35 = .ok (.iload 4, 2) := dk_21 4 (dk_at dksX1_made_2 7 rfl rfl)
theorem dX1_made_37 : decode cX1_made 37 = .ok (.iload 5, 2) := dk_21 5 (dk_at dksX1_made_2 9 rfl rfl)
theorem dX1_made_39 : decode cX1_made 39 = .ok (.invokespecial 5, 3) := dk_183 0 5 (dk_at dksX1_made_2 11 rfl rfl)
theorem dX1_made_42 : decode cX1_made 42 = .ok (.areturn, 1) := dk_176 (dk_at dksX1_made_2 14 rfl rfl)
theorem dX1_made_43 : decode cX1_made 43 = .ok (.new 9, 3) := dk_187 0 9 (dk_at dksX1_made_2 15 rfl rfl)
theorem dX1_made_46 : decode cX1_made 46 = .ok (.dup, 1) := dk_89 (dk_at dksX1_made_2 18 rfl rfl)
theorem dX1_made_47 : decode cX1_made 47 = .ok (.iload_n 1, 1) := dk_27 (dk_at dksX1_made_2 19 rfl rfl)
theorem dX1_made_48 : decode cX1_made 48 = .ok (.iload_n 2, 1) := dk_28 (dk_at dksX1_made_2 20 rfl rfl)
theorem dX1_made_49 : decode cX1_made 49 = .ok (.iload_n 3, 1) := dk_29 (dk_at dksX1_made_2 21 rfl rfl)
theorem dX1_made_50 : decode cX1_made 50 = .ok (.iload 4, 2) := dk_21 4 (dk_at dksX1_made_2 22 rfl rfl)
theorem dX1_made_52 : decode cX1_made 52 = .ok (.iload 5, 2) := dk_21 5 (dk_at dksX1_made_3 0 rfl rfl)
theorem dX1_made_54 : decode cX1_made 54 = .ok (.invokespecial 11, 3) := dk_183 0 11 (dk_at dksX1_made_3 2 rfl rfl)
theorem dX1_made_57 : decode cX1_made 57 = .ok (.areturn, 1) := dk_176 (dk_at dksX1_made_3 5 rfl rfl)
theorem dX1_made_58 : decode cX1_made 58 = .ok (.new 12, 3) := dk_187 0 12 (dk_at dksX1_made_3 6 rfl rfl)
theorem dX1_made_61 : decode cX1_made 61 = .ok (.dup, 1) := dk_89 (dk_at dksX1_made_3 9 rfl rfl)
theorem dX1_made_62 : decode cX1_made 62 = .ok (.iload_n 1, 1) := dk_27 (dk_at dksX1_made_3 10 rfl rfl)
theorem dX1_made_63 : decode cX1_made 63 = .ok (.iload_n 2, 1) := dk_28 (dk_at dksX1_made_3 11 rfl rfl)
theorem dX1_made_64 : decode cX1_made 64 = .ok (.iload_n 3, 1) := dk_29 (dk_at dksX1_made_3 12 rfl rfl)
theorem dX1_made_65 : decode cX1_made 65 = .ok (.iload 4, 2) := dk_21 4 (dk_at dksX1_made_3 13 rfl rfl)
theorem dX1_made_67 : decode cX1_made 67 = .ok (.iload 5, 2) := dk_21 5 (dk_at dksX1_made_3 15 rfl rfl)
theorem dX1_made_69 : decode cX1_made 69 = .ok (.invokespecial 14, 3) := dk_183 0 14 (dk_at dksX1_made_3 17 rfl rfl)
theorem dX1_made_72 : decode cX1_made 72 = .ok (.areturn, 1) := dk_176 (dk_at dksX1_made_3 20 rfl rfl)
theorem dX1_made_73 : decode cX1_made 73 = .ok (.new 15, 3) := dk_187 0 15 (dk_at dksX1_made_3 21 rfl rfl)
theorem dX1_made_76 : decode cX1_made 76 = .ok (.dup, 1) := dk_89 (dk_at dksX1_made_4 0 rfl rfl)
theorem dX1_made_77 : decode cX1_made 77 = .ok (.iload_n 1, 1) := dk_27 (dk_at dksX1_made_4 1 rfl rfl)
theorem dX1_made_78 : decode cX1_made 78 = .ok (.iload_n 2, 1) := dk_28 (dk_at dksX1_made_4 2 rfl rfl)
theorem dX1_made_79 : decode cX1_made 79 = .ok (.iload_n 3, 1) := dk_29 (dk_at dksX1_made_4 3 rfl rfl)
theorem dX1_made_80 : decode cX1_made 80 = .ok (.iload 4, 2) := dk_21 4 (dk_at dksX1_made_4 4 rfl rfl)
theorem dX1_made_82 : decode cX1_made 82 = .ok (.iload 5, 2) := dk_21 5 (dk_at dksX1_made_4 6 rfl rfl)
theorem dX1_made_84 : decode cX1_made 84 = .ok (.invokespecial 17, 3) := dk_183 0 17 (dk_at dksX1_made_4 8 rfl rfl)
theorem dX1_made_87 : decode cX1_made 87 = .ok (.areturn, 1) := dk_176 (dk_at dksX1_made_4 11 rfl rfl)
abbrev cX1_has : ByteArray := prog_1_method_2_code
def yX1_has : MethodName := ⟨RX1, "has", "(II)Z"⟩
def dkwX1_has_0 : List UInt8 := [26, 27, 122, 4, 126, 4, 160, 0, 7, 4, 167, 0, 4, 3, 172]
abbrev dktX1_has_0 : List UInt8 := dkwX1_has_0 ++ []
theorem dksX1_has_0 : cX1_has.data.toList.drop 0 = dktX1_has_0 := by decide +kernel
theorem dX1_has_0 : decode cX1_has 0 = .ok (.iload_n 0, 1) := dk_26 (dk_at dksX1_has_0 0 rfl rfl)
theorem dX1_has_1 : decode cX1_has 1 = .ok (.iload_n 1, 1) := dk_27 (dk_at dksX1_has_0 1 rfl rfl)
theorem dX1_has_2 : decode cX1_has 2 = .ok (.ishr, 1) := dk_122 (dk_at dksX1_has_0 2 rfl rfl)
theorem dX1_has_3 : decode cX1_has 3 = .ok (.iconst 1, 1) := dk_4 (dk_at dksX1_has_0 3 rfl rfl)
theorem dX1_has_4 : decode cX1_has 4 = .ok (.iand, 1) := dk_126 (dk_at dksX1_has_0 4 rfl rfl)
theorem dX1_has_5 : decode cX1_has 5 = .ok (.iconst 1, 1) := dk_4 (dk_at dksX1_has_0 5 rfl rfl)
theorem dX1_has_6 : decode cX1_has 6 = .ok (.if_icmp .ne 7, 3) := dk_160 0 7 (dk_at dksX1_has_0 6 rfl rfl)
theorem dX1_has_9 : decode cX1_has 9 = .ok (.iconst 1, 1) := dk_4 (dk_at dksX1_has_0 9 rfl rfl)
theorem dX1_has_10 : decode cX1_has 10 = .ok (.goto 4, 3) := dk_167 0 4 (dk_at dksX1_has_0 10 rfl rfl)
theorem dX1_has_13 : decode cX1_has 13 = .ok (.iconst 0, 1) := dk_3 (dk_at dksX1_has_0 13 rfl rfl)
theorem dX1_has_14 : decode cX1_has 14 = .ok (.ireturn, 1) := dk_172 (dk_at dksX1_has_0 14 rfl rfl)
abbrev cX1_days : ByteArray := prog_1_method_8_code
def yX1_days : MethodName := ⟨RX1, "days", "()I"⟩
def dkwX1_days_0 : List UInt8 := [42, 42, 180, 0, 26, 42, 182, 0, 116, 182, 0, 119, 181, 0, 52, 3, 172, 76, 43, 180, 0, 113, 172]
abbrev dktX1_days_0 : List UInt8 := dkwX1_days_0 ++ []
theorem dksX1_days_0 : cX1_days.data.toList.drop 0 = dktX1_days_0 := by decide +kernel
theorem dX1_days_0 : decode cX1_days 0 = .ok (.aload_n 0, 1) := dk_42 (dk_at dksX1_days_0 0 rfl rfl)
theorem dX1_days_1 : decode cX1_days 1 = .ok (.aload_n 0, 1) := dk_42 (dk_at dksX1_days_0 1 rfl rfl)
theorem dX1_days_2 : decode cX1_days 2 = .ok (.getfield 26, 3) := dk_180 0 26 (dk_at dksX1_days_0 2 rfl rfl)
theorem dX1_days_5 : decode cX1_days 5 = .ok (.aload_n 0, 1) := dk_42 (dk_at dksX1_days_0 5 rfl rfl)
theorem dX1_days_6 : decode cX1_days 6 = .ok (.invokevirtual 116, 3) := dk_182 0 116 (dk_at dksX1_days_0 6 rfl rfl)
theorem dX1_days_9 : decode cX1_days 9 = .ok (.invokevirtual 119, 3) := dk_182 0 119 (dk_at dksX1_days_0 9 rfl rfl)
theorem dX1_days_12 : decode cX1_days 12 = .ok (.putfield 52, 3) := dk_181 0 52 (dk_at dksX1_days_0 12 rfl rfl)
theorem dX1_days_15 : decode cX1_days 15 = .ok (.iconst 0, 1) := dk_3 (dk_at dksX1_days_0 15 rfl rfl)
theorem dX1_days_16 : decode cX1_days 16 = .ok (.ireturn, 1) := dk_172 (dk_at dksX1_days_0 16 rfl rfl)
theorem dX1_days_17 : decode cX1_days 17 = .ok (.astore_n 1, 1) := dk_76 (dk_at dksX1_days_0 17 rfl rfl)
theorem dX1_days_18 : decode cX1_days 18 = .ok (.aload_n 1, 1) := dk_43 (dk_at dksX1_days_0 18 rfl rfl)
theorem dX1_days_19 : decode cX1_days 19 = .ok (.getfield 113, 3) := dk_180 0 113 (dk_at dksX1_days_0 19 rfl rfl)
theorem dX1_days_22 : decode cX1_days 22 = .ok (.ireturn, 1) := dk_172 (dk_at dksX1_days_0 22 rfl rfl)
abbrev cX1_now : ByteArray := prog_1_method_9_code
def yX1_now : MethodName := ⟨RX1, "now", "()LNameOrchard$Orchard;"⟩
def dkwX1_now_0 : List UInt8 := [42, 180, 0, 40, 180, 0, 122, 176]
abbrev dktX1_now_0 : List UInt8 := dkwX1_now_0 ++ []
theorem dksX1_now_0 : cX1_now.data.toList.drop 0 = dktX1_now_0 := by decide +kernel
theorem dX1_now_0 : decode cX1_now 0 = .ok (.aload_n 0, 1) := dk_42 (dk_at dksX1_now_0 0 rfl rfl)
theorem dX1_now_1 : decode cX1_now 1 = .ok (.getfield 40, 3) := dk_180 0 40 (dk_at dksX1_now_0 1 rfl rfl)
theorem dX1_now_4 : decode cX1_now 4 = .ok (.getfield 122, 3) := dk_180 0 122 (dk_at dksX1_now_0 4 rfl rfl)
theorem dX1_now_7 : decode cX1_now 7 = .ok (.areturn, 1) := dk_176 (dk_at dksX1_now_0 7 rfl rfl)
abbrev cX1_apple : ByteArray := prog_1_method_15_code
def yX1_apple : MethodName := ⟨RX1, "apple", "(II)I"⟩
def dkwX1_apple_7 : List UInt8 := [172]
abbrev dktX1_apple_7 : List UInt8 := dkwX1_apple_7 ++ []
def dkwX1_apple_6 : List UInt8 := [3, 172, 45, 180, 0, 181, 172, 42, 182, 0, 116, 27, 42, 180, 0, 40, 180, 0, 184, 182, 0, 187, 172, 2]
abbrev dktX1_apple_6 : List UInt8 := dkwX1_apple_6 ++ dktX1_apple_7
def dkwX1_apple_5 : List UInt8 := [180, 0, 172, 27, 46, 172, 42, 180, 0, 40, 180, 0, 174, 27, 184, 0, 177, 153, 0, 7, 4, 167, 0, 4]
abbrev dktX1_apple_5 : List UInt8 := dkwX1_apple_5 ++ dktX1_apple_6
def dkwX1_apple_4 : List UInt8 := [172, 42, 180, 0, 40, 27, 182, 0, 169, 153, 0, 7, 4, 167, 0, 4, 3, 172, 42, 180, 0, 40]
abbrev dktX1_apple_4 : List UInt8 := dkwX1_apple_4 ++ dktX1_apple_5
def dkwX1_apple_3 : List UInt8 := [45, 182, 0, 154, 172, 45, 180, 0, 157, 172, 45, 180, 0, 160, 172, 45, 180, 0, 163, 172, 45, 180, 0, 166]
abbrev dktX1_apple_3 : List UInt8 := dkwX1_apple_3 ++ dktX1_apple_4
def dkwX1_apple_2 : List UInt8 := [170, 0, 0, 0, 0, 147, 0, 0, 0, 0, 0, 0, 0, 9, 0, 0, 0, 54, 0, 0, 0, 59, 0, 0, 0, 64, 0, 0, 0, 69, 0, 0, 0, 74, 0, 0, 0, 79, 0, 0, 0, 96, 0, 0, 0, 106, 0, 0, 0, 126, 0, 0, 0, 131]
abbrev dktX1_apple_2 : List UInt8 := dkwX1_apple_2 ++ dktX1_apple_3
def dkwX1_apple_1 : List UInt8 := [78, 28]
abbrev dktX1_apple_1 : List UInt8 := dkwX1_apple_1 ++ dktX1_apple_2
def dkwX1_apple_0 : List UInt8 := [42, 27, 182, 0, 146, 154, 0, 5, 2, 172, 42, 182, 0, 116, 180, 0, 125, 27, 182, 0, 150, 192, 0, 15]
abbrev dktX1_apple_0 : List UInt8 := dkwX1_apple_0 ++ dktX1_apple_1
theorem dksX1_apple_0 : cX1_apple.data.toList.drop 0 = dktX1_apple_0 := by decide +kernel
theorem dksX1_apple_1 : cX1_apple.data.toList.drop 24 = dktX1_apple_1 := dk_seg dksX1_apple_0 24 rfl rfl
theorem dksX1_apple_2 : cX1_apple.data.toList.drop 26 = dktX1_apple_2 := dk_seg dksX1_apple_1 2 rfl rfl
theorem dksX1_apple_3 : cX1_apple.data.toList.drop 80 = dktX1_apple_3 := dk_seg dksX1_apple_2 54 rfl rfl
theorem dksX1_apple_4 : cX1_apple.data.toList.drop 104 = dktX1_apple_4 := dk_seg dksX1_apple_3 24 rfl rfl
theorem dksX1_apple_5 : cX1_apple.data.toList.drop 126 = dktX1_apple_5 := dk_seg dksX1_apple_4 22 rfl rfl
theorem dksX1_apple_6 : cX1_apple.data.toList.drop 150 = dktX1_apple_6 := dk_seg dksX1_apple_5 24 rfl rfl
theorem dksX1_apple_7 : cX1_apple.data.toList.drop 174 = dktX1_apple_7 := dk_seg dksX1_apple_6 24 rfl rfl
theorem dX1_apple_0 : decode cX1_apple 0 = .ok (.aload_n 0, 1) := dk_42 (dk_at dksX1_apple_0 0 rfl rfl)
theorem dX1_apple_1 : decode cX1_apple 1 = .ok (.iload_n 1, 1) := dk_27 (dk_at dksX1_apple_0 1 rfl rfl)
theorem dX1_apple_2 : decode cX1_apple 2 = .ok (.invokevirtual 146, 3) := dk_182 0 146 (dk_at dksX1_apple_0 2 rfl rfl)
theorem dX1_apple_5 : decode cX1_apple 5 = .ok (.ifCond .ne 5, 3) := dk_154 0 5 (dk_at dksX1_apple_0 5 rfl rfl)
theorem dX1_apple_8 : decode cX1_apple 8 = .ok (.iconst (-1), 1) := dk_2 (dk_at dksX1_apple_0 8 rfl rfl)
theorem dX1_apple_9 : decode cX1_apple 9 = .ok (.ireturn, 1) := dk_172 (dk_at dksX1_apple_0 9 rfl rfl)
theorem dX1_apple_10 : decode cX1_apple 10 = .ok (.aload_n 0, 1) := dk_42 (dk_at dksX1_apple_0 10 rfl rfl)
theorem dX1_apple_11 : decode cX1_apple 11 = .ok (.invokevirtual 116, 3) := dk_182 0 116 (dk_at dksX1_apple_0 11 rfl rfl)
theorem dX1_apple_14 : decode cX1_apple 14 = .ok (.getfield 125, 3) := dk_180 0 125 (dk_at dksX1_apple_0 14 rfl rfl)
theorem dX1_apple_17 : decode cX1_apple 17 = .ok (.iload_n 1, 1) := dk_27 (dk_at dksX1_apple_0 17 rfl rfl)
theorem dX1_apple_18 : decode cX1_apple 18 = .ok (.invokevirtual 150, 3) := dk_182 0 150 (dk_at dksX1_apple_0 18 rfl rfl)
theorem dX1_apple_21 : decode cX1_apple 21 = .ok (.checkcast 15, 3) := dk_192 0 15 (dk_at dksX1_apple_0 21 rfl rfl)
theorem dX1_apple_24 : decode cX1_apple 24 = .ok (.astore_n 3, 1) := dk_78 (dk_at dksX1_apple_1 0 rfl rfl)
theorem dX1_apple_25 : decode cX1_apple 25 = .ok (.iload_n 2, 1) := dk_28 (dk_at dksX1_apple_1 1 rfl rfl)
theorem dX1_apple_26 : decode cX1_apple 26 = .ok (.tableswitch 147 0 9 #[54, 59, 64, 69, 74, 79, 96, 106, 126, 131], 54) := by decide +kernel
theorem dX1_apple_80 : decode cX1_apple 80 = .ok (.aload_n 3, 1) := dk_45 (dk_at dksX1_apple_3 0 rfl rfl)
theorem dX1_apple_81 : decode cX1_apple 81 = .ok (.invokevirtual 154, 3) := dk_182 0 154 (dk_at dksX1_apple_3 1 rfl rfl)
theorem dX1_apple_84 : decode cX1_apple 84 = .ok (.ireturn, 1) := dk_172 (dk_at dksX1_apple_3 4 rfl rfl)
theorem dX1_apple_85 : decode cX1_apple 85 = .ok (.aload_n 3, 1) := dk_45 (dk_at dksX1_apple_3 5 rfl rfl)
theorem dX1_apple_86 : decode cX1_apple 86 = .ok (.getfield 157, 3) := dk_180 0 157 (dk_at dksX1_apple_3 6 rfl rfl)
theorem dX1_apple_89 : decode cX1_apple 89 = .ok (.ireturn, 1) := dk_172 (dk_at dksX1_apple_3 9 rfl rfl)
theorem dX1_apple_90 : decode cX1_apple 90 = .ok (.aload_n 3, 1) := dk_45 (dk_at dksX1_apple_3 10 rfl rfl)
theorem dX1_apple_91 : decode cX1_apple 91 = .ok (.getfield 160, 3) := dk_180 0 160 (dk_at dksX1_apple_3 11 rfl rfl)
theorem dX1_apple_94 : decode cX1_apple 94 = .ok (.ireturn, 1) := dk_172 (dk_at dksX1_apple_3 14 rfl rfl)
theorem dX1_apple_95 : decode cX1_apple 95 = .ok (.aload_n 3, 1) := dk_45 (dk_at dksX1_apple_3 15 rfl rfl)
theorem dX1_apple_96 : decode cX1_apple 96 = .ok (.getfield 163, 3) := dk_180 0 163 (dk_at dksX1_apple_3 16 rfl rfl)
theorem dX1_apple_99 : decode cX1_apple 99 = .ok (.ireturn, 1) := dk_172 (dk_at dksX1_apple_3 19 rfl rfl)
theorem dX1_apple_100 : decode cX1_apple 100 = .ok (.aload_n 3, 1) := dk_45 (dk_at dksX1_apple_3 20 rfl rfl)
theorem dX1_apple_101 : decode cX1_apple 101 = .ok (.getfield 166, 3) := dk_180 0 166 (dk_at dksX1_apple_3 21 rfl rfl)
theorem dX1_apple_104 : decode cX1_apple 104 = .ok (.ireturn, 1) := dk_172 (dk_at dksX1_apple_4 0 rfl rfl)
theorem dX1_apple_105 : decode cX1_apple 105 = .ok (.aload_n 0, 1) := dk_42 (dk_at dksX1_apple_4 1 rfl rfl)
theorem dX1_apple_106 : decode cX1_apple 106 = .ok (.getfield 40, 3) := dk_180 0 40 (dk_at dksX1_apple_4 2 rfl rfl)
theorem dX1_apple_109 : decode cX1_apple 109 = .ok (.iload_n 1, 1) := dk_27 (dk_at dksX1_apple_4 5 rfl rfl)
theorem dX1_apple_110 : decode cX1_apple 110 = .ok (.invokevirtual 169, 3) := dk_182 0 169 (dk_at dksX1_apple_4 6 rfl rfl)
theorem dX1_apple_113 : decode cX1_apple 113 = .ok (.ifCond .eq 7, 3) := dk_153 0 7 (dk_at dksX1_apple_4 9 rfl rfl)
theorem dX1_apple_116 : decode cX1_apple 116 = .ok (.iconst 1, 1) := dk_4 (dk_at dksX1_apple_4 12 rfl rfl)
theorem dX1_apple_117 : decode cX1_apple 117 = .ok (.goto 4, 3) := dk_167 0 4 (dk_at dksX1_apple_4 13 rfl rfl)
theorem dX1_apple_120 : decode cX1_apple 120 = .ok (.iconst 0, 1) := dk_3 (dk_at dksX1_apple_4 16 rfl rfl)
theorem dX1_apple_121 : decode cX1_apple 121 = .ok (.ireturn, 1) := dk_172 (dk_at dksX1_apple_4 17 rfl rfl)
theorem dX1_apple_122 : decode cX1_apple 122 = .ok (.aload_n 0, 1) := dk_42 (dk_at dksX1_apple_4 18 rfl rfl)
theorem dX1_apple_123 : decode cX1_apple 123 = .ok (.getfield 40, 3) := dk_180 0 40 (dk_at dksX1_apple_4 19 rfl rfl)
theorem dX1_apple_126 : decode cX1_apple 126 = .ok (.getfield 172, 3) := dk_180 0 172 (dk_at dksX1_apple_5 0 rfl rfl)
theorem dX1_apple_129 : decode cX1_apple 129 = .ok (.iload_n 1, 1) := dk_27 (dk_at dksX1_apple_5 3 rfl rfl)
theorem dX1_apple_130 : decode cX1_apple 130 = .ok (.iaload, 1) := dk_46 (dk_at dksX1_apple_5 4 rfl rfl)
theorem dX1_apple_131 : decode cX1_apple 131 = .ok (.ireturn, 1) := dk_172 (dk_at dksX1_apple_5 5 rfl rfl)
theorem dX1_apple_132 : decode cX1_apple 132 = .ok (.aload_n 0, 1) := dk_42 (dk_at dksX1_apple_5 6 rfl rfl)
theorem dX1_apple_133 : decode cX1_apple 133 = .ok (.getfield 40, 3) := dk_180 0 40 (dk_at dksX1_apple_5 7 rfl rfl)
theorem dX1_apple_136 : decode cX1_apple 136 = .ok (.getfield 174, 3) := dk_180 0 174 (dk_at dksX1_apple_5 10 rfl rfl)
theorem dX1_apple_139 : decode cX1_apple 139 = .ok (.iload_n 1, 1) := dk_27 (dk_at dksX1_apple_5 13 rfl rfl)
theorem dX1_apple_140 : decode cX1_apple 140 = .ok (.invokestatic 177, 3) := dk_184 0 177 (dk_at dksX1_apple_5 14 rfl rfl)
theorem dX1_apple_143 : decode cX1_apple 143 = .ok (.ifCond .eq 7, 3) := dk_153 0 7 (dk_at dksX1_apple_5 17 rfl rfl)
theorem dX1_apple_146 : decode cX1_apple 146 = .ok (.iconst 1, 1) := dk_4 (dk_at dksX1_apple_5 20 rfl rfl)
theorem dX1_apple_147 : decode cX1_apple 147 = .ok (.goto 4, 3) := dk_167 0 4 (dk_at dksX1_apple_5 21 rfl rfl)
theorem dX1_apple_150 : decode cX1_apple 150 = .ok (.iconst 0, 1) := dk_3 (dk_at dksX1_apple_6 0 rfl rfl)
theorem dX1_apple_151 : decode cX1_apple 151 = .ok (.ireturn, 1) := dk_172 (dk_at dksX1_apple_6 1 rfl rfl)
theorem dX1_apple_152 : decode cX1_apple 152 = .ok (.aload_n 3, 1) := dk_45 (dk_at dksX1_apple_6 2 rfl rfl)
theorem dX1_apple_153 : decode cX1_apple 153 = .ok (.getfield 181, 3) := dk_180 0 181 (dk_at dksX1_apple_6 3 rfl rfl)
theorem dX1_apple_156 : decode cX1_apple 156 = .ok (.ireturn, 1) := dk_172 (dk_at dksX1_apple_6 6 rfl rfl)
theorem dX1_apple_157 : decode cX1_apple 157 = .ok (.aload_n 0, 1) := dk_42 (dk_at dksX1_apple_6 7 rfl rfl)
theorem dX1_apple_158 : decode cX1_apple 158 = .ok (.invokevirtual 116, 3) := dk_182 0 116 (dk_at dksX1_apple_6 8 rfl rfl)
theorem dX1_apple_161 : decode cX1_apple 161 = .ok (.iload_n 1, 1) := dk_27 (dk_at dksX1_apple_6 11 rfl rfl)
theorem dX1_apple_162 : decode cX1_apple 162 = .ok (.aload_n 0, 1) := dk_42 (dk_at dksX1_apple_6 12 rfl rfl)
theorem dX1_apple_163 : decode cX1_apple 163 = .ok (.getfield 40, 3) := dk_180 0 40 (dk_at dksX1_apple_6 13 rfl rfl)
theorem dX1_apple_166 : decode cX1_apple 166 = .ok (.getfield 184, 3) := dk_180 0 184 (dk_at dksX1_apple_6 16 rfl rfl)
theorem dX1_apple_169 : decode cX1_apple 169 = .ok (.invokevirtual 187, 3) := dk_182 0 187 (dk_at dksX1_apple_6 19 rfl rfl)
theorem dX1_apple_172 : decode cX1_apple 172 = .ok (.ireturn, 1) := dk_172 (dk_at dksX1_apple_6 22 rfl rfl)
theorem dX1_apple_173 : decode cX1_apple 173 = .ok (.iconst (-1), 1) := dk_2 (dk_at dksX1_apple_6 23 rfl rfl)
theorem dX1_apple_174 : decode cX1_apple 174 = .ok (.ireturn, 1) := dk_172 (dk_at dksX1_apple_7 0 rfl rfl)
abbrev cX1_isApple : ByteArray := prog_1_method_12_code
def yX1_isApple : MethodName := ⟨RX1, "isApple", "(I)Z"⟩
def dkwX1_isApple_0 : List UInt8 := [27, 3, 42, 182, 0, 135, 4, 100, 184, 0, 137, 172]
abbrev dktX1_isApple_0 : List UInt8 := dkwX1_isApple_0 ++ []
theorem dksX1_isApple_0 : cX1_isApple.data.toList.drop 0 = dktX1_isApple_0 := by decide +kernel
theorem dX1_isApple_0 : decode cX1_isApple 0 = .ok (.iload_n 1, 1) := dk_27 (dk_at dksX1_isApple_0 0 rfl rfl)
theorem dX1_isApple_1 : decode cX1_isApple 1 = .ok (.iconst 0, 1) := dk_3 (dk_at dksX1_isApple_0 1 rfl rfl)
theorem dX1_isApple_2 : decode cX1_isApple 2 = .ok (.aload_n 0, 1) := dk_42 (dk_at dksX1_isApple_0 2 rfl rfl)
theorem dX1_isApple_3 : decode cX1_isApple 3 = .ok (.invokevirtual 135, 3) := dk_182 0 135 (dk_at dksX1_isApple_0 3 rfl rfl)
theorem dX1_isApple_6 : decode cX1_isApple 6 = .ok (.iconst 1, 1) := dk_4 (dk_at dksX1_isApple_0 6 rfl rfl)
theorem dX1_isApple_7 : decode cX1_isApple 7 = .ok (.isub, 1) := dk_100 (dk_at dksX1_isApple_0 7 rfl rfl)
theorem dX1_isApple_8 : decode cX1_isApple 8 = .ok (.invokestatic 137, 3) := dk_184 0 137 (dk_at dksX1_isApple_0 8 rfl rfl)
theorem dX1_isApple_11 : decode cX1_isApple 11 = .ok (.ireturn, 1) := dk_172 (dk_at dksX1_isApple_0 11 rfl rfl)
abbrev cX1_apples : ByteArray := prog_1_method_10_code
def yX1_apples : MethodName := ⟨RX1, "apples", "()I"⟩
def dkwX1_apples_0 : List UInt8 := [42, 182, 0, 116, 180, 0, 125, 182, 0, 128, 172]
abbrev dktX1_apples_0 : List UInt8 := dkwX1_apples_0 ++ []
theorem dksX1_apples_0 : cX1_apples.data.toList.drop 0 = dktX1_apples_0 := by decide +kernel
theorem dX1_apples_0 : decode cX1_apples 0 = .ok (.aload_n 0, 1) := dk_42 (dk_at dksX1_apples_0 0 rfl rfl)
theorem dX1_apples_1 : decode cX1_apples 1 = .ok (.invokevirtual 116, 3) := dk_182 0 116 (dk_at dksX1_apples_0 1 rfl rfl)
theorem dX1_apples_4 : decode cX1_apples 4 = .ok (.getfield 125, 3) := dk_180 0 125 (dk_at dksX1_apples_0 4 rfl rfl)
theorem dX1_apples_7 : decode cX1_apples 7 = .ok (.invokevirtual 128, 3) := dk_182 0 128 (dk_at dksX1_apples_0 7 rfl rfl)
theorem dX1_apples_10 : decode cX1_apples 10 = .ok (.ireturn, 1) := dk_172 (dk_at dksX1_apples_0 10 rfl rfl)
abbrev cX1_near : ByteArray := prog_1_method_16_code
def yX1_near : MethodName := ⟨RX1, "near", "(III)I"⟩
def dkwX1_near_4 : List UInt8 := [182, 0, 203, 172, 42, 182, 0, 116, 27, 28, 182, 0, 206, 153, 0, 7, 4, 167, 0, 4, 3, 172, 2, 172]
abbrev dktX1_near_4 : List UInt8 := dkwX1_near_4 ++ []
def dkwX1_near_3 : List UInt8 := [42, 182, 0, 116, 180, 0, 132, 28, 182, 0, 150, 192, 0, 197, 182, 0, 199, 172, 42, 182, 0, 116, 27, 28]
abbrev dktX1_near_3 : List UInt8 := dkwX1_near_3 ++ dktX1_near_4
def dkwX1_near_2 : List UInt8 := [42, 182, 0, 116, 27, 28, 182, 0, 194, 172, 42, 182, 0, 116, 180, 0, 132, 27, 182, 0, 150, 192, 0, 197]
abbrev dktX1_near_2 : List UInt8 := dkwX1_near_2 ++ dktX1_near_3
def dkwX1_near_1 : List UInt8 := [170, 0, 0, 0, 99, 0, 0, 0, 0, 0, 0, 0, 3, 0, 0, 0, 29, 0, 0, 0, 39, 0, 0, 0, 71, 0, 0, 0, 81]
abbrev dktX1_near_1 : List UInt8 := dkwX1_near_1 ++ dktX1_near_2
def dkwX1_near_0 : List UInt8 := [42, 27, 182, 0, 191, 153, 0, 11, 42, 28, 182, 0, 191, 154, 0, 5, 2, 172, 29]
abbrev dktX1_near_0 : List UInt8 := dkwX1_near_0 ++ dktX1_near_1
theorem dksX1_near_0 : cX1_near.data.toList.drop 0 = dktX1_near_0 := by decide +kernel
theorem dksX1_near_1 : cX1_near.data.toList.drop 19 = dktX1_near_1 := dk_seg dksX1_near_0 19 rfl rfl
theorem dksX1_near_2 : cX1_near.data.toList.drop 48 = dktX1_near_2 := dk_seg dksX1_near_1 29 rfl rfl
theorem dksX1_near_3 : cX1_near.data.toList.drop 72 = dktX1_near_3 := dk_seg dksX1_near_2 24 rfl rfl
theorem dksX1_near_4 : cX1_near.data.toList.drop 96 = dktX1_near_4 := dk_seg dksX1_near_3 24 rfl rfl
theorem dX1_near_0 : decode cX1_near 0 = .ok (.aload_n 0, 1) := dk_42 (dk_at dksX1_near_0 0 rfl rfl)
theorem dX1_near_1 : decode cX1_near 1 = .ok (.iload_n 1, 1) := dk_27 (dk_at dksX1_near_0 1 rfl rfl)
theorem dX1_near_2 : decode cX1_near 2 = .ok (.invokevirtual 191, 3) := dk_182 0 191 (dk_at dksX1_near_0 2 rfl rfl)
theorem dX1_near_5 : decode cX1_near 5 = .ok (.ifCond .eq 11, 3) := dk_153 0 11 (dk_at dksX1_near_0 5 rfl rfl)
theorem dX1_near_8 : decode cX1_near 8 = .ok (.aload_n 0, 1) := dk_42 (dk_at dksX1_near_0 8 rfl rfl)
theorem dX1_near_9 : decode cX1_near 9 = .ok (.iload_n 2, 1) := dk_28 (dk_at dksX1_near_0 9 rfl rfl)
theorem dX1_near_10 : decode cX1_near 10 = .ok (.invokevirtual 191, 3) := dk_182 0 191 (dk_at dksX1_near_0 10 rfl rfl)
theorem dX1_near_13 : decode cX1_near 13 = .ok (.ifCond .ne 5, 3) := dk_154 0 5 (dk_at dksX1_near_0 13 rfl rfl)
theorem dX1_near_16 : decode cX1_near 16 = .ok (.iconst (-1), 1) := dk_2 (dk_at dksX1_near_0 16 rfl rfl)
theorem dX1_near_17 : decode cX1_near 17 = .ok (.ireturn, 1) := dk_172 (dk_at dksX1_near_0 17 rfl rfl)
theorem dX1_near_18 : decode cX1_near 18 = .ok (.iload_n 3, 1) := dk_29 (dk_at dksX1_near_0 18 rfl rfl)
theorem dX1_near_19 : decode cX1_near 19 = .ok (.tableswitch 99 0 3 #[29, 39, 71, 81], 29) := by decide +kernel
theorem dX1_near_48 : decode cX1_near 48 = .ok (.aload_n 0, 1) := dk_42 (dk_at dksX1_near_2 0 rfl rfl)
theorem dX1_near_49 : decode cX1_near 49 = .ok (.invokevirtual 116, 3) := dk_182 0 116 (dk_at dksX1_near_2 1 rfl rfl)
theorem dX1_near_52 : decode cX1_near 52 = .ok (.iload_n 1, 1) := dk_27 (dk_at dksX1_near_2 4 rfl rfl)
theorem dX1_near_53 : decode cX1_near 53 = .ok (.iload_n 2, 1) := dk_28 (dk_at dksX1_near_2 5 rfl rfl)
theorem dX1_near_54 : decode cX1_near 54 = .ok (.invokevirtual 194, 3) := dk_182 0 194 (dk_at dksX1_near_2 6 rfl rfl)
theorem dX1_near_57 : decode cX1_near 57 = .ok (.ireturn, 1) := dk_172 (dk_at dksX1_near_2 9 rfl rfl)
theorem dX1_near_58 : decode cX1_near 58 = .ok (.aload_n 0, 1) := dk_42 (dk_at dksX1_near_2 10 rfl rfl)
theorem dX1_near_59 : decode cX1_near 59 = .ok (.invokevirtual 116, 3) := dk_182 0 116 (dk_at dksX1_near_2 11 rfl rfl)
theorem dX1_near_62 : decode cX1_near 62 = .ok (.getfield 132, 3) := dk_180 0 132 (dk_at dksX1_near_2 14 rfl rfl)
theorem dX1_near_65 : decode cX1_near 65 = .ok (.iload_n 1, 1) := dk_27 (dk_at dksX1_near_2 17 rfl rfl)
theorem dX1_near_66 : decode cX1_near 66 = .ok (.invokevirtual 150, 3) := dk_182 0 150 (dk_at dksX1_near_2 18 rfl rfl)
theorem dX1_near_69 : decode cX1_near 69 = .ok (.checkcast 197, 3) := dk_192 0 197 (dk_at dksX1_near_2 21 rfl rfl)
theorem dX1_near_72 : decode cX1_near 72 = .ok (.aload_n 0, 1) := dk_42 (dk_at dksX1_near_3 0 rfl rfl)
theorem dX1_near_73 : decode cX1_near 73 = .ok (.invokevirtual 116, 3) := dk_182 0 116 (dk_at dksX1_near_3 1 rfl rfl)
theorem dX1_near_76 : decode cX1_near 76 = .ok (.getfield 132, 3) := dk_180 0 132 (dk_at dksX1_near_3 4 rfl rfl)
theorem dX1_near_79 : decode cX1_near 79 = .ok (.iload_n 2, 1) := dk_28 (dk_at dksX1_near_3 7 rfl rfl)
theorem dX1_near_80 : decode cX1_near 80 = .ok (.invokevirtual 150, 3) := dk_182 0 150 (dk_at dksX1_near_3 8 rfl rfl)
theorem dX1_near_83 : decode cX1_near 83 = .ok (.checkcast 197, 3) := dk_192 0 197 (dk_at dksX1_near_3 11 rfl rfl)
theorem dX1_near_86 : decode cX1_near 86 = .ok (.invokevirtual 199, 3) := dk_182 0 199 (dk_at dksX1_near_3 14 rfl rfl)
theorem dX1_near_89 : decode cX1_near 89 = .ok (.ireturn, 1) := dk_172 (dk_at dksX1_near_3 17 rfl rfl)
theorem dX1_near_90 : decode cX1_near 90 = .ok (.aload_n 0, 1) := dk_42 (dk_at dksX1_near_3 18 rfl rfl)
theorem dX1_near_91 : decode cX1_near 91 = .ok (.invokevirtual 116, 3) := dk_182 0 116 (dk_at dksX1_near_3 19 rfl rfl)
theorem dX1_near_94 : decode cX1_near 94 = .ok (.iload_n 1, 1) := dk_27 (dk_at dksX1_near_3 22 rfl rfl)
theorem dX1_near_95 : decode cX1_near 95 = .ok (.iload_n 2, 1) := dk_28 (dk_at dksX1_near_3 23 rfl rfl)
theorem dX1_near_96 : decode cX1_near 96 = .ok (.invokevirtual 203, 3) := dk_182 0 203 (dk_at dksX1_near_4 0 rfl rfl)
theorem dX1_near_99 : decode cX1_near 99 = .ok (.ireturn, 1) := dk_172 (dk_at dksX1_near_4 3 rfl rfl)
theorem dX1_near_100 : decode cX1_near 100 = .ok (.aload_n 0, 1) := dk_42 (dk_at dksX1_near_4 4 rfl rfl)
theorem dX1_near_101 : decode cX1_near 101 = .ok (.invokevirtual 116, 3) := dk_182 0 116 (dk_at dksX1_near_4 5 rfl rfl)
theorem dX1_near_104 : decode cX1_near 104 = .ok (.iload_n 1, 1) := dk_27 (dk_at dksX1_near_4 8 rfl rfl)
theorem dX1_near_105 : decode cX1_near 105 = .ok (.iload_n 2, 1) := dk_28 (dk_at dksX1_near_4 9 rfl rfl)
theorem dX1_near_106 : decode cX1_near 106 = .ok (.invokevirtual 206, 3) := dk_182 0 206 (dk_at dksX1_near_4 10 rfl rfl)
theorem dX1_near_109 : decode cX1_near 109 = .ok (.ifCond .eq 7, 3) := dk_153 0 7 (dk_at dksX1_near_4 13 rfl rfl)
theorem dX1_near_112 : decode cX1_near 112 = .ok (.iconst 1, 1) := dk_4 (dk_at dksX1_near_4 16 rfl rfl)
theorem dX1_near_113 : decode cX1_near 113 = .ok (.goto 4, 3) := dk_167 0 4 (dk_at dksX1_near_4 17 rfl rfl)
theorem dX1_near_116 : decode cX1_near 116 = .ok (.iconst 0, 1) := dk_3 (dk_at dksX1_near_4 20 rfl rfl)
theorem dX1_near_117 : decode cX1_near 117 = .ok (.ireturn, 1) := dk_172 (dk_at dksX1_near_4 21 rfl rfl)
theorem dX1_near_118 : decode cX1_near 118 = .ok (.iconst (-1), 1) := dk_2 (dk_at dksX1_near_4 22 rfl rfl)
theorem dX1_near_119 : decode cX1_near 119 = .ok (.ireturn, 1) := dk_172 (dk_at dksX1_near_4 23 rfl rfl)
abbrev cX1_isSound : ByteArray := prog_1_method_13_code
def yX1_isSound : MethodName := ⟨RX1, "isSound", "(I)Z"⟩
def dkwX1_isSound_0 : List UInt8 := [27, 3, 42, 182, 0, 141, 4, 100, 184, 0, 137, 172]
abbrev dktX1_isSound_0 : List UInt8 := dkwX1_isSound_0 ++ []
theorem dksX1_isSound_0 : cX1_isSound.data.toList.drop 0 = dktX1_isSound_0 := by decide +kernel
theorem dX1_isSound_0 : decode cX1_isSound 0 = .ok (.iload_n 1, 1) := dk_27 (dk_at dksX1_isSound_0 0 rfl rfl)
theorem dX1_isSound_1 : decode cX1_isSound 1 = .ok (.iconst 0, 1) := dk_3 (dk_at dksX1_isSound_0 1 rfl rfl)
theorem dX1_isSound_2 : decode cX1_isSound 2 = .ok (.aload_n 0, 1) := dk_42 (dk_at dksX1_isSound_0 2 rfl rfl)
theorem dX1_isSound_3 : decode cX1_isSound 3 = .ok (.invokevirtual 141, 3) := dk_182 0 141 (dk_at dksX1_isSound_0 3 rfl rfl)
theorem dX1_isSound_6 : decode cX1_isSound 6 = .ok (.iconst 1, 1) := dk_4 (dk_at dksX1_isSound_0 6 rfl rfl)
theorem dX1_isSound_7 : decode cX1_isSound 7 = .ok (.isub, 1) := dk_100 (dk_at dksX1_isSound_0 7 rfl rfl)
theorem dX1_isSound_8 : decode cX1_isSound 8 = .ok (.invokestatic 137, 3) := dk_184 0 137 (dk_at dksX1_isSound_0 8 rfl rfl)
theorem dX1_isSound_11 : decode cX1_isSound 11 = .ok (.ireturn, 1) := dk_172 (dk_at dksX1_isSound_0 11 rfl rfl)
abbrev cX1_sounds : ByteArray := prog_1_method_11_code
def yX1_sounds : MethodName := ⟨RX1, "sounds", "()I"⟩
def dkwX1_sounds_0 : List UInt8 := [42, 182, 0, 116, 180, 0, 132, 182, 0, 128, 172]
abbrev dktX1_sounds_0 : List UInt8 := dkwX1_sounds_0 ++ []
theorem dksX1_sounds_0 : cX1_sounds.data.toList.drop 0 = dktX1_sounds_0 := by decide +kernel
theorem dX1_sounds_0 : decode cX1_sounds 0 = .ok (.aload_n 0, 1) := dk_42 (dk_at dksX1_sounds_0 0 rfl rfl)
theorem dX1_sounds_1 : decode cX1_sounds 1 = .ok (.invokevirtual 116, 3) := dk_182 0 116 (dk_at dksX1_sounds_0 1 rfl rfl)
theorem dX1_sounds_4 : decode cX1_sounds 4 = .ok (.getfield 132, 3) := dk_180 0 132 (dk_at dksX1_sounds_0 4 rfl rfl)
theorem dX1_sounds_7 : decode cX1_sounds 7 = .ok (.invokevirtual 128, 3) := dk_182 0 128 (dk_at dksX1_sounds_0 7 rfl rfl)
theorem dX1_sounds_10 : decode cX1_sounds 10 = .ok (.ireturn, 1) := dk_172 (dk_at dksX1_sounds_0 10 rfl rfl)
abbrev cX1_says : ByteArray := prog_1_method_17_code
def yX1_says : MethodName := ⟨RX1, "says", "(II)I"⟩
def dkwX1_says_1 : List UInt8 := [182, 0, 212, 153, 0, 7, 4, 167, 0, 8, 3, 167, 0, 4, 2, 172]
abbrev dktX1_says_1 : List UInt8 := dkwX1_says_1 ++ []
def dkwX1_says_0 : List UInt8 := [42, 27, 182, 0, 209, 153, 0, 31, 42, 28, 182, 0, 191, 153, 0, 23, 42, 182, 0, 116, 27, 28]
abbrev dktX1_says_0 : List UInt8 := dkwX1_says_0 ++ dktX1_says_1
theorem dksX1_says_0 : cX1_says.data.toList.drop 0 = dktX1_says_0 := by decide +kernel
theorem dksX1_says_1 : cX1_says.data.toList.drop 22 = dktX1_says_1 := dk_seg dksX1_says_0 22 rfl rfl
theorem dX1_says_0 : decode cX1_says 0 = .ok (.aload_n 0, 1) := dk_42 (dk_at dksX1_says_0 0 rfl rfl)
theorem dX1_says_1 : decode cX1_says 1 = .ok (.iload_n 1, 1) := dk_27 (dk_at dksX1_says_0 1 rfl rfl)
theorem dX1_says_2 : decode cX1_says 2 = .ok (.invokevirtual 209, 3) := dk_182 0 209 (dk_at dksX1_says_0 2 rfl rfl)
theorem dX1_says_5 : decode cX1_says 5 = .ok (.ifCond .eq 31, 3) := dk_153 0 31 (dk_at dksX1_says_0 5 rfl rfl)
theorem dX1_says_8 : decode cX1_says 8 = .ok (.aload_n 0, 1) := dk_42 (dk_at dksX1_says_0 8 rfl rfl)
theorem dX1_says_9 : decode cX1_says 9 = .ok (.iload_n 2, 1) := dk_28 (dk_at dksX1_says_0 9 rfl rfl)
theorem dX1_says_10 : decode cX1_says 10 = .ok (.invokevirtual 191, 3) := dk_182 0 191 (dk_at dksX1_says_0 10 rfl rfl)
theorem dX1_says_13 : decode cX1_says 13 = .ok (.ifCond .eq 23, 3) := dk_153 0 23 (dk_at dksX1_says_0 13 rfl rfl)
theorem dX1_says_16 : decode cX1_says 16 = .ok (.aload_n 0, 1) := dk_42 (dk_at dksX1_says_0 16 rfl rfl)
theorem dX1_says_17 : decode cX1_says 17 = .ok (.invokevirtual 116, 3) := dk_182 0 116 (dk_at dksX1_says_0 17 rfl rfl)
theorem dX1_says_20 : decode cX1_says 20 = .ok (.iload_n 1, 1) := dk_27 (dk_at dksX1_says_0 20 rfl rfl)
theorem dX1_says_21 : decode cX1_says 21 = .ok (.iload_n 2, 1) := dk_28 (dk_at dksX1_says_0 21 rfl rfl)
theorem dX1_says_22 : decode cX1_says 22 = .ok (.invokevirtual 212, 3) := dk_182 0 212 (dk_at dksX1_says_1 0 rfl rfl)
theorem dX1_says_25 : decode cX1_says 25 = .ok (.ifCond .eq 7, 3) := dk_153 0 7 (dk_at dksX1_says_1 3 rfl rfl)
theorem dX1_says_28 : decode cX1_says 28 = .ok (.iconst 1, 1) := dk_4 (dk_at dksX1_says_1 6 rfl rfl)
theorem dX1_says_29 : decode cX1_says 29 = .ok (.goto 8, 3) := dk_167 0 8 (dk_at dksX1_says_1 7 rfl rfl)
theorem dX1_says_32 : decode cX1_says 32 = .ok (.iconst 0, 1) := dk_3 (dk_at dksX1_says_1 10 rfl rfl)
theorem dX1_says_33 : decode cX1_says 33 = .ok (.goto 4, 3) := dk_167 0 4 (dk_at dksX1_says_1 11 rfl rfl)
theorem dX1_says_36 : decode cX1_says 36 = .ok (.iconst (-1), 1) := dk_2 (dk_at dksX1_says_1 14 rfl rfl)
theorem dX1_says_37 : decode cX1_says 37 = .ok (.ireturn, 1) := dk_172 (dk_at dksX1_says_1 15 rfl rfl)
abbrev cX1_isPerson : ByteArray := prog_1_method_14_code
def yX1_isPerson : MethodName := ⟨RX1, "isPerson", "(I)Z"⟩
def dkwX1_isPerson_0 : List UInt8 := [27, 3, 42, 182, 0, 116, 180, 0, 143, 182, 0, 128, 4, 100, 184, 0, 137, 172]
abbrev dktX1_isPerson_0 : List UInt8 := dkwX1_isPerson_0 ++ []
theorem dksX1_isPerson_0 : cX1_isPerson.data.toList.drop 0 = dktX1_isPerson_0 := by decide +kernel
theorem dX1_isPerson_0 : decode cX1_isPerson 0 = .ok (.iload_n 1, 1) := dk_27 (dk_at dksX1_isPerson_0 0 rfl rfl)
theorem dX1_isPerson_1 : decode cX1_isPerson 1 = .ok (.iconst 0, 1) := dk_3 (dk_at dksX1_isPerson_0 1 rfl rfl)
theorem dX1_isPerson_2 : decode cX1_isPerson 2 = .ok (.aload_n 0, 1) := dk_42 (dk_at dksX1_isPerson_0 2 rfl rfl)
theorem dX1_isPerson_3 : decode cX1_isPerson 3 = .ok (.invokevirtual 116, 3) := dk_182 0 116 (dk_at dksX1_isPerson_0 3 rfl rfl)
theorem dX1_isPerson_6 : decode cX1_isPerson 6 = .ok (.getfield 143, 3) := dk_180 0 143 (dk_at dksX1_isPerson_0 6 rfl rfl)
theorem dX1_isPerson_9 : decode cX1_isPerson 9 = .ok (.invokevirtual 128, 3) := dk_182 0 128 (dk_at dksX1_isPerson_0 9 rfl rfl)
theorem dX1_isPerson_12 : decode cX1_isPerson 12 = .ok (.iconst 1, 1) := dk_4 (dk_at dksX1_isPerson_0 12 rfl rfl)
theorem dX1_isPerson_13 : decode cX1_isPerson 13 = .ok (.isub, 1) := dk_100 (dk_at dksX1_isPerson_0 13 rfl rfl)
theorem dX1_isPerson_14 : decode cX1_isPerson 14 = .ok (.invokestatic 137, 3) := dk_184 0 137 (dk_at dksX1_isPerson_0 14 rfl rfl)
theorem dX1_isPerson_17 : decode cX1_isPerson 17 = .ok (.ireturn, 1) := dk_172 (dk_at dksX1_isPerson_0 17 rfl rfl)
abbrev cX1_falls : ByteArray := prog_1_method_19_code
def yX1_falls : MethodName := ⟨RX1, "falls", "(II)I"⟩
def dkwX1_falls_1 : List UInt8 := [182, 0, 222, 167, 0, 4, 2, 172]
abbrev dktX1_falls_1 : List UInt8 := dkwX1_falls_1 ++ []
def dkwX1_falls_0 : List UInt8 := [42, 27, 28, 182, 0, 215, 153, 0, 22, 42, 180, 0, 44, 42, 180, 0, 40, 182, 0, 218, 27, 28]
abbrev dktX1_falls_0 : List UInt8 := dkwX1_falls_0 ++ dktX1_falls_1
theorem dksX1_falls_0 : cX1_falls.data.toList.drop 0 = dktX1_falls_0 := by decide +kernel
theorem dksX1_falls_1 : cX1_falls.data.toList.drop 22 = dktX1_falls_1 := dk_seg dksX1_falls_0 22 rfl rfl
theorem dX1_falls_0 : decode cX1_falls 0 = .ok (.aload_n 0, 1) := dk_42 (dk_at dksX1_falls_0 0 rfl rfl)
theorem dX1_falls_1 : decode cX1_falls 1 = .ok (.iload_n 1, 1) := dk_27 (dk_at dksX1_falls_0 1 rfl rfl)
theorem dX1_falls_2 : decode cX1_falls 2 = .ok (.iload_n 2, 1) := dk_28 (dk_at dksX1_falls_0 2 rfl rfl)
theorem dX1_falls_3 : decode cX1_falls 3 = .ok (.invokevirtual 215, 3) := dk_182 0 215 (dk_at dksX1_falls_0 3 rfl rfl)
theorem dX1_falls_6 : decode cX1_falls 6 = .ok (.ifCond .eq 22, 3) := dk_153 0 22 (dk_at dksX1_falls_0 6 rfl rfl)
theorem dX1_falls_9 : decode cX1_falls 9 = .ok (.aload_n 0, 1) := dk_42 (dk_at dksX1_falls_0 9 rfl rfl)
theorem dX1_falls_10 : decode cX1_falls 10 = .ok (.getfield 44, 3) := dk_180 0 44 (dk_at dksX1_falls_0 10 rfl rfl)
theorem dX1_falls_13 : decode cX1_falls 13 = .ok (.aload_n 0, 1) := dk_42 (dk_at dksX1_falls_0 13 rfl rfl)
theorem dX1_falls_14 : decode cX1_falls 14 = .ok (.getfield 40, 3) := dk_180 0 40 (dk_at dksX1_falls_0 14 rfl rfl)
theorem dX1_falls_17 : decode cX1_falls 17 = .ok (.invokevirtual 218, 3) := dk_182 0 218 (dk_at dksX1_falls_0 17 rfl rfl)
theorem dX1_falls_20 : decode cX1_falls 20 = .ok (.iload_n 1, 1) := dk_27 (dk_at dksX1_falls_0 20 rfl rfl)
theorem dX1_falls_21 : decode cX1_falls 21 = .ok (.iload_n 2, 1) := dk_28 (dk_at dksX1_falls_0 21 rfl rfl)
theorem dX1_falls_22 : decode cX1_falls 22 = .ok (.invokevirtual 222, 3) := dk_182 0 222 (dk_at dksX1_falls_1 0 rfl rfl)
theorem dX1_falls_25 : decode cX1_falls 25 = .ok (.goto 4, 3) := dk_167 0 4 (dk_at dksX1_falls_1 3 rfl rfl)
theorem dX1_falls_28 : decode cX1_falls 28 = .ok (.iconst (-1), 1) := dk_2 (dk_at dksX1_falls_1 6 rfl rfl)
theorem dX1_falls_29 : decode cX1_falls 29 = .ok (.ireturn, 1) := dk_172 (dk_at dksX1_falls_1 7 rfl rfl)
abbrev cX1_mayCall : ByteArray := prog_1_method_18_code
def yX1_mayCall : MethodName := ⟨RX1, "mayCall", "(II)Z"⟩
def dkwX1_mayCall_1 : List UInt8 := [182, 0, 212, 153, 0, 7, 4, 167, 0, 4, 3, 172]
abbrev dktX1_mayCall_1 : List UInt8 := dkwX1_mayCall_1 ++ []
def dkwX1_mayCall_0 : List UInt8 := [42, 27, 182, 0, 209, 153, 0, 27, 42, 28, 182, 0, 191, 153, 0, 19, 42, 182, 0, 116, 27, 28]
abbrev dktX1_mayCall_0 : List UInt8 := dkwX1_mayCall_0 ++ dktX1_mayCall_1
theorem dksX1_mayCall_0 : cX1_mayCall.data.toList.drop 0 = dktX1_mayCall_0 := by decide +kernel
theorem dksX1_mayCall_1 : cX1_mayCall.data.toList.drop 22 = dktX1_mayCall_1 := dk_seg dksX1_mayCall_0 22 rfl rfl
theorem dX1_mayCall_0 : decode cX1_mayCall 0 = .ok (.aload_n 0, 1) := dk_42 (dk_at dksX1_mayCall_0 0 rfl rfl)
theorem dX1_mayCall_1 : decode cX1_mayCall 1 = .ok (.iload_n 1, 1) := dk_27 (dk_at dksX1_mayCall_0 1 rfl rfl)
theorem dX1_mayCall_2 : decode cX1_mayCall 2 = .ok (.invokevirtual 209, 3) := dk_182 0 209 (dk_at dksX1_mayCall_0 2 rfl rfl)
theorem dX1_mayCall_5 : decode cX1_mayCall 5 = .ok (.ifCond .eq 27, 3) := dk_153 0 27 (dk_at dksX1_mayCall_0 5 rfl rfl)
theorem dX1_mayCall_8 : decode cX1_mayCall 8 = .ok (.aload_n 0, 1) := dk_42 (dk_at dksX1_mayCall_0 8 rfl rfl)
theorem dX1_mayCall_9 : decode cX1_mayCall 9 = .ok (.iload_n 2, 1) := dk_28 (dk_at dksX1_mayCall_0 9 rfl rfl)
theorem dX1_mayCall_10 : decode cX1_mayCall 10 = .ok (.invokevirtual 191, 3) := dk_182 0 191 (dk_at dksX1_mayCall_0 10 rfl rfl)
theorem dX1_mayCall_13 : decode cX1_mayCall 13 = .ok (.ifCond .eq 19, 3) := dk_153 0 19 (dk_at dksX1_mayCall_0 13 rfl rfl)
theorem dX1_mayCall_16 : decode cX1_mayCall 16 = .ok (.aload_n 0, 1) := dk_42 (dk_at dksX1_mayCall_0 16 rfl rfl)
theorem dX1_mayCall_17 : decode cX1_mayCall 17 = .ok (.invokevirtual 116, 3) := dk_182 0 116 (dk_at dksX1_mayCall_0 17 rfl rfl)
theorem dX1_mayCall_20 : decode cX1_mayCall 20 = .ok (.iload_n 1, 1) := dk_27 (dk_at dksX1_mayCall_0 20 rfl rfl)
theorem dX1_mayCall_21 : decode cX1_mayCall 21 = .ok (.iload_n 2, 1) := dk_28 (dk_at dksX1_mayCall_0 21 rfl rfl)
theorem dX1_mayCall_22 : decode cX1_mayCall 22 = .ok (.invokevirtual 212, 3) := dk_182 0 212 (dk_at dksX1_mayCall_1 0 rfl rfl)
theorem dX1_mayCall_25 : decode cX1_mayCall 25 = .ok (.ifCond .eq 7, 3) := dk_153 0 7 (dk_at dksX1_mayCall_1 3 rfl rfl)
theorem dX1_mayCall_28 : decode cX1_mayCall 28 = .ok (.iconst 1, 1) := dk_4 (dk_at dksX1_mayCall_1 6 rfl rfl)
theorem dX1_mayCall_29 : decode cX1_mayCall 29 = .ok (.goto 4, 3) := dk_167 0 4 (dk_at dksX1_mayCall_1 7 rfl rfl)
theorem dX1_mayCall_32 : decode cX1_mayCall 32 = .ok (.iconst 0, 1) := dk_3 (dk_at dksX1_mayCall_1 10 rfl rfl)
theorem dX1_mayCall_33 : decode cX1_mayCall 33 = .ok (.ireturn, 1) := dk_172 (dk_at dksX1_mayCall_1 11 rfl rfl)
abbrev cX1_call : ByteArray := prog_1_method_21_code
def yX1_call : MethodName := ⟨RX1, "call", "(II)I"⟩
def dkwX1_call_1 : List UInt8 := [172]
abbrev dktX1_call_1 : List UInt8 := dkwX1_call_1 ++ []
def dkwX1_call_0 : List UInt8 := [42, 27, 28, 182, 0, 215, 154, 0, 5, 2, 172, 42, 182, 0, 236, 42, 180, 0, 40, 27, 28, 182, 0, 222]
abbrev dktX1_call_0 : List UInt8 := dkwX1_call_0 ++ dktX1_call_1
theorem dksX1_call_0 : cX1_call.data.toList.drop 0 = dktX1_call_0 := by decide +kernel
theorem dksX1_call_1 : cX1_call.data.toList.drop 24 = dktX1_call_1 := dk_seg dksX1_call_0 24 rfl rfl
theorem dX1_call_0 : decode cX1_call 0 = .ok (.aload_n 0, 1) := dk_42 (dk_at dksX1_call_0 0 rfl rfl)
theorem dX1_call_1 : decode cX1_call 1 = .ok (.iload_n 1, 1) := dk_27 (dk_at dksX1_call_0 1 rfl rfl)
theorem dX1_call_2 : decode cX1_call 2 = .ok (.iload_n 2, 1) := dk_28 (dk_at dksX1_call_0 2 rfl rfl)
theorem dX1_call_3 : decode cX1_call 3 = .ok (.invokevirtual 215, 3) := dk_182 0 215 (dk_at dksX1_call_0 3 rfl rfl)
theorem dX1_call_6 : decode cX1_call 6 = .ok (.ifCond .ne 5, 3) := dk_154 0 5 (dk_at dksX1_call_0 6 rfl rfl)
theorem dX1_call_9 : decode cX1_call 9 = .ok (.iconst (-1), 1) := dk_2 (dk_at dksX1_call_0 9 rfl rfl)
theorem dX1_call_10 : decode cX1_call 10 = .ok (.ireturn, 1) := dk_172 (dk_at dksX1_call_0 10 rfl rfl)
theorem dX1_call_11 : decode cX1_call 11 = .ok (.aload_n 0, 1) := dk_42 (dk_at dksX1_call_0 11 rfl rfl)
theorem dX1_call_12 : decode cX1_call 12 = .ok (.invokevirtual 236, 3) := dk_182 0 236 (dk_at dksX1_call_0 12 rfl rfl)
theorem dX1_call_15 : decode cX1_call 15 = .ok (.aload_n 0, 1) := dk_42 (dk_at dksX1_call_0 15 rfl rfl)
theorem dX1_call_16 : decode cX1_call 16 = .ok (.getfield 40, 3) := dk_180 0 40 (dk_at dksX1_call_0 16 rfl rfl)
theorem dX1_call_19 : decode cX1_call 19 = .ok (.iload_n 1, 1) := dk_27 (dk_at dksX1_call_0 19 rfl rfl)
theorem dX1_call_20 : decode cX1_call 20 = .ok (.iload_n 2, 1) := dk_28 (dk_at dksX1_call_0 20 rfl rfl)
theorem dX1_call_21 : decode cX1_call 21 = .ok (.invokevirtual 222, 3) := dk_182 0 222 (dk_at dksX1_call_0 21 rfl rfl)
theorem dX1_call_24 : decode cX1_call 24 = .ok (.ireturn, 1) := dk_172 (dk_at dksX1_call_1 0 rfl rfl)
abbrev cX1_keeps : ByteArray := prog_1_method_20_code
def yX1_keeps : MethodName := ⟨RX1, "keeps", "()V"⟩
def dkwX1_keeps_1 : List UInt8 := [180, 0, 64, 42, 180, 0, 40, 182, 0, 228, 182, 0, 232, 87, 177]
abbrev dktX1_keeps_1 : List UInt8 := dkwX1_keeps_1 ++ []
def dkwX1_keeps_0 : List UInt8 := [42, 180, 0, 64, 182, 0, 128, 16, 16, 160, 0, 12, 42, 180, 0, 64, 3, 182, 0, 225, 87, 42]
abbrev dktX1_keeps_0 : List UInt8 := dkwX1_keeps_0 ++ dktX1_keeps_1
theorem dksX1_keeps_0 : cX1_keeps.data.toList.drop 0 = dktX1_keeps_0 := by decide +kernel
theorem dksX1_keeps_1 : cX1_keeps.data.toList.drop 22 = dktX1_keeps_1 := dk_seg dksX1_keeps_0 22 rfl rfl
theorem dX1_keeps_0 : decode cX1_keeps 0 = .ok (.aload_n 0, 1) := dk_42 (dk_at dksX1_keeps_0 0 rfl rfl)
theorem dX1_keeps_1 : decode cX1_keeps 1 = .ok (.getfield 64, 3) := dk_180 0 64 (dk_at dksX1_keeps_0 1 rfl rfl)
theorem dX1_keeps_4 : decode cX1_keeps 4 = .ok (.invokevirtual 128, 3) := dk_182 0 128 (dk_at dksX1_keeps_0 4 rfl rfl)
theorem dX1_keeps_7 : decode cX1_keeps 7 = .ok (.bipush 16, 2) := dk_16 16 (dk_at dksX1_keeps_0 7 rfl rfl)
theorem dX1_keeps_9 : decode cX1_keeps 9 = .ok (.if_icmp .ne 12, 3) := dk_160 0 12 (dk_at dksX1_keeps_0 9 rfl rfl)
theorem dX1_keeps_12 : decode cX1_keeps 12 = .ok (.aload_n 0, 1) := dk_42 (dk_at dksX1_keeps_0 12 rfl rfl)
theorem dX1_keeps_13 : decode cX1_keeps 13 = .ok (.getfield 64, 3) := dk_180 0 64 (dk_at dksX1_keeps_0 13 rfl rfl)
theorem dX1_keeps_16 : decode cX1_keeps 16 = .ok (.iconst 0, 1) := dk_3 (dk_at dksX1_keeps_0 16 rfl rfl)
theorem dX1_keeps_17 : decode cX1_keeps 17 = .ok (.invokevirtual 225, 3) := dk_182 0 225 (dk_at dksX1_keeps_0 17 rfl rfl)
theorem dX1_keeps_20 : decode cX1_keeps 20 = .ok (.pop, 1) := dk_87 (dk_at dksX1_keeps_0 20 rfl rfl)
theorem dX1_keeps_21 : decode cX1_keeps 21 = .ok (.aload_n 0, 1) := dk_42 (dk_at dksX1_keeps_0 21 rfl rfl)
theorem dX1_keeps_22 : decode cX1_keeps 22 = .ok (.getfield 64, 3) := dk_180 0 64 (dk_at dksX1_keeps_1 0 rfl rfl)
theorem dX1_keeps_25 : decode cX1_keeps 25 = .ok (.aload_n 0, 1) := dk_42 (dk_at dksX1_keeps_1 3 rfl rfl)
theorem dX1_keeps_26 : decode cX1_keeps 26 = .ok (.getfield 40, 3) := dk_180 0 40 (dk_at dksX1_keeps_1 4 rfl rfl)
theorem dX1_keeps_29 : decode cX1_keeps 29 = .ok (.invokevirtual 228, 3) := dk_182 0 228 (dk_at dksX1_keeps_1 7 rfl rfl)
theorem dX1_keeps_32 : decode cX1_keeps 32 = .ok (.invokevirtual 232, 3) := dk_182 0 232 (dk_at dksX1_keeps_1 10 rfl rfl)
theorem dX1_keeps_35 : decode cX1_keeps 35 = .ok (.pop, 1) := dk_87 (dk_at dksX1_keeps_1 13 rfl rfl)
theorem dX1_keeps_36 : decode cX1_keeps 36 = .ok (.return_, 1) := dk_177 (dk_at dksX1_keeps_1 14 rfl rfl)
abbrev cX1_pick : ByteArray := prog_1_method_22_code
def yX1_pick : MethodName := ⟨RX1, "pick", "(I)I"⟩
def dkwX1_pick_1 : List UInt8 := [182, 0, 236, 42, 180, 0, 40, 27, 182, 0, 242, 172]
abbrev dktX1_pick_1 : List UInt8 := dkwX1_pick_1 ++ []
def dkwX1_pick_0 : List UInt8 := [42, 27, 182, 0, 146, 153, 0, 14, 42, 180, 0, 40, 27, 182, 0, 239, 154, 0, 5, 2, 172, 42]
abbrev dktX1_pick_0 : List UInt8 := dkwX1_pick_0 ++ dktX1_pick_1
theorem dksX1_pick_0 : cX1_pick.data.toList.drop 0 = dktX1_pick_0 := by decide +kernel
theorem dksX1_pick_1 : cX1_pick.data.toList.drop 22 = dktX1_pick_1 := dk_seg dksX1_pick_0 22 rfl rfl
theorem dX1_pick_0 : decode cX1_pick 0 = .ok (.aload_n 0, 1) := dk_42 (dk_at dksX1_pick_0 0 rfl rfl)
theorem dX1_pick_1 : decode cX1_pick 1 = .ok (.iload_n 1, 1) := dk_27 (dk_at dksX1_pick_0 1 rfl rfl)
theorem dX1_pick_2 : decode cX1_pick 2 = .ok (.invokevirtual 146, 3) := dk_182 0 146 (dk_at dksX1_pick_0 2 rfl rfl)
theorem dX1_pick_5 : decode cX1_pick 5 = .ok (.ifCond .eq 14, 3) := dk_153 0 14 (dk_at dksX1_pick_0 5 rfl rfl)
theorem dX1_pick_8 : decode cX1_pick 8 = .ok (.aload_n 0, 1) := dk_42 (dk_at dksX1_pick_0 8 rfl rfl)
theorem dX1_pick_9 : decode cX1_pick 9 = .ok (.getfield 40, 3) := dk_180 0 40 (dk_at dksX1_pick_0 9 rfl rfl)
theorem dX1_pick_12 : decode cX1_pick 12 = .ok (.iload_n 1, 1) := dk_27 (dk_at dksX1_pick_0 12 rfl rfl)
theorem dX1_pick_13 : decode cX1_pick 13 = .ok (.invokevirtual 239, 3) := dk_182 0 239 (dk_at dksX1_pick_0 13 rfl rfl)
theorem dX1_pick_16 : decode cX1_pick 16 = .ok (.ifCond .ne 5, 3) := dk_154 0 5 (dk_at dksX1_pick_0 16 rfl rfl)
theorem dX1_pick_19 : decode cX1_pick 19 = .ok (.iconst (-1), 1) := dk_2 (dk_at dksX1_pick_0 19 rfl rfl)
theorem dX1_pick_20 : decode cX1_pick 20 = .ok (.ireturn, 1) := dk_172 (dk_at dksX1_pick_0 20 rfl rfl)
theorem dX1_pick_21 : decode cX1_pick 21 = .ok (.aload_n 0, 1) := dk_42 (dk_at dksX1_pick_0 21 rfl rfl)
theorem dX1_pick_22 : decode cX1_pick 22 = .ok (.invokevirtual 236, 3) := dk_182 0 236 (dk_at dksX1_pick_1 0 rfl rfl)
theorem dX1_pick_25 : decode cX1_pick 25 = .ok (.aload_n 0, 1) := dk_42 (dk_at dksX1_pick_1 3 rfl rfl)
theorem dX1_pick_26 : decode cX1_pick 26 = .ok (.getfield 40, 3) := dk_180 0 40 (dk_at dksX1_pick_1 4 rfl rfl)
theorem dX1_pick_29 : decode cX1_pick 29 = .ok (.iload_n 1, 1) := dk_27 (dk_at dksX1_pick_1 7 rfl rfl)
theorem dX1_pick_30 : decode cX1_pick 30 = .ok (.invokevirtual 242, 3) := dk_182 0 242 (dk_at dksX1_pick_1 8 rfl rfl)
theorem dX1_pick_33 : decode cX1_pick 33 = .ok (.ireturn, 1) := dk_172 (dk_at dksX1_pick_1 11 rfl rfl)
abbrev cX1_christen : ByteArray := prog_1_method_23_code
def yX1_christen : MethodName := ⟨RX1, "christen", "(II)Z"⟩
def dkwX1_christen_1 : List UInt8 := [182, 0, 246, 154, 0, 5, 3, 172, 42, 182, 0, 236, 42, 180, 0, 40, 180, 0, 172, 27, 28, 79, 4, 172]
abbrev dktX1_christen_1 : List UInt8 := dkwX1_christen_1 ++ []
def dkwX1_christen_0 : List UInt8 := [42, 27, 182, 0, 146, 153, 0, 23, 42, 28, 182, 0, 191, 153, 0, 15, 42, 180, 0, 40, 27, 28]
abbrev dktX1_christen_0 : List UInt8 := dkwX1_christen_0 ++ dktX1_christen_1
theorem dksX1_christen_0 : cX1_christen.data.toList.drop 0 = dktX1_christen_0 := by decide +kernel
theorem dksX1_christen_1 : cX1_christen.data.toList.drop 22 = dktX1_christen_1 := dk_seg dksX1_christen_0 22 rfl rfl
theorem dX1_christen_0 : decode cX1_christen 0 = .ok (.aload_n 0, 1) := dk_42 (dk_at dksX1_christen_0 0 rfl rfl)
theorem dX1_christen_1 : decode cX1_christen 1 = .ok (.iload_n 1, 1) := dk_27 (dk_at dksX1_christen_0 1 rfl rfl)
theorem dX1_christen_2 : decode cX1_christen 2 = .ok (.invokevirtual 146, 3) := dk_182 0 146 (dk_at dksX1_christen_0 2 rfl rfl)
theorem dX1_christen_5 : decode cX1_christen 5 = .ok (.ifCond .eq 23, 3) := dk_153 0 23 (dk_at dksX1_christen_0 5 rfl rfl)
theorem dX1_christen_8 : decode cX1_christen 8 = .ok (.aload_n 0, 1) := dk_42 (dk_at dksX1_christen_0 8 rfl rfl)
theorem dX1_christen_9 : decode cX1_christen 9 = .ok (.iload_n 2, 1) := dk_28 (dk_at dksX1_christen_0 9 rfl rfl)
theorem dX1_christen_10 : decode cX1_christen 10 = .ok (.invokevirtual 191, 3) := dk_182 0 191 (dk_at dksX1_christen_0 10 rfl rfl)
theorem dX1_christen_13 : decode cX1_christen 13 = .ok (.ifCond .eq 15, 3) := dk_153 0 15 (dk_at dksX1_christen_0 13 rfl rfl)
theorem dX1_christen_16 : decode cX1_christen 16 = .ok (.aload_n 0, 1) := dk_42 (dk_at dksX1_christen_0 16 rfl rfl)
theorem dX1_christen_17 : decode cX1_christen 17 = .ok (.getfield 40, 3) := dk_180 0 40 (dk_at dksX1_christen_0 17 rfl rfl)
theorem dX1_christen_20 : decode cX1_christen 20 = .ok (.iload_n 1, 1) := dk_27 (dk_at dksX1_christen_0 20 rfl rfl)
theorem dX1_christen_21 : decode cX1_christen 21 = .ok (.iload_n 2, 1) := dk_28 (dk_at dksX1_christen_0 21 rfl rfl)
theorem dX1_christen_22 : decode cX1_christen 22 = .ok (.invokevirtual 246, 3) := dk_182 0 246 (dk_at dksX1_christen_1 0 rfl rfl)
theorem dX1_christen_25 : decode cX1_christen 25 = .ok (.ifCond .ne 5, 3) := dk_154 0 5 (dk_at dksX1_christen_1 3 rfl rfl)
theorem dX1_christen_28 : decode cX1_christen 28 = .ok (.iconst 0, 1) := dk_3 (dk_at dksX1_christen_1 6 rfl rfl)
theorem dX1_christen_29 : decode cX1_christen 29 = .ok (.ireturn, 1) := dk_172 (dk_at dksX1_christen_1 7 rfl rfl)
theorem dX1_christen_30 : decode cX1_christen 30 = .ok (.aload_n 0, 1) := dk_42 (dk_at dksX1_christen_1 8 rfl rfl)
theorem dX1_christen_31 : decode cX1_christen 31 = .ok (.invokevirtual 236, 3) := dk_182 0 236 (dk_at dksX1_christen_1 9 rfl rfl)
theorem dX1_christen_34 : decode cX1_christen 34 = .ok (.aload_n 0, 1) := dk_42 (dk_at dksX1_christen_1 12 rfl rfl)
theorem dX1_christen_35 : decode cX1_christen 35 = .ok (.getfield 40, 3) := dk_180 0 40 (dk_at dksX1_christen_1 13 rfl rfl)
theorem dX1_christen_38 : decode cX1_christen 38 = .ok (.getfield 172, 3) := dk_180 0 172 (dk_at dksX1_christen_1 16 rfl rfl)
theorem dX1_christen_41 : decode cX1_christen 41 = .ok (.iload_n 1, 1) := dk_27 (dk_at dksX1_christen_1 19 rfl rfl)
theorem dX1_christen_42 : decode cX1_christen 42 = .ok (.iload_n 2, 1) := dk_28 (dk_at dksX1_christen_1 20 rfl rfl)
theorem dX1_christen_43 : decode cX1_christen 43 = .ok (.iastore, 1) := dk_79 (dk_at dksX1_christen_1 21 rfl rfl)
theorem dX1_christen_44 : decode cX1_christen 44 = .ok (.iconst 1, 1) := dk_4 (dk_at dksX1_christen_1 22 rfl rfl)
theorem dX1_christen_45 : decode cX1_christen 45 = .ok (.ireturn, 1) := dk_172 (dk_at dksX1_christen_1 23 rfl rfl)
abbrev cX1_pass : ByteArray := prog_1_method_24_code
def yX1_pass : MethodName := ⟨RX1, "pass", "(I)I"⟩
def dkwX1_pass_1 : List UInt8 := [180, 0, 40, 182, 0, 249, 132, 2, 1, 167, 255, 241, 42, 180, 0, 40, 180, 0, 184, 172]
abbrev dktX1_pass_1 : List UInt8 := dkwX1_pass_1 ++ []
def dkwX1_pass_0 : List UInt8 := [27, 4, 16, 30, 184, 0, 137, 154, 0, 5, 2, 172, 42, 182, 0, 236, 3, 61, 28, 27, 162, 0, 16, 42]
abbrev dktX1_pass_0 : List UInt8 := dkwX1_pass_0 ++ dktX1_pass_1
theorem dksX1_pass_0 : cX1_pass.data.toList.drop 0 = dktX1_pass_0 := by decide +kernel
theorem dksX1_pass_1 : cX1_pass.data.toList.drop 24 = dktX1_pass_1 := dk_seg dksX1_pass_0 24 rfl rfl
theorem dX1_pass_0 : decode cX1_pass 0 = .ok (.iload_n 1, 1) := dk_27 (dk_at dksX1_pass_0 0 rfl rfl)
theorem dX1_pass_1 : decode cX1_pass 1 = .ok (.iconst 1, 1) := dk_4 (dk_at dksX1_pass_0 1 rfl rfl)
theorem dX1_pass_2 : decode cX1_pass 2 = .ok (.bipush 30, 2) := dk_16 30 (dk_at dksX1_pass_0 2 rfl rfl)
theorem dX1_pass_4 : decode cX1_pass 4 = .ok (.invokestatic 137, 3) := dk_184 0 137 (dk_at dksX1_pass_0 4 rfl rfl)
theorem dX1_pass_7 : decode cX1_pass 7 = .ok (.ifCond .ne 5, 3) := dk_154 0 5 (dk_at dksX1_pass_0 7 rfl rfl)
theorem dX1_pass_10 : decode cX1_pass 10 = .ok (.iconst (-1), 1) := dk_2 (dk_at dksX1_pass_0 10 rfl rfl)
theorem dX1_pass_11 : decode cX1_pass 11 = .ok (.ireturn, 1) := dk_172 (dk_at dksX1_pass_0 11 rfl rfl)
theorem dX1_pass_12 : decode cX1_pass 12 = .ok (.aload_n 0, 1) := dk_42 (dk_at dksX1_pass_0 12 rfl rfl)
theorem dX1_pass_13 : decode cX1_pass 13 = .ok (.invokevirtual 236, 3) := dk_182 0 236 (dk_at dksX1_pass_0 13 rfl rfl)
theorem dX1_pass_16 : decode cX1_pass 16 = .ok (.iconst 0, 1) := dk_3 (dk_at dksX1_pass_0 16 rfl rfl)
theorem dX1_pass_17 : decode cX1_pass 17 = .ok (.istore_n 2, 1) := dk_61 (dk_at dksX1_pass_0 17 rfl rfl)
theorem dX1_pass_18 : decode cX1_pass 18 = .ok (.iload_n 2, 1) := dk_28 (dk_at dksX1_pass_0 18 rfl rfl)
theorem dX1_pass_19 : decode cX1_pass 19 = .ok (.iload_n 1, 1) := dk_27 (dk_at dksX1_pass_0 19 rfl rfl)
theorem dX1_pass_20 : decode cX1_pass 20 = .ok (.if_icmp .ge 16, 3) := dk_162 0 16 (dk_at dksX1_pass_0 20 rfl rfl)
theorem dX1_pass_23 : decode cX1_pass 23 = .ok (.aload_n 0, 1) := dk_42 (dk_at dksX1_pass_0 23 rfl rfl)
theorem dX1_pass_24 : decode cX1_pass 24 = .ok (.getfield 40, 3) := dk_180 0 40 (dk_at dksX1_pass_1 0 rfl rfl)
theorem dX1_pass_27 : decode cX1_pass 27 = .ok (.invokevirtual 249, 3) := dk_182 0 249 (dk_at dksX1_pass_1 3 rfl rfl)
theorem dX1_pass_30 : decode cX1_pass 30 = .ok (.iinc 2 1, 3) := dk_132 2 1 (dk_at dksX1_pass_1 6 rfl rfl)
theorem dX1_pass_33 : decode cX1_pass 33 = .ok (.goto (-15), 3) := dk_167 255 241 (dk_at dksX1_pass_1 9 rfl rfl)
theorem dX1_pass_36 : decode cX1_pass 36 = .ok (.aload_n 0, 1) := dk_42 (dk_at dksX1_pass_1 12 rfl rfl)
theorem dX1_pass_37 : decode cX1_pass 37 = .ok (.getfield 40, 3) := dk_180 0 40 (dk_at dksX1_pass_1 13 rfl rfl)
theorem dX1_pass_40 : decode cX1_pass 40 = .ok (.getfield 184, 3) := dk_180 0 184 (dk_at dksX1_pass_1 16 rfl rfl)
theorem dX1_pass_43 : decode cX1_pass 43 = .ok (.ireturn, 1) := dk_172 (dk_at dksX1_pass_1 19 rfl rfl)
abbrev cX1_undo : ByteArray := prog_1_method_25_code
def yX1_undo : MethodName := ⟨RX1, "undo", "()Z"⟩
def dkwX1_undo_1 : List UInt8 := [4, 100, 182, 0, 225, 192, 0, 30, 181, 0, 40, 4, 172]
abbrev dktX1_undo_1 : List UInt8 := dkwX1_undo_1 ++ []
def dkwX1_undo_0 : List UInt8 := [42, 180, 0, 64, 182, 0, 252, 153, 0, 5, 3, 172, 42, 42, 180, 0, 64, 42, 180, 0, 64, 182, 0, 128]
abbrev dktX1_undo_0 : List UInt8 := dkwX1_undo_0 ++ dktX1_undo_1
theorem dksX1_undo_0 : cX1_undo.data.toList.drop 0 = dktX1_undo_0 := by decide +kernel
theorem dksX1_undo_1 : cX1_undo.data.toList.drop 24 = dktX1_undo_1 := dk_seg dksX1_undo_0 24 rfl rfl
theorem dX1_undo_0 : decode cX1_undo 0 = .ok (.aload_n 0, 1) := dk_42 (dk_at dksX1_undo_0 0 rfl rfl)
theorem dX1_undo_1 : decode cX1_undo 1 = .ok (.getfield 64, 3) := dk_180 0 64 (dk_at dksX1_undo_0 1 rfl rfl)
theorem dX1_undo_4 : decode cX1_undo 4 = .ok (.invokevirtual 252, 3) := dk_182 0 252 (dk_at dksX1_undo_0 4 rfl rfl)
theorem dX1_undo_7 : decode cX1_undo 7 = .ok (.ifCond .eq 5, 3) := dk_153 0 5 (dk_at dksX1_undo_0 7 rfl rfl)
theorem dX1_undo_10 : decode cX1_undo 10 = .ok (.iconst 0, 1) := dk_3 (dk_at dksX1_undo_0 10 rfl rfl)
theorem dX1_undo_11 : decode cX1_undo 11 = .ok (.ireturn, 1) := dk_172 (dk_at dksX1_undo_0 11 rfl rfl)
theorem dX1_undo_12 : decode cX1_undo 12 = .ok (.aload_n 0, 1) := dk_42 (dk_at dksX1_undo_0 12 rfl rfl)
theorem dX1_undo_13 : decode cX1_undo 13 = .ok (.aload_n 0, 1) := dk_42 (dk_at dksX1_undo_0 13 rfl rfl)
theorem dX1_undo_14 : decode cX1_undo 14 = .ok (.getfield 64, 3) := dk_180 0 64 (dk_at dksX1_undo_0 14 rfl rfl)
theorem dX1_undo_17 : decode cX1_undo 17 = .ok (.aload_n 0, 1) := dk_42 (dk_at dksX1_undo_0 17 rfl rfl)
theorem dX1_undo_18 : decode cX1_undo 18 = .ok (.getfield 64, 3) := dk_180 0 64 (dk_at dksX1_undo_0 18 rfl rfl)
theorem dX1_undo_21 : decode cX1_undo 21 = .ok (.invokevirtual 128, 3) := dk_182 0 128 (dk_at dksX1_undo_0 21 rfl rfl)
theorem dX1_undo_24 : decode cX1_undo 24 = .ok (.iconst 1, 1) := dk_4 (dk_at dksX1_undo_1 0 rfl rfl)
theorem dX1_undo_25 : decode cX1_undo 25 = .ok (.isub, 1) := dk_100 (dk_at dksX1_undo_1 1 rfl rfl)
theorem dX1_undo_26 : decode cX1_undo 26 = .ok (.invokevirtual 225, 3) := dk_182 0 225 (dk_at dksX1_undo_1 2 rfl rfl)
theorem dX1_undo_29 : decode cX1_undo 29 = .ok (.checkcast 30, 3) := dk_192 0 30 (dk_at dksX1_undo_1 5 rfl rfl)
theorem dX1_undo_32 : decode cX1_undo 32 = .ok (.putfield 40, 3) := dk_181 0 40 (dk_at dksX1_undo_1 8 rfl rfl)
theorem dX1_undo_35 : decode cX1_undo 35 = .ok (.iconst 1, 1) := dk_4 (dk_at dksX1_undo_1 11 rfl rfl)
theorem dX1_undo_36 : decode cX1_undo 36 = .ok (.ireturn, 1) := dk_172 (dk_at dksX1_undo_1 12 rfl rfl)
abbrev cX1_judged : ByteArray := prog_1_method_26_code
def yX1_judged : MethodName := ⟨RX1, "judged", "(I)I"⟩
def dkwX1_judged_6 : List UInt8 := [4, 160, 0, 7, 29, 167, 0, 10, 42, 180, 0, 44, 180, 1, 14, 172]
abbrev dktX1_judged_6 : List UInt8 := dkwX1_judged_6 ++ []
def dkwX1_judged_5 : List UInt8 := [182, 1, 11, 158, 0, 6, 21, 4, 62, 132, 4, 1, 167, 255, 160, 27, 154, 0, 7, 28, 167, 0, 19, 27]
abbrev dktX1_judged_5 : List UInt8 := dkwX1_judged_5 ++ dktX1_judged_6
def dkwX1_judged_4 : List UInt8 := [193, 1, 9, 154, 0, 28, 42, 180, 0, 44, 21, 5, 42, 180, 0, 44, 180, 1, 0, 2, 130, 126]
abbrev dktX1_judged_4 : List UInt8 := dkwX1_judged_4 ++ dktX1_judged_5
def dkwX1_judged_3 : List UInt8 := [180, 0, 44, 182, 1, 5, 154, 0, 11, 28, 2, 160, 0, 6, 21, 4, 61, 29, 2, 160, 0, 36, 25, 6]
abbrev dktX1_judged_3 : List UInt8 := dkwX1_judged_3 ++ dktX1_judged_4
def dkwX1_judged_2 : List UInt8 := [180, 1, 0, 54, 5, 42, 180, 0, 52, 21, 4, 182, 0, 150, 192, 1, 3, 58, 6, 25, 6, 42]
abbrev dktX1_judged_2 : List UInt8 := dkwX1_judged_2 ++ dktX1_judged_3
def dkwX1_judged_1 : List UInt8 := [2, 61, 2, 62, 3, 54, 4, 21, 4, 42, 180, 0, 52, 182, 0, 128, 162, 0, 90, 42, 180, 0, 44]
abbrev dktX1_judged_1 : List UInt8 := dkwX1_judged_1 ++ dktX1_judged_2
def dkwX1_judged_0 : List UInt8 := [27, 3, 5, 184, 0, 137, 154, 0, 6, 16, 254, 172, 42, 180, 0, 44, 42, 182, 0, 116, 182, 0, 36, 87]
abbrev dktX1_judged_0 : List UInt8 := dkwX1_judged_0 ++ dktX1_judged_1
theorem dksX1_judged_0 : cX1_judged.data.toList.drop 0 = dktX1_judged_0 := by decide +kernel
theorem dksX1_judged_1 : cX1_judged.data.toList.drop 24 = dktX1_judged_1 := dk_seg dksX1_judged_0 24 rfl rfl
theorem dksX1_judged_2 : cX1_judged.data.toList.drop 47 = dktX1_judged_2 := dk_seg dksX1_judged_1 23 rfl rfl
theorem dksX1_judged_3 : cX1_judged.data.toList.drop 69 = dktX1_judged_3 := dk_seg dksX1_judged_2 22 rfl rfl
theorem dksX1_judged_4 : cX1_judged.data.toList.drop 93 = dktX1_judged_4 := dk_seg dksX1_judged_3 24 rfl rfl
theorem dksX1_judged_5 : cX1_judged.data.toList.drop 115 = dktX1_judged_5 := dk_seg dksX1_judged_4 22 rfl rfl
theorem dksX1_judged_6 : cX1_judged.data.toList.drop 139 = dktX1_judged_6 := dk_seg dksX1_judged_5 24 rfl rfl
theorem dX1_judged_0 : decode cX1_judged 0 = .ok (.iload_n 1, 1) := dk_27 (dk_at dksX1_judged_0 0 rfl rfl)
theorem dX1_judged_1 : decode cX1_judged 1 = .ok (.iconst 0, 1) := dk_3 (dk_at dksX1_judged_0 1 rfl rfl)
theorem dX1_judged_2 : decode cX1_judged 2 = .ok (.iconst 2, 1) := dk_5 (dk_at dksX1_judged_0 2 rfl rfl)
theorem dX1_judged_3 : decode cX1_judged 3 = .ok (.invokestatic 137, 3) := dk_184 0 137 (dk_at dksX1_judged_0 3 rfl rfl)
theorem dX1_judged_6 : decode cX1_judged 6 = .ok (.ifCond .ne 6, 3) := dk_154 0 6 (dk_at dksX1_judged_0 6 rfl rfl)
theorem dX1_judged_9 : decode cX1_judged 9 = .ok (.bipush (-2), 2) := dk_16 254 (dk_at dksX1_judged_0 9 rfl rfl)
theorem dX1_judged_11 : decode cX1_judged 11 = .ok (.ireturn, 1) := dk_172 (dk_at dksX1_judged_0 11 rfl rfl)
theorem dX1_judged_12 : decode cX1_judged 12 = .ok (.aload_n 0, 1) := dk_42 (dk_at dksX1_judged_0 12 rfl rfl)
theorem dX1_judged_13 : decode cX1_judged 13 = .ok (.getfield 44, 3) := dk_180 0 44 (dk_at dksX1_judged_0 13 rfl rfl)
theorem dX1_judged_16 : decode cX1_judged 16 = .ok (.aload_n 0, 1) := dk_42 (dk_at dksX1_judged_0 16 rfl rfl)
theorem dX1_judged_17 : decode cX1_judged 17 = .ok (.invokevirtual 116, 3) := dk_182 0 116 (dk_at dksX1_judged_0 17 rfl rfl)
theorem dX1_judged_20 : decode cX1_judged 20 = .ok (.invokevirtual 36, 3) := dk_182 0 36 (dk_at dksX1_judged_0 20 rfl rfl)
theorem dX1_judged_23 : decode cX1_judged 23 = .ok (.pop, 1) := dk_87 (dk_at dksX1_judged_0 23 rfl rfl)
theorem dX1_judged_24 : decode cX1_judged 24 = .ok (.iconst (-1), 1) := dk_2 (dk_at dksX1_judged_1 0 rfl rfl)
theorem dX1_judged_25 : decode cX1_judged 25 = .ok (.istore_n 2, 1) := dk_61 (dk_at dksX1_judged_1 1 rfl rfl)
theorem dX1_judged_26 : decode cX1_judged 26 = .ok (.iconst (-1), 1) := dk_2 (dk_at dksX1_judged_1 2 rfl rfl)
theorem dX1_judged_27 : decode cX1_judged 27 = .ok (.istore_n 3, 1) := dk_62 (dk_at dksX1_judged_1 3 rfl rfl)
theorem dX1_judged_28 : decode cX1_judged 28 = .ok (.iconst 0, 1) := dk_3 (dk_at dksX1_judged_1 4 rfl rfl)
theorem dX1_judged_29 : decode cX1_judged 29 = .ok (.istore 4, 2) := dk_54 4 (dk_at dksX1_judged_1 5 rfl rfl)
theorem dX1_judged_31 : decode cX1_judged 31 = .ok (.iload 4, 2) := dk_21 4 (dk_at dksX1_judged_1 7 rfl rfl)
theorem dX1_judged_33 : decode cX1_judged 33 = .ok (.aload_n 0, 1) := dk_42 (dk_at dksX1_judged_1 9 rfl rfl)
theorem dX1_judged_34 : decode cX1_judged 34 = .ok (.getfield 52, 3) := dk_180 0 52 (dk_at dksX1_judged_1 10 rfl rfl)
theorem dX1_judged_37 : decode cX1_judged 37 = .ok (.invokevirtual 128, 3) := dk_182 0 128 (dk_at dksX1_judged_1 13 rfl rfl)
theorem dX1_judged_40 : decode cX1_judged 40 = .ok (.if_icmp .ge 90, 3) := dk_162 0 90 (dk_at dksX1_judged_1 16 rfl rfl)
theorem dX1_judged_43 : decode cX1_judged 43 = .ok (.aload_n 0, 1) := dk_42 (dk_at dksX1_judged_1 19 rfl rfl)
theorem dX1_judged_44 : decode cX1_judged 44 = .ok (.getfield 44, 3) := dk_180 0 44 (dk_at dksX1_judged_1 20 rfl rfl)
theorem dX1_judged_47 : decode cX1_judged 47 = .ok (.getfield 256, 3) := dk_180 1 0 (dk_at dksX1_judged_2 0 rfl rfl)
theorem dX1_judged_50 : decode cX1_judged 50 = .ok (.istore 5, 2) := dk_54 5 (dk_at dksX1_judged_2 3 rfl rfl)
theorem dX1_judged_52 : decode cX1_judged 52 = .ok (.aload_n 0, 1) := dk_42 (dk_at dksX1_judged_2 5 rfl rfl)
theorem dX1_judged_53 : decode cX1_judged 53 = .ok (.getfield 52, 3) := dk_180 0 52 (dk_at dksX1_judged_2 6 rfl rfl)
theorem dX1_judged_56 : decode cX1_judged 56 = .ok (.iload 4, 2) := dk_21 4 (dk_at dksX1_judged_2 9 rfl rfl)
theorem dX1_judged_58 : decode cX1_judged 58 = .ok (.invokevirtual 150, 3) := dk_182 0 150 (dk_at dksX1_judged_2 11 rfl rfl)
theorem dX1_judged_61 : decode cX1_judged 61 = .ok (.checkcast 259, 3) := dk_192 1 3 (dk_at dksX1_judged_2 14 rfl rfl)
theorem dX1_judged_64 : decode cX1_judged 64 = .ok (.astore 6, 2) := dk_58 6 (dk_at dksX1_judged_2 17 rfl rfl)
theorem dX1_judged_66 : decode cX1_judged 66 = .ok (.aload 6, 2) := dk_25 6 (dk_at dksX1_judged_2 19 rfl rfl)
theorem dX1_judged_68 : decode cX1_judged 68 = .ok (.aload_n 0, 1) := dk_42 (dk_at dksX1_judged_2 21 rfl rfl)
theorem dX1_judged_69 : decode cX1_judged 69 = .ok (.getfield 44, 3) := dk_180 0 44 (dk_at dksX1_judged_3 0 rfl rfl)
theorem dX1_judged_72 : decode cX1_judged 72 = .ok (.invokevirtual 261, 3) := dk_182 1 5 (dk_at dksX1_judged_3 3 rfl rfl)
theorem dX1_judged_75 : decode cX1_judged 75 = .ok (.ifCond .ne 11, 3) := dk_154 0 11 (dk_at dksX1_judged_3 6 rfl rfl)
theorem dX1_judged_78 : decode cX1_judged 78 = .ok (.iload_n 2, 1) := dk_28 (dk_at dksX1_judged_3 9 rfl rfl)
theorem dX1_judged_79 : decode cX1_judged 79 = .ok (.iconst (-1), 1) := dk_2 (dk_at dksX1_judged_3 10 rfl rfl)
theorem dX1_judged_80 : decode cX1_judged 80 = .ok (.if_icmp .ne 6, 3) := dk_160 0 6 (dk_at dksX1_judged_3 11 rfl rfl)
theorem dX1_judged_83 : decode cX1_judged 83 = .ok (.iload 4, 2) := dk_21 4 (dk_at dksX1_judged_3 14 rfl rfl)
theorem dX1_judged_85 : decode cX1_judged 85 = .ok (.istore_n 2, 1) := dk_61 (dk_at dksX1_judged_3 16 rfl rfl)
theorem dX1_judged_86 : decode cX1_judged 86 = .ok (.iload_n 3, 1) := dk_29 (dk_at dksX1_judged_3 17 rfl rfl)
theorem dX1_judged_87 : decode cX1_judged 87 = .ok (.iconst (-1), 1) := dk_2 (dk_at dksX1_judged_3 18 rfl rfl)
theorem dX1_judged_88 : decode cX1_judged 88 = .ok (.if_icmp .ne 36, 3) := dk_160 0 36 (dk_at dksX1_judged_3 19 rfl rfl)
theorem dX1_judged_91 : decode cX1_judged 91 = .ok (.aload 6, 2) := dk_25 6 (dk_at dksX1_judged_3 22 rfl rfl)
theorem dX1_judged_93 : decode cX1_judged 93 = .ok (.instanceof 265, 3) := dk_193 1 9 (dk_at dksX1_judged_4 0 rfl rfl)
theorem dX1_judged_96 : decode cX1_judged 96 = .ok (.ifCond .ne 28, 3) := dk_154 0 28 (dk_at dksX1_judged_4 3 rfl rfl)
theorem dX1_judged_99 : decode cX1_judged 99 = .ok (.aload_n 0, 1) := dk_42 (dk_at dksX1_judged_4 6 rfl rfl)
theorem dX1_judged_100 : decode cX1_judged 100 = .ok (.getfield 44, 3) := dk_180 0 44 (dk_at dksX1_judged_4 7 rfl rfl)
theorem dX1_judged_103 : decode cX1_judged 103 = .ok (.iload 5, 2) := dk_21 5 (dk_at dksX1_judged_4 10 rfl rfl)
theorem dX1_judged_105 : decode cX1_judged 105 = .ok (.aload_n 0, 1) := dk_42 (dk_at dksX1_judged_4 12 rfl rfl)
theorem dX1_judged_106 : decode cX1_judged 106 = .ok (.getfield 44, 3) := dk_180 0 44 (dk_at dksX1_judged_4 13 rfl rfl)
theorem dX1_judged_109 : decode cX1_judged 109 = .ok (.getfield 256, 3) := dk_180 1 0 (dk_at dksX1_judged_4 16 rfl rfl)
theorem dX1_judged_112 : decode cX1_judged 112 = .ok (.iconst (-1), 1) := dk_2 (dk_at dksX1_judged_4 19 rfl rfl)
theorem dX1_judged_113 : decode cX1_judged 113 = .ok (.ixor, 1) := dk_130 (dk_at dksX1_judged_4 20 rfl rfl)
theorem dX1_judged_114 : decode cX1_judged 114 = .ok (.iand, 1) := dk_126 (dk_at dksX1_judged_4 21 rfl rfl)
theorem dX1_judged_115 : decode cX1_judged 115 = .ok (.invokevirtual 267, 3) := dk_182 1 11 (dk_at dksX1_judged_5 0 rfl rfl)
theorem dX1_judged_118 : decode cX1_judged 118 = .ok (.ifCond .le 6, 3) := dk_158 0 6 (dk_at dksX1_judged_5 3 rfl rfl)
theorem dX1_judged_121 : decode cX1_judged 121 = .ok (.iload 4, 2) := dk_21 4 (dk_at dksX1_judged_5 6 rfl rfl)
theorem dX1_judged_123 : decode cX1_judged 123 = .ok (.istore_n 3, 1) := dk_62 (dk_at dksX1_judged_5 8 rfl rfl)
theorem dX1_judged_124 : decode cX1_judged 124 = .ok (.iinc 4 1, 3) := dk_132 4 1 (dk_at dksX1_judged_5 9 rfl rfl)
theorem dX1_judged_127 : decode cX1_judged 127 = .ok (.goto (-96), 3) := dk_167 255 160 (dk_at dksX1_judged_5 12 rfl rfl)
theorem dX1_judged_130 : decode cX1_judged 130 = .ok (.iload_n 1, 1) := dk_27 (dk_at dksX1_judged_5 15 rfl rfl)
theorem dX1_judged_131 : decode cX1_judged 131 = .ok (.ifCond .ne 7, 3) := dk_154 0 7 (dk_at dksX1_judged_5 16 rfl rfl)
theorem dX1_judged_134 : decode cX1_judged 134 = .ok (.iload_n 2, 1) := dk_28 (dk_at dksX1_judged_5 19 rfl rfl)
theorem dX1_judged_135 : decode cX1_judged 135 = .ok (.goto 19, 3) := dk_167 0 19 (dk_at dksX1_judged_5 20 rfl rfl)
theorem dX1_judged_138 : decode cX1_judged 138 = .ok (.iload_n 1, 1) := dk_27 (dk_at dksX1_judged_5 23 rfl rfl)
theorem dX1_judged_139 : decode cX1_judged 139 = .ok (.iconst 1, 1) := dk_4 (dk_at dksX1_judged_6 0 rfl rfl)
theorem dX1_judged_140 : decode cX1_judged 140 = .ok (.if_icmp .ne 7, 3) := dk_160 0 7 (dk_at dksX1_judged_6 1 rfl rfl)
theorem dX1_judged_143 : decode cX1_judged 143 = .ok (.iload_n 3, 1) := dk_29 (dk_at dksX1_judged_6 4 rfl rfl)
theorem dX1_judged_144 : decode cX1_judged 144 = .ok (.goto 10, 3) := dk_167 0 10 (dk_at dksX1_judged_6 5 rfl rfl)
theorem dX1_judged_147 : decode cX1_judged 147 = .ok (.aload_n 0, 1) := dk_42 (dk_at dksX1_judged_6 8 rfl rfl)
theorem dX1_judged_148 : decode cX1_judged 148 = .ok (.getfield 44, 3) := dk_180 0 44 (dk_at dksX1_judged_6 9 rfl rfl)
theorem dX1_judged_151 : decode cX1_judged 151 = .ok (.getfield 270, 3) := dk_180 1 14 (dk_at dksX1_judged_6 12 rfl rfl)
theorem dX1_judged_154 : decode cX1_judged 154 = .ok (.ireturn, 1) := dk_172 (dk_at dksX1_judged_6 15 rfl rfl)
abbrev cX1_crop : ByteArray := prog_1_method_27_code
def yX1_crop : MethodName := ⟨RX1, "crop", "(II)I"⟩
def dkwX1_crop_2 : List UInt8 := [182, 1, 23, 62, 28, 154, 0, 7, 29, 167, 0, 10, 42, 180, 0, 79, 180, 1, 20, 172]
abbrev dktX1_crop_2 : List UInt8 := dkwX1_crop_2 ++ []
def dkwX1_crop_1 : List UInt8 := [180, 0, 79, 182, 1, 17, 42, 180, 0, 79, 2, 181, 1, 20, 42, 180, 0, 79, 42, 180, 0, 40, 27]
abbrev dktX1_crop_1 : List UInt8 := dkwX1_crop_1 ++ dktX1_crop_2
def dkwX1_crop_0 : List UInt8 := [27, 3, 6, 184, 0, 137, 153, 0, 12, 28, 3, 4, 184, 0, 137, 154, 0, 6, 16, 254, 172, 42]
abbrev dktX1_crop_0 : List UInt8 := dkwX1_crop_0 ++ dktX1_crop_1
theorem dksX1_crop_0 : cX1_crop.data.toList.drop 0 = dktX1_crop_0 := by decide +kernel
theorem dksX1_crop_1 : cX1_crop.data.toList.drop 22 = dktX1_crop_1 := dk_seg dksX1_crop_0 22 rfl rfl
theorem dksX1_crop_2 : cX1_crop.data.toList.drop 45 = dktX1_crop_2 := dk_seg dksX1_crop_1 23 rfl rfl
theorem dX1_crop_0 : decode cX1_crop 0 = .ok (.iload_n 1, 1) := dk_27 (dk_at dksX1_crop_0 0 rfl rfl)
theorem dX1_crop_1 : decode cX1_crop 1 = .ok (.iconst 0, 1) := dk_3 (dk_at dksX1_crop_0 1 rfl rfl)
theorem dX1_crop_2 : decode cX1_crop 2 = .ok (.iconst 3, 1) := dk_6 (dk_at dksX1_crop_0 2 rfl rfl)
theorem dX1_crop_3 : decode cX1_crop 3 = .ok (.invokestatic 137, 3) := dk_184 0 137 (dk_at dksX1_crop_0 3 rfl rfl)
theorem dX1_crop_6 : decode cX1_crop 6 = .ok (.ifCond .eq 12, 3) := dk_153 0 12 (dk_at dksX1_crop_0 6 rfl rfl)
theorem dX1_crop_9 : decode cX1_crop 9 = .ok (.iload_n 2, 1) := dk_28 (dk_at dksX1_crop_0 9 rfl rfl)
theorem dX1_crop_10 : decode cX1_crop 10 = .ok (.iconst 0, 1) := dk_3 (dk_at dksX1_crop_0 10 rfl rfl)
theorem dX1_crop_11 : decode cX1_crop 11 = .ok (.iconst 1, 1) := dk_4 (dk_at dksX1_crop_0 11 rfl rfl)
theorem dX1_crop_12 : decode cX1_crop 12 = .ok (.invokestatic 137, 3) := dk_184 0 137 (dk_at dksX1_crop_0 12 rfl rfl)
theorem dX1_crop_15 : decode cX1_crop 15 = .ok (.ifCond .ne 6, 3) := dk_154 0 6 (dk_at dksX1_crop_0 15 rfl rfl)
theorem dX1_crop_18 : decode cX1_crop 18 = .ok (.bipush (-2), 2) := dk_16 254 (dk_at dksX1_crop_0 18 rfl rfl)
theorem dX1_crop_20 : decode cX1_crop 20 = .ok (.ireturn, 1) := dk_172 (dk_at dksX1_crop_0 20 rfl rfl)
theorem dX1_crop_21 : decode cX1_crop 21 = .ok (.aload_n 0, 1) := dk_42 (dk_at dksX1_crop_0 21 rfl rfl)
theorem dX1_crop_22 : decode cX1_crop 22 = .ok (.getfield 79, 3) := dk_180 0 79 (dk_at dksX1_crop_1 0 rfl rfl)
theorem dX1_crop_25 : decode cX1_crop 25 = .ok (.invokevirtual 273, 3) := dk_182 1 17 (dk_at dksX1_crop_1 3 rfl rfl)
theorem dX1_crop_28 : decode cX1_crop 28 = .ok (.aload_n 0, 1) := dk_42 (dk_at dksX1_crop_1 6 rfl rfl)
theorem dX1_crop_29 : decode cX1_crop 29 = .ok (.getfield 79, 3) := dk_180 0 79 (dk_at dksX1_crop_1 7 rfl rfl)
theorem dX1_crop_32 : decode cX1_crop 32 = .ok (.iconst (-1), 1) := dk_2 (dk_at dksX1_crop_1 10 rfl rfl)
theorem dX1_crop_33 : decode cX1_crop 33 = .ok (.putfield 276, 3) := dk_181 1 20 (dk_at dksX1_crop_1 11 rfl rfl)
theorem dX1_crop_36 : decode cX1_crop 36 = .ok (.aload_n 0, 1) := dk_42 (dk_at dksX1_crop_1 14 rfl rfl)
theorem dX1_crop_37 : decode cX1_crop 37 = .ok (.getfield 79, 3) := dk_180 0 79 (dk_at dksX1_crop_1 15 rfl rfl)
theorem dX1_crop_40 : decode cX1_crop 40 = .ok (.aload_n 0, 1) := dk_42 (dk_at dksX1_crop_1 18 rfl rfl)
theorem dX1_crop_41 : decode cX1_crop 41 = .ok (.getfield 40, 3) := dk_180 0 40 (dk_at dksX1_crop_1 19 rfl rfl)
theorem dX1_crop_44 : decode cX1_crop 44 = .ok (.iload_n 1, 1) := dk_27 (dk_at dksX1_crop_1 22 rfl rfl)
theorem dX1_crop_45 : decode cX1_crop 45 = .ok (.invokevirtual 279, 3) := dk_182 1 23 (dk_at dksX1_crop_2 0 rfl rfl)
theorem dX1_crop_48 : decode cX1_crop 48 = .ok (.istore_n 3, 1) := dk_62 (dk_at dksX1_crop_2 3 rfl rfl)
theorem dX1_crop_49 : decode cX1_crop 49 = .ok (.iload_n 2, 1) := dk_28 (dk_at dksX1_crop_2 4 rfl rfl)
theorem dX1_crop_50 : decode cX1_crop 50 = .ok (.ifCond .ne 7, 3) := dk_154 0 7 (dk_at dksX1_crop_2 5 rfl rfl)
theorem dX1_crop_53 : decode cX1_crop 53 = .ok (.iload_n 3, 1) := dk_29 (dk_at dksX1_crop_2 8 rfl rfl)
theorem dX1_crop_54 : decode cX1_crop 54 = .ok (.goto 10, 3) := dk_167 0 10 (dk_at dksX1_crop_2 9 rfl rfl)
theorem dX1_crop_57 : decode cX1_crop 57 = .ok (.aload_n 0, 1) := dk_42 (dk_at dksX1_crop_2 12 rfl rfl)
theorem dX1_crop_58 : decode cX1_crop 58 = .ok (.getfield 79, 3) := dk_180 0 79 (dk_at dksX1_crop_2 13 rfl rfl)
theorem dX1_crop_61 : decode cX1_crop 61 = .ok (.getfield 276, 3) := dk_180 1 20 (dk_at dksX1_crop_2 16 rfl rfl)
theorem dX1_crop_64 : decode cX1_crop 64 = .ok (.ireturn, 1) := dk_172 (dk_at dksX1_crop_2 19 rfl rfl)
abbrev cX1_fetch : ByteArray := prog_1_method_28_code
def yX1_fetch : MethodName := ⟨RX1, "fetch", "()I"⟩
def dkwX1_fetch_1 : List UInt8 := [182, 1, 27, 153, 0, 5, 27, 172, 132, 1, 1, 167, 255, 231, 2, 172]
abbrev dktX1_fetch_1 : List UInt8 := dkwX1_fetch_1 ++ []
def dkwX1_fetch_0 : List UInt8 := [42, 180, 0, 79, 182, 1, 17, 3, 60, 27, 7, 163, 0, 26, 42, 180, 0, 79, 42, 180, 0, 40, 27]
abbrev dktX1_fetch_0 : List UInt8 := dkwX1_fetch_0 ++ dktX1_fetch_1
theorem dksX1_fetch_0 : cX1_fetch.data.toList.drop 0 = dktX1_fetch_0 := by decide +kernel
theorem dksX1_fetch_1 : cX1_fetch.data.toList.drop 23 = dktX1_fetch_1 := dk_seg dksX1_fetch_0 23 rfl rfl
theorem dX1_fetch_0 : decode cX1_fetch 0 = .ok (.aload_n 0, 1) := dk_42 (dk_at dksX1_fetch_0 0 rfl rfl)
theorem dX1_fetch_1 : decode cX1_fetch 1 = .ok (.getfield 79, 3) := dk_180 0 79 (dk_at dksX1_fetch_0 1 rfl rfl)
theorem dX1_fetch_4 : decode cX1_fetch 4 = .ok (.invokevirtual 273, 3) := dk_182 1 17 (dk_at dksX1_fetch_0 4 rfl rfl)
theorem dX1_fetch_7 : decode cX1_fetch 7 = .ok (.iconst 0, 1) := dk_3 (dk_at dksX1_fetch_0 7 rfl rfl)
theorem dX1_fetch_8 : decode cX1_fetch 8 = .ok (.istore_n 1, 1) := dk_60 (dk_at dksX1_fetch_0 8 rfl rfl)
theorem dX1_fetch_9 : decode cX1_fetch 9 = .ok (.iload_n 1, 1) := dk_27 (dk_at dksX1_fetch_0 9 rfl rfl)
theorem dX1_fetch_10 : decode cX1_fetch 10 = .ok (.iconst 4, 1) := dk_7 (dk_at dksX1_fetch_0 10 rfl rfl)
theorem dX1_fetch_11 : decode cX1_fetch 11 = .ok (.if_icmp .gt 26, 3) := dk_163 0 26 (dk_at dksX1_fetch_0 11 rfl rfl)
theorem dX1_fetch_14 : decode cX1_fetch 14 = .ok (.aload_n 0, 1) := dk_42 (dk_at dksX1_fetch_0 14 rfl rfl)
theorem dX1_fetch_15 : decode cX1_fetch 15 = .ok (.getfield 79, 3) := dk_180 0 79 (dk_at dksX1_fetch_0 15 rfl rfl)
theorem dX1_fetch_18 : decode cX1_fetch 18 = .ok (.aload_n 0, 1) := dk_42 (dk_at dksX1_fetch_0 18 rfl rfl)
theorem dX1_fetch_19 : decode cX1_fetch 19 = .ok (.getfield 40, 3) := dk_180 0 40 (dk_at dksX1_fetch_0 19 rfl rfl)
theorem dX1_fetch_22 : decode cX1_fetch 22 = .ok (.iload_n 1, 1) := dk_27 (dk_at dksX1_fetch_0 22 rfl rfl)
theorem dX1_fetch_23 : decode cX1_fetch 23 = .ok (.invokevirtual 283, 3) := dk_182 1 27 (dk_at dksX1_fetch_1 0 rfl rfl)
theorem dX1_fetch_26 : decode cX1_fetch 26 = .ok (.ifCond .eq 5, 3) := dk_153 0 5 (dk_at dksX1_fetch_1 3 rfl rfl)
theorem dX1_fetch_29 : decode cX1_fetch 29 = .ok (.iload_n 1, 1) := dk_27 (dk_at dksX1_fetch_1 6 rfl rfl)
theorem dX1_fetch_30 : decode cX1_fetch 30 = .ok (.ireturn, 1) := dk_172 (dk_at dksX1_fetch_1 7 rfl rfl)
theorem dX1_fetch_31 : decode cX1_fetch 31 = .ok (.iinc 1 1, 3) := dk_132 1 1 (dk_at dksX1_fetch_1 8 rfl rfl)
theorem dX1_fetch_34 : decode cX1_fetch 34 = .ok (.goto (-25), 3) := dk_167 255 231 (dk_at dksX1_fetch_1 11 rfl rfl)
theorem dX1_fetch_37 : decode cX1_fetch 37 = .ok (.iconst (-1), 1) := dk_2 (dk_at dksX1_fetch_1 14 rfl rfl)
theorem dX1_fetch_38 : decode cX1_fetch 38 = .ok (.ireturn, 1) := dk_172 (dk_at dksX1_fetch_1 15 rfl rfl)
abbrev cX1_lies : ByteArray := prog_1_method_29_code
def yX1_lies : MethodName := ⟨RX1, "lies", "(IZ)Z"⟩
def dkwX1_lies_1 : List UInt8 := [79, 4, 172]
abbrev dktX1_lies_1 : List UInt8 := dkwX1_lies_1 ++ []
def dkwX1_lies_0 : List UInt8 := [42, 27, 182, 0, 146, 154, 0, 5, 3, 172, 42, 180, 0, 56, 27, 28, 153, 0, 7, 5, 167, 0, 4, 4]
abbrev dktX1_lies_0 : List UInt8 := dkwX1_lies_0 ++ dktX1_lies_1
theorem dksX1_lies_0 : cX1_lies.data.toList.drop 0 = dktX1_lies_0 := by decide +kernel
theorem dksX1_lies_1 : cX1_lies.data.toList.drop 24 = dktX1_lies_1 := dk_seg dksX1_lies_0 24 rfl rfl
theorem dX1_lies_0 : decode cX1_lies 0 = .ok (.aload_n 0, 1) := dk_42 (dk_at dksX1_lies_0 0 rfl rfl)
theorem dX1_lies_1 : decode cX1_lies 1 = .ok (.iload_n 1, 1) := dk_27 (dk_at dksX1_lies_0 1 rfl rfl)
theorem dX1_lies_2 : decode cX1_lies 2 = .ok (.invokevirtual 146, 3) := dk_182 0 146 (dk_at dksX1_lies_0 2 rfl rfl)
theorem dX1_lies_5 : decode cX1_lies 5 = .ok (.ifCond .ne 5, 3) := dk_154 0 5 (dk_at dksX1_lies_0 5 rfl rfl)
theorem dX1_lies_8 : decode cX1_lies 8 = .ok (.iconst 0, 1) := dk_3 (dk_at dksX1_lies_0 8 rfl rfl)
theorem dX1_lies_9 : decode cX1_lies 9 = .ok (.ireturn, 1) := dk_172 (dk_at dksX1_lies_0 9 rfl rfl)
theorem dX1_lies_10 : decode cX1_lies 10 = .ok (.aload_n 0, 1) := dk_42 (dk_at dksX1_lies_0 10 rfl rfl)
theorem dX1_lies_11 : decode cX1_lies 11 = .ok (.getfield 56, 3) := dk_180 0 56 (dk_at dksX1_lies_0 11 rfl rfl)
theorem dX1_lies_14 : decode cX1_lies 14 = .ok (.iload_n 1, 1) := dk_27 (dk_at dksX1_lies_0 14 rfl rfl)
theorem dX1_lies_15 : decode cX1_lies 15 = .ok (.iload_n 2, 1) := dk_28 (dk_at dksX1_lies_0 15 rfl rfl)
theorem dX1_lies_16 : decode cX1_lies 16 = .ok (.ifCond .eq 7, 3) := dk_153 0 7 (dk_at dksX1_lies_0 16 rfl rfl)
theorem dX1_lies_19 : decode cX1_lies 19 = .ok (.iconst 2, 1) := dk_5 (dk_at dksX1_lies_0 19 rfl rfl)
theorem dX1_lies_20 : decode cX1_lies 20 = .ok (.goto 4, 3) := dk_167 0 4 (dk_at dksX1_lies_0 20 rfl rfl)
theorem dX1_lies_23 : decode cX1_lies 23 = .ok (.iconst 1, 1) := dk_4 (dk_at dksX1_lies_0 23 rfl rfl)
theorem dX1_lies_24 : decode cX1_lies 24 = .ok (.iastore, 1) := dk_79 (dk_at dksX1_lies_1 0 rfl rfl)
theorem dX1_lies_25 : decode cX1_lies 25 = .ok (.iconst 1, 1) := dk_4 (dk_at dksX1_lies_1 1 rfl rfl)
theorem dX1_lies_26 : decode cX1_lies 26 = .ok (.ireturn, 1) := dk_172 (dk_at dksX1_lies_1 2 rfl rfl)
abbrev cX1_called : ByteArray := prog_1_method_31_code
def yX1_called : MethodName := ⟨RX1, "called", "(I)I"⟩
def dkwX1_called_10 : List UInt8 := [126, 184, 1, 44, 172]
abbrev dktX1_called_10 : List UInt8 := dkwX1_called_10 ++ []
def dkwX1_called_9 : List UInt8 := [27, 5, 160, 0, 8, 21, 7, 167, 0, 21, 25, 4, 21, 5, 42, 180, 0, 40, 180, 1, 0, 29, 2, 130]
abbrev dktX1_called_9 : List UInt8 := dkwX1_called_9 ++ dktX1_called_10
def dkwX1_called_8 : List UInt8 := [167, 0, 4, 2, 172, 27, 154, 0, 8, 21, 5, 167, 0, 41, 27, 4, 160, 0, 8, 21, 6, 167, 0, 31]
abbrev dktX1_called_8 : List UInt8 := dkwX1_called_8 ++ dktX1_called_9
def dkwX1_called_7 : List UInt8 := [132, 10, 1, 167, 255, 227, 132, 8, 1, 167, 255, 131, 21, 5, 154, 0, 13, 27, 154, 0, 7, 3]
abbrev dktX1_called_7 : List UInt8 := dkwX1_called_7 ++ dktX1_called_8
def dkwX1_called_6 : List UInt8 := [16, 10, 162, 0, 28, 21, 9, 21, 10, 184, 0, 177, 153, 0, 12, 25, 4, 21, 10, 92, 46, 4, 96, 79]
abbrev dktX1_called_6 : List UInt8 := dkwX1_called_6 ++ dktX1_called_7
def dkwX1_called_5 : List UInt8 := [16, 16, 112, 120, 128, 54, 6, 21, 7, 4, 21, 8, 16, 16, 108, 120, 128, 54, 7, 3, 54, 10, 21, 10]
abbrev dktX1_called_5 : List UInt8 := dkwX1_called_5 ++ dktX1_called_6
def dkwX1_called_4 : List UInt8 := [182, 1, 41, 54, 9, 21, 9, 29, 126, 28, 159, 0, 6, 167, 0, 65, 132, 5, 1, 21, 6, 4, 21, 8]
abbrev dktX1_called_4 : List UInt8 := dkwX1_called_4 ++ dktX1_called_5
def dkwX1_called_3 : List UInt8 := [154, 0, 6, 167, 0, 98, 42, 180, 0, 72, 42, 180, 0, 44, 42, 180, 0, 40, 182, 0, 218, 21, 8]
abbrev dktX1_called_3 : List UInt8 := dkwX1_called_3 ++ dktX1_called_4
def dkwX1_called_2 : List UInt8 := [54, 8, 21, 8, 42, 180, 0, 72, 182, 1, 35, 162, 0, 119, 42, 180, 0, 72, 21, 8, 182, 1, 38]
abbrev dktX1_called_2 : List UInt8 := dkwX1_called_2 ++ dktX1_called_3
def dkwX1_called_1 : List UInt8 := [28, 42, 4, 182, 1, 32, 128, 62, 16, 10, 188, 10, 58, 4, 3, 54, 5, 3, 54, 6, 3, 54, 7, 3]
abbrev dktX1_called_1 : List UInt8 := dkwX1_called_1 ++ dktX1_called_2
def dkwX1_called_0 : List UInt8 := [27, 3, 6, 184, 0, 137, 154, 0, 5, 2, 172, 42, 180, 0, 72, 182, 1, 31, 42, 5, 182, 1, 32, 61]
abbrev dktX1_called_0 : List UInt8 := dkwX1_called_0 ++ dktX1_called_1
theorem dksX1_called_0 : cX1_called.data.toList.drop 0 = dktX1_called_0 := by decide +kernel
theorem dksX1_called_1 : cX1_called.data.toList.drop 24 = dktX1_called_1 := dk_seg dksX1_called_0 24 rfl rfl
theorem dksX1_called_2 : cX1_called.data.toList.drop 48 = dktX1_called_2 := dk_seg dksX1_called_1 24 rfl rfl
theorem dksX1_called_3 : cX1_called.data.toList.drop 71 = dktX1_called_3 := dk_seg dksX1_called_2 23 rfl rfl
theorem dksX1_called_4 : cX1_called.data.toList.drop 94 = dktX1_called_4 := dk_seg dksX1_called_3 23 rfl rfl
theorem dksX1_called_5 : cX1_called.data.toList.drop 118 = dktX1_called_5 := dk_seg dksX1_called_4 24 rfl rfl
theorem dksX1_called_6 : cX1_called.data.toList.drop 142 = dktX1_called_6 := dk_seg dksX1_called_5 24 rfl rfl
theorem dksX1_called_7 : cX1_called.data.toList.drop 166 = dktX1_called_7 := dk_seg dksX1_called_6 24 rfl rfl
theorem dksX1_called_8 : cX1_called.data.toList.drop 188 = dktX1_called_8 := dk_seg dksX1_called_7 22 rfl rfl
theorem dksX1_called_9 : cX1_called.data.toList.drop 212 = dktX1_called_9 := dk_seg dksX1_called_8 24 rfl rfl
theorem dksX1_called_10 : cX1_called.data.toList.drop 236 = dktX1_called_10 := dk_seg dksX1_called_9 24 rfl rfl
theorem dX1_called_0 : decode cX1_called 0 = .ok (.iload_n 1, 1) := dk_27 (dk_at dksX1_called_0 0 rfl rfl)
theorem dX1_called_1 : decode cX1_called 1 = .ok (.iconst 0, 1) := dk_3 (dk_at dksX1_called_0 1 rfl rfl)
theorem dX1_called_2 : decode cX1_called 2 = .ok (.iconst 3, 1) := dk_6 (dk_at dksX1_called_0 2 rfl rfl)
theorem dX1_called_3 : decode cX1_called 3 = .ok (.invokestatic 137, 3) := dk_184 0 137 (dk_at dksX1_called_0 3 rfl rfl)
theorem dX1_called_6 : decode cX1_called 6 = .ok (.ifCond .ne 5, 3) := dk_154 0 5 (dk_at dksX1_called_0 6 rfl rfl)
theorem dX1_called_9 : decode cX1_called 9 = .ok (.iconst (-1), 1) := dk_2 (dk_at dksX1_called_0 9 rfl rfl)
theorem dX1_called_10 : decode cX1_called 10 = .ok (.ireturn, 1) := dk_172 (dk_at dksX1_called_0 10 rfl rfl)
theorem dX1_called_11 : decode cX1_called 11 = .ok (.aload_n 0, 1) := dk_42 (dk_at dksX1_called_0 11 rfl rfl)
theorem dX1_called_12 : decode cX1_called 12 = .ok (.getfield 72, 3) := dk_180 0 72 (dk_at dksX1_called_0 12 rfl rfl)
theorem dX1_called_15 : decode cX1_called 15 = .ok (.invokevirtual 287, 3) := dk_182 1 31 (dk_at dksX1_called_0 15 rfl rfl)
theorem dX1_called_18 : decode cX1_called 18 = .ok (.aload_n 0, 1) := dk_42 (dk_at dksX1_called_0 18 rfl rfl)
theorem dX1_called_19 : decode cX1_called 19 = .ok (.iconst 2, 1) := dk_5 (dk_at dksX1_called_0 19 rfl rfl)
theorem dX1_called_20 : decode cX1_called 20 = .ok (.invokevirtual 288, 3) := dk_182 1 32 (dk_at dksX1_called_0 20 rfl rfl)
theorem dX1_called_23 : decode cX1_called 23 = .ok (.istore_n 2, 1) := dk_61 (dk_at dksX1_called_0 23 rfl rfl)
theorem dX1_called_24 : decode cX1_called 24 = .ok (.iload_n 2, 1) := dk_28 (dk_at dksX1_called_1 0 rfl rfl)
theorem dX1_called_25 : decode cX1_called 25 = .ok (.aload_n 0, 1) := dk_42 (dk_at dksX1_called_1 1 rfl rfl)
theorem dX1_called_26 : decode cX1_called 26 = .ok (.iconst 1, 1) := dk_4 (dk_at dksX1_called_1 2 rfl rfl)
theorem dX1_called_27 : decode cX1_called 27 = .ok (.invokevirtual 288, 3) := dk_182 1 32 (dk_at dksX1_called_1 3 rfl rfl)
theorem dX1_called_30 : decode cX1_called 30 = .ok (.ior, 1) := dk_128 (dk_at dksX1_called_1 6 rfl rfl)
theorem dX1_called_31 : decode cX1_called 31 = .ok (.istore_n 3, 1) := dk_62 (dk_at dksX1_called_1 7 rfl rfl)
theorem dX1_called_32 : decode cX1_called 32 = .ok (.bipush 10, 2) := dk_16 10 (dk_at dksX1_called_1 8 rfl rfl)
theorem dX1_called_34 : decode cX1_called 34 = .ok (.newarray .int, 2) := dk_188_10 (dk_at dksX1_called_1 10 rfl rfl)
theorem dX1_called_36 : decode cX1_called 36 = .ok (.astore 4, 2) := dk_58 4 (dk_at dksX1_called_1 12 rfl rfl)
theorem dX1_called_38 : decode cX1_called 38 = .ok (.iconst 0, 1) := dk_3 (dk_at dksX1_called_1 14 rfl rfl)
theorem dX1_called_39 : decode cX1_called 39 = .ok (.istore 5, 2) := dk_54 5 (dk_at dksX1_called_1 15 rfl rfl)
theorem dX1_called_41 : decode cX1_called 41 = .ok (.iconst 0, 1) := dk_3 (dk_at dksX1_called_1 17 rfl rfl)
theorem dX1_called_42 : decode cX1_called 42 = .ok (.istore 6, 2) := dk_54 6 (dk_at dksX1_called_1 18 rfl rfl)
theorem dX1_called_44 : decode cX1_called 44 = .ok (.iconst 0, 1) := dk_3 (dk_at dksX1_called_1 20 rfl rfl)
theorem dX1_called_45 : decode cX1_called 45 = .ok (.istore 7, 2) := dk_54 7 (dk_at dksX1_called_1 21 rfl rfl)
theorem dX1_called_47 : decode cX1_called 47 = .ok (.iconst 0, 1) := dk_3 (dk_at dksX1_called_1 23 rfl rfl)
theorem dX1_called_48 : decode cX1_called 48 = .ok (.istore 8, 2) := dk_54 8 (dk_at dksX1_called_2 0 rfl rfl)
theorem dX1_called_50 : decode cX1_called 50 = .ok (.iload 8, 2) := dk_21 8 (dk_at dksX1_called_2 2 rfl rfl)
theorem dX1_called_52 : decode cX1_called 52 = .ok (.aload_n 0, 1) := dk_42 (dk_at dksX1_called_2 4 rfl rfl)
theorem dX1_called_53 : decode cX1_called 53 = .ok (.getfield 72, 3) := dk_180 0 72 (dk_at dksX1_called_2 5 rfl rfl)
theorem dX1_called_56 : decode cX1_called 56 = .ok (.invokevirtual 291, 3) := dk_182 1 35 (dk_at dksX1_called_2 8 rfl rfl)
theorem dX1_called_59 : decode cX1_called 59 = .ok (.if_icmp .ge 119, 3) := dk_162 0 119 (dk_at dksX1_called_2 11 rfl rfl)
theorem dX1_called_62 : decode cX1_called 62 = .ok (.aload_n 0, 1) := dk_42 (dk_at dksX1_called_2 14 rfl rfl)
theorem dX1_called_63 : decode cX1_called 63 = .ok (.getfield 72, 3) := dk_180 0 72 (dk_at dksX1_called_2 15 rfl rfl)
theorem dX1_called_66 : decode cX1_called 66 = .ok (.iload 8, 2) := dk_21 8 (dk_at dksX1_called_2 18 rfl rfl)
theorem dX1_called_68 : decode cX1_called 68 = .ok (.invokevirtual 294, 3) := dk_182 1 38 (dk_at dksX1_called_2 20 rfl rfl)
theorem dX1_called_71 : decode cX1_called 71 = .ok (.ifCond .ne 6, 3) := dk_154 0 6 (dk_at dksX1_called_3 0 rfl rfl)
theorem dX1_called_74 : decode cX1_called 74 = .ok (.goto 98, 3) := dk_167 0 98 (dk_at dksX1_called_3 3 rfl rfl)
theorem dX1_called_77 : decode cX1_called 77 = .ok (.aload_n 0, 1) := dk_42 (dk_at dksX1_called_3 6 rfl rfl)
theorem dX1_called_78 : decode cX1_called 78 = .ok (.getfield 72, 3) := dk_180 0 72 (dk_at dksX1_called_3 7 rfl rfl)
theorem dX1_called_81 : decode cX1_called 81 = .ok (.aload_n 0, 1) := dk_42 (dk_at dksX1_called_3 10 rfl rfl)
theorem dX1_called_82 : decode cX1_called 82 = .ok (.getfield 44, 3) := dk_180 0 44 (dk_at dksX1_called_3 11 rfl rfl)
theorem dX1_called_85 : decode cX1_called 85 = .ok (.aload_n 0, 1) := dk_42 (dk_at dksX1_called_3 14 rfl rfl)
theorem dX1_called_86 : decode cX1_called 86 = .ok (.getfield 40, 3) := dk_180 0 40 (dk_at dksX1_called_3 15 rfl rfl)
theorem dX1_called_89 : decode cX1_called 89 = .ok (.invokevirtual 218, 3) := dk_182 0 218 (dk_at dksX1_called_3 18 rfl rfl)
theorem dX1_called_92 : decode cX1_called 92 = .ok (.iload 8, 2) := dk_21 8 (dk_at dksX1_called_3 21 rfl rfl)
theorem dX1_called_94 : decode cX1_called 94 = .ok (.invokevirtual 297, 3) := dk_182 1 41 (dk_at dksX1_called_4 0 rfl rfl)
theorem dX1_called_97 : decode cX1_called 97 = .ok (.istore 9, 2) := dk_54 9 (dk_at dksX1_called_4 3 rfl rfl)
theorem dX1_called_99 : decode cX1_called 99 = .ok (.iload 9, 2) := dk_21 9 (dk_at dksX1_called_4 5 rfl rfl)
theorem dX1_called_101 : decode cX1_called 101 = .ok (.iload_n 3, 1) := dk_29 (dk_at dksX1_called_4 7 rfl rfl)
theorem dX1_called_102 : decode cX1_called 102 = .ok (.iand, 1) := dk_126 (dk_at dksX1_called_4 8 rfl rfl)
theorem dX1_called_103 : decode cX1_called 103 = .ok (.iload_n 2, 1) := dk_28 (dk_at dksX1_called_4 9 rfl rfl)
theorem dX1_called_104 : decode cX1_called 104 = .ok (.if_icmp .eq 6, 3) := dk_159 0 6 (dk_at dksX1_called_4 10 rfl rfl)
theorem dX1_called_107 : decode cX1_called 107 = .ok (.goto 65, 3) := dk_167 0 65 (dk_at dksX1_called_4 13 rfl rfl)
theorem dX1_called_110 : decode cX1_called 110 = .ok (.iinc 5 1, 3) := dk_132 5 1 (dk_at dksX1_called_4 16 rfl rfl)
theorem dX1_called_113 : decode cX1_called 113 = .ok (.iload 6, 2) := dk_21 6 (dk_at dksX1_called_4 19 rfl rfl)
theorem dX1_called_115 : decode cX1_called 115 = .ok (.iconst 1, 1) := dk_4 (dk_at dksX1_called_4 21 rfl rfl)
theorem dX1_called_116 : decode cX1_called 116 = .ok (.iload 8, 2) := dk_21 8 (dk_at dksX1_called_4 22 rfl rfl)
theorem dX1_called_118 : decode cX1_called 118 = .ok (.bipush 16, 2) := dk_16 16 (dk_at dksX1_called_5 0 rfl rfl)
theorem dX1_called_120 : decode cX1_called 120 = .ok (.irem, 1) := dk_112 (dk_at dksX1_called_5 2 rfl rfl)
theorem dX1_called_121 : decode cX1_called 121 = .ok (.ishl, 1) := dk_120 (dk_at dksX1_called_5 3 rfl rfl)
theorem dX1_called_122 : decode cX1_called 122 = .ok (.ior, 1) := dk_128 (dk_at dksX1_called_5 4 rfl rfl)
theorem dX1_called_123 : decode cX1_called 123 = .ok (.istore 6, 2) := dk_54 6 (dk_at dksX1_called_5 5 rfl rfl)
theorem dX1_called_125 : decode cX1_called 125 = .ok (.iload 7, 2) := dk_21 7 (dk_at dksX1_called_5 7 rfl rfl)
theorem dX1_called_127 : decode cX1_called 127 = .ok (.iconst 1, 1) := dk_4 (dk_at dksX1_called_5 9 rfl rfl)
theorem dX1_called_128 : decode cX1_called 128 = .ok (.iload 8, 2) := dk_21 8 (dk_at dksX1_called_5 10 rfl rfl)
theorem dX1_called_130 : decode cX1_called 130 = .ok (.bipush 16, 2) := dk_16 16 (dk_at dksX1_called_5 12 rfl rfl)
theorem dX1_called_132 : decode cX1_called 132 = .ok (.idiv, 1) := dk_108 (dk_at dksX1_called_5 14 rfl rfl)
theorem dX1_called_133 : decode cX1_called 133 = .ok (.ishl, 1) := dk_120 (dk_at dksX1_called_5 15 rfl rfl)
theorem dX1_called_134 : decode cX1_called 134 = .ok (.ior, 1) := dk_128 (dk_at dksX1_called_5 16 rfl rfl)
theorem dX1_called_135 : decode cX1_called 135 = .ok (.istore 7, 2) := dk_54 7 (dk_at dksX1_called_5 17 rfl rfl)
theorem dX1_called_137 : decode cX1_called 137 = .ok (.iconst 0, 1) := dk_3 (dk_at dksX1_called_5 19 rfl rfl)
theorem dX1_called_138 : decode cX1_called 138 = .ok (.istore 10, 2) := dk_54 10 (dk_at dksX1_called_5 20 rfl rfl)
theorem dX1_called_140 : decode cX1_called 140 = .ok (.iload 10, 2) := dk_21 10 (dk_at dksX1_called_5 22 rfl rfl)
theorem dX1_called_142 : decode cX1_called 142 = .ok (.bipush 10, 2) := dk_16 10 (dk_at dksX1_called_6 0 rfl rfl)
theorem dX1_called_144 : decode cX1_called 144 = .ok (.if_icmp .ge 28, 3) := dk_162 0 28 (dk_at dksX1_called_6 2 rfl rfl)
theorem dX1_called_147 : decode cX1_called 147 = .ok (.iload 9, 2) := dk_21 9 (dk_at dksX1_called_6 5 rfl rfl)
theorem dX1_called_149 : decode cX1_called 149 = .ok (.iload 10, 2) := dk_21 10 (dk_at dksX1_called_6 7 rfl rfl)
theorem dX1_called_151 : decode cX1_called 151 = .ok (.invokestatic 177, 3) := dk_184 0 177 (dk_at dksX1_called_6 9 rfl rfl)
theorem dX1_called_154 : decode cX1_called 154 = .ok (.ifCond .eq 12, 3) := dk_153 0 12 (dk_at dksX1_called_6 12 rfl rfl)
theorem dX1_called_157 : decode cX1_called 157 = .ok (.aload 4, 2) := dk_25 4 (dk_at dksX1_called_6 15 rfl rfl)
theorem dX1_called_159 : decode cX1_called 159 = .ok (.iload 10, 2) := dk_21 10 (dk_at dksX1_called_6 17 rfl rfl)
theorem dX1_called_161 : decode cX1_called 161 = .ok (.dup2, 1) := dk_92 (dk_at dksX1_called_6 19 rfl rfl)
theorem dX1_called_162 : decode cX1_called 162 = .ok (.iaload, 1) := dk_46 (dk_at dksX1_called_6 20 rfl rfl)
theorem dX1_called_163 : decode cX1_called 163 = .ok (.iconst 1, 1) := dk_4 (dk_at dksX1_called_6 21 rfl rfl)
theorem dX1_called_164 : decode cX1_called 164 = .ok (.iadd, 1) := dk_96 (dk_at dksX1_called_6 22 rfl rfl)
theorem dX1_called_165 : decode cX1_called 165 = .ok (.iastore, 1) := dk_79 (dk_at dksX1_called_6 23 rfl rfl)
theorem dX1_called_166 : decode cX1_called 166 = .ok (.iinc 10 1, 3) := dk_132 10 1 (dk_at dksX1_called_7 0 rfl rfl)
theorem dX1_called_169 : decode cX1_called 169 = .ok (.goto (-29), 3) := dk_167 255 227 (dk_at dksX1_called_7 3 rfl rfl)
theorem dX1_called_172 : decode cX1_called 172 = .ok (.iinc 8 1, 3) := dk_132 8 1 (dk_at dksX1_called_7 6 rfl rfl)
theorem dX1_called_175 : decode cX1_called 175 = .ok (.goto (-125), 3) := dk_167 255 131 (dk_at dksX1_called_7 9 rfl rfl)
theorem dX1_called_178 : decode cX1_called 178 = .ok (.iload 5, 2) := dk_21 5 (dk_at dksX1_called_7 12 rfl rfl)
theorem dX1_called_180 : decode cX1_called 180 = .ok (.ifCond .ne 13, 3) := dk_154 0 13 (dk_at dksX1_called_7 14 rfl rfl)
theorem dX1_called_183 : decode cX1_called 183 = .ok (.iload_n 1, 1) := dk_27 (dk_at dksX1_called_7 17 rfl rfl)
theorem dX1_called_184 : decode cX1_called 184 = .ok (.ifCond .ne 7, 3) := dk_154 0 7 (dk_at dksX1_called_7 18 rfl rfl)
theorem dX1_called_187 : decode cX1_called 187 = .ok (.iconst 0, 1) := dk_3 (dk_at dksX1_called_7 21 rfl rfl)
theorem dX1_called_188 : decode cX1_called 188 = .ok (.goto 4, 3) := dk_167 0 4 (dk_at dksX1_called_8 0 rfl rfl)
theorem dX1_called_191 : decode cX1_called 191 = .ok (.iconst (-1), 1) := dk_2 (dk_at dksX1_called_8 3 rfl rfl)
theorem dX1_called_192 : decode cX1_called 192 = .ok (.ireturn, 1) := dk_172 (dk_at dksX1_called_8 4 rfl rfl)
theorem dX1_called_193 : decode cX1_called 193 = .ok (.iload_n 1, 1) := dk_27 (dk_at dksX1_called_8 5 rfl rfl)
theorem dX1_called_194 : decode cX1_called 194 = .ok (.ifCond .ne 8, 3) := dk_154 0 8 (dk_at dksX1_called_8 6 rfl rfl)
theorem dX1_called_197 : decode cX1_called 197 = .ok (.iload 5, 2) := dk_21 5 (dk_at dksX1_called_8 9 rfl rfl)
theorem dX1_called_199 : decode cX1_called 199 = .ok (.goto 41, 3) := dk_167 0 41 (dk_at dksX1_called_8 11 rfl rfl)
theorem dX1_called_202 : decode cX1_called 202 = .ok (.iload_n 1, 1) := dk_27 (dk_at dksX1_called_8 14 rfl rfl)
theorem dX1_called_203 : decode cX1_called 203 = .ok (.iconst 1, 1) := dk_4 (dk_at dksX1_called_8 15 rfl rfl)
theorem dX1_called_204 : decode cX1_called 204 = .ok (.if_icmp .ne 8, 3) := dk_160 0 8 (dk_at dksX1_called_8 16 rfl rfl)
theorem dX1_called_207 : decode cX1_called 207 = .ok (.iload 6, 2) := dk_21 6 (dk_at dksX1_called_8 19 rfl rfl)
theorem dX1_called_209 : decode cX1_called 209 = .ok (.goto 31, 3) := dk_167 0 31 (dk_at dksX1_called_8 21 rfl rfl)
theorem dX1_called_212 : decode cX1_called 212 = .ok (.iload_n 1, 1) := dk_27 (dk_at dksX1_called_9 0 rfl rfl)
theorem dX1_called_213 : decode cX1_called 213 = .ok (.iconst 2, 1) := dk_5 (dk_at dksX1_called_9 1 rfl rfl)
theorem dX1_called_214 : decode cX1_called 214 = .ok (.if_icmp .ne 8, 3) := dk_160 0 8 (dk_at dksX1_called_9 2 rfl rfl)
theorem dX1_called_217 : decode cX1_called 217 = .ok (.iload 7, 2) := dk_21 7 (dk_at dksX1_called_9 5 rfl rfl)
theorem dX1_called_219 : decode cX1_called 219 = .ok (.goto 21, 3) := dk_167 0 21 (dk_at dksX1_called_9 7 rfl rfl)
theorem dX1_called_222 : decode cX1_called 222 = .ok (.aload 4, 2) := dk_25 4 (dk_at dksX1_called_9 10 rfl rfl)
theorem dX1_called_224 : decode cX1_called 224 = .ok (.iload 5, 2) := dk_21 5 (dk_at dksX1_called_9 12 rfl rfl)
theorem dX1_called_226 : decode cX1_called 226 = .ok (.aload_n 0, 1) := dk_42 (dk_at dksX1_called_9 14 rfl rfl)
theorem dX1_called_227 : decode cX1_called 227 = .ok (.getfield 40, 3) := dk_180 0 40 (dk_at dksX1_called_9 15 rfl rfl)
theorem dX1_called_230 : decode cX1_called 230 = .ok (.getfield 256, 3) := dk_180 1 0 (dk_at dksX1_called_9 18 rfl rfl)
theorem dX1_called_233 : decode cX1_called 233 = .ok (.iload_n 3, 1) := dk_29 (dk_at dksX1_called_9 21 rfl rfl)
theorem dX1_called_234 : decode cX1_called 234 = .ok (.iconst (-1), 1) := dk_2 (dk_at dksX1_called_9 22 rfl rfl)
theorem dX1_called_235 : decode cX1_called 235 = .ok (.ixor, 1) := dk_130 (dk_at dksX1_called_9 23 rfl rfl)
theorem dX1_called_236 : decode cX1_called 236 = .ok (.iand, 1) := dk_126 (dk_at dksX1_called_10 0 rfl rfl)
theorem dX1_called_237 : decode cX1_called 237 = .ok (.invokestatic 300, 3) := dk_184 1 44 (dk_at dksX1_called_10 1 rfl rfl)
theorem dX1_called_240 : decode cX1_called 240 = .ok (.ireturn, 1) := dk_172 (dk_at dksX1_called_10 4 rfl rfl)
abbrev cX1_lying : ByteArray := prog_1_method_30_code
def yX1_lying : MethodName := ⟨RX1, "lying", "(I)I"⟩
def dkwX1_lying_1 : List UInt8 := [29, 120, 128, 61, 132, 3, 1, 167, 255, 229, 28, 172]
abbrev dktX1_lying_1 : List UInt8 := dkwX1_lying_1 ++ []
def dkwX1_lying_0 : List UInt8 := [3, 61, 3, 62, 29, 42, 182, 0, 135, 162, 0, 25, 42, 180, 0, 56, 29, 46, 27, 160, 0, 9, 28, 4]
abbrev dktX1_lying_0 : List UInt8 := dkwX1_lying_0 ++ dktX1_lying_1
theorem dksX1_lying_0 : cX1_lying.data.toList.drop 0 = dktX1_lying_0 := by decide +kernel
theorem dksX1_lying_1 : cX1_lying.data.toList.drop 24 = dktX1_lying_1 := dk_seg dksX1_lying_0 24 rfl rfl
theorem dX1_lying_0 : decode cX1_lying 0 = .ok (.iconst 0, 1) := dk_3 (dk_at dksX1_lying_0 0 rfl rfl)
theorem dX1_lying_1 : decode cX1_lying 1 = .ok (.istore_n 2, 1) := dk_61 (dk_at dksX1_lying_0 1 rfl rfl)
theorem dX1_lying_2 : decode cX1_lying 2 = .ok (.iconst 0, 1) := dk_3 (dk_at dksX1_lying_0 2 rfl rfl)
theorem dX1_lying_3 : decode cX1_lying 3 = .ok (.istore_n 3, 1) := dk_62 (dk_at dksX1_lying_0 3 rfl rfl)
theorem dX1_lying_4 : decode cX1_lying 4 = .ok (.iload_n 3, 1) := dk_29 (dk_at dksX1_lying_0 4 rfl rfl)
theorem dX1_lying_5 : decode cX1_lying 5 = .ok (.aload_n 0, 1) := dk_42 (dk_at dksX1_lying_0 5 rfl rfl)
theorem dX1_lying_6 : decode cX1_lying 6 = .ok (.invokevirtual 135, 3) := dk_182 0 135 (dk_at dksX1_lying_0 6 rfl rfl)
theorem dX1_lying_9 : decode cX1_lying 9 = .ok (.if_icmp .ge 25, 3) := dk_162 0 25 (dk_at dksX1_lying_0 9 rfl rfl)
theorem dX1_lying_12 : decode cX1_lying 12 = .ok (.aload_n 0, 1) := dk_42 (dk_at dksX1_lying_0 12 rfl rfl)
theorem dX1_lying_13 : decode cX1_lying 13 = .ok (.getfield 56, 3) := dk_180 0 56 (dk_at dksX1_lying_0 13 rfl rfl)
theorem dX1_lying_16 : decode cX1_lying 16 = .ok (.iload_n 3, 1) := dk_29 (dk_at dksX1_lying_0 16 rfl rfl)
theorem dX1_lying_17 : decode cX1_lying 17 = .ok (.iaload, 1) := dk_46 (dk_at dksX1_lying_0 17 rfl rfl)
theorem dX1_lying_18 : decode cX1_lying 18 = .ok (.iload_n 1, 1) := dk_27 (dk_at dksX1_lying_0 18 rfl rfl)
theorem dX1_lying_19 : decode cX1_lying 19 = .ok (.if_icmp .ne 9, 3) := dk_160 0 9 (dk_at dksX1_lying_0 19 rfl rfl)
theorem dX1_lying_22 : decode cX1_lying 22 = .ok (.iload_n 2, 1) := dk_28 (dk_at dksX1_lying_0 22 rfl rfl)
theorem dX1_lying_23 : decode cX1_lying 23 = .ok (.iconst 1, 1) := dk_4 (dk_at dksX1_lying_0 23 rfl rfl)
theorem dX1_lying_24 : decode cX1_lying 24 = .ok (.iload_n 3, 1) := dk_29 (dk_at dksX1_lying_1 0 rfl rfl)
theorem dX1_lying_25 : decode cX1_lying 25 = .ok (.ishl, 1) := dk_120 (dk_at dksX1_lying_1 1 rfl rfl)
theorem dX1_lying_26 : decode cX1_lying 26 = .ok (.ior, 1) := dk_128 (dk_at dksX1_lying_1 2 rfl rfl)
theorem dX1_lying_27 : decode cX1_lying 27 = .ok (.istore_n 2, 1) := dk_61 (dk_at dksX1_lying_1 3 rfl rfl)
theorem dX1_lying_28 : decode cX1_lying 28 = .ok (.iinc 3 1, 3) := dk_132 3 1 (dk_at dksX1_lying_1 4 rfl rfl)
theorem dX1_lying_31 : decode cX1_lying 31 = .ok (.goto (-27), 3) := dk_167 255 229 (dk_at dksX1_lying_1 7 rfl rfl)
theorem dX1_lying_34 : decode cX1_lying 34 = .ok (.iload_n 2, 1) := dk_28 (dk_at dksX1_lying_1 10 rfl rfl)
theorem dX1_lying_35 : decode cX1_lying 35 = .ok (.ireturn, 1) := dk_172 (dk_at dksX1_lying_1 11 rfl rfl)
abbrev cX1_parting : ByteArray := prog_1_method_32_code
def yX1_parting : MethodName := ⟨RX1, "parting", "([III)I"⟩
def dkwX1_parting_2 : List UInt8 := [167, 0, 10, 21, 5, 62, 21, 6, 54, 4, 132, 5, 1, 167, 255, 205, 29, 172]
abbrev dktX1_parting_2 : List UInt8 := dkwX1_parting_2 ++ []
def dkwX1_parting_1 : List UInt8 := [100, 184, 1, 48, 54, 6, 28, 21, 5, 184, 0, 177, 153, 0, 20, 21, 6, 21, 4, 163, 0, 6]
abbrev dktX1_parting_1 : List UInt8 := dkwX1_parting_1 ++ dktX1_parting_2
def dkwX1_parting_0 : List UInt8 := [2, 62, 3, 54, 4, 3, 54, 5, 21, 5, 16, 10, 162, 0, 50, 42, 21, 5, 46, 27, 42, 21, 5, 46]
abbrev dktX1_parting_0 : List UInt8 := dkwX1_parting_0 ++ dktX1_parting_1
theorem dksX1_parting_0 : cX1_parting.data.toList.drop 0 = dktX1_parting_0 := by decide +kernel
theorem dksX1_parting_1 : cX1_parting.data.toList.drop 24 = dktX1_parting_1 := dk_seg dksX1_parting_0 24 rfl rfl
theorem dksX1_parting_2 : cX1_parting.data.toList.drop 46 = dktX1_parting_2 := dk_seg dksX1_parting_1 22 rfl rfl
theorem dX1_parting_0 : decode cX1_parting 0 = .ok (.iconst (-1), 1) := dk_2 (dk_at dksX1_parting_0 0 rfl rfl)
theorem dX1_parting_1 : decode cX1_parting 1 = .ok (.istore_n 3, 1) := dk_62 (dk_at dksX1_parting_0 1 rfl rfl)
theorem dX1_parting_2 : decode cX1_parting 2 = .ok (.iconst 0, 1) := dk_3 (dk_at dksX1_parting_0 2 rfl rfl)
theorem dX1_parting_3 : decode cX1_parting 3 = .ok (.istore 4, 2) := dk_54 4 (dk_at dksX1_parting_0 3 rfl rfl)
theorem dX1_parting_5 : decode cX1_parting 5 = .ok (.iconst 0, 1) := dk_3 (dk_at dksX1_parting_0 5 rfl rfl)
theorem dX1_parting_6 : decode cX1_parting 6 = .ok (.istore 5, 2) := dk_54 5 (dk_at dksX1_parting_0 6 rfl rfl)
theorem dX1_parting_8 : decode cX1_parting 8 = .ok (.iload 5, 2) := dk_21 5 (dk_at dksX1_parting_0 8 rfl rfl)
theorem dX1_parting_10 : decode cX1_parting 10 = .ok (.bipush 10, 2) := dk_16 10 (dk_at dksX1_parting_0 10 rfl rfl)
theorem dX1_parting_12 : decode cX1_parting 12 = .ok (.if_icmp .ge 50, 3) := dk_162 0 50 (dk_at dksX1_parting_0 12 rfl rfl)
theorem dX1_parting_15 : decode cX1_parting 15 = .ok (.aload_n 0, 1) := dk_42 (dk_at dksX1_parting_0 15 rfl rfl)
theorem dX1_parting_16 : decode cX1_parting 16 = .ok (.iload 5, 2) := dk_21 5 (dk_at dksX1_parting_0 16 rfl rfl)
theorem dX1_parting_18 : decode cX1_parting 18 = .ok (.iaload, 1) := dk_46 (dk_at dksX1_parting_0 18 rfl rfl)
theorem dX1_parting_19 : decode cX1_parting 19 = .ok (.iload_n 1, 1) := dk_27 (dk_at dksX1_parting_0 19 rfl rfl)
theorem dX1_parting_20 : decode cX1_parting 20 = .ok (.aload_n 0, 1) := dk_42 (dk_at dksX1_parting_0 20 rfl rfl)
theorem dX1_parting_21 : decode cX1_parting 21 = .ok (.iload 5, 2) := dk_21 5 (dk_at dksX1_parting_0 21 rfl rfl)
theorem dX1_parting_23 : decode cX1_parting 23 = .ok (.iaload, 1) := dk_46 (dk_at dksX1_parting_0 23 rfl rfl)
theorem dX1_parting_24 : decode cX1_parting 24 = .ok (.isub, 1) := dk_100 (dk_at dksX1_parting_1 0 rfl rfl)
theorem dX1_parting_25 : decode cX1_parting 25 = .ok (.invokestatic 304, 3) := dk_184 1 48 (dk_at dksX1_parting_1 1 rfl rfl)
theorem dX1_parting_28 : decode cX1_parting 28 = .ok (.istore 6, 2) := dk_54 6 (dk_at dksX1_parting_1 4 rfl rfl)
theorem dX1_parting_30 : decode cX1_parting 30 = .ok (.iload_n 2, 1) := dk_28 (dk_at dksX1_parting_1 6 rfl rfl)
theorem dX1_parting_31 : decode cX1_parting 31 = .ok (.iload 5, 2) := dk_21 5 (dk_at dksX1_parting_1 7 rfl rfl)
theorem dX1_parting_33 : decode cX1_parting 33 = .ok (.invokestatic 177, 3) := dk_184 0 177 (dk_at dksX1_parting_1 9 rfl rfl)
theorem dX1_parting_36 : decode cX1_parting 36 = .ok (.ifCond .eq 20, 3) := dk_153 0 20 (dk_at dksX1_parting_1 12 rfl rfl)
theorem dX1_parting_39 : decode cX1_parting 39 = .ok (.iload 6, 2) := dk_21 6 (dk_at dksX1_parting_1 15 rfl rfl)
theorem dX1_parting_41 : decode cX1_parting 41 = .ok (.iload 4, 2) := dk_21 4 (dk_at dksX1_parting_1 17 rfl rfl)
theorem dX1_parting_43 : decode cX1_parting 43 = .ok (.if_icmp .gt 6, 3) := dk_163 0 6 (dk_at dksX1_parting_1 19 rfl rfl)
theorem dX1_parting_46 : decode cX1_parting 46 = .ok (.goto 10, 3) := dk_167 0 10 (dk_at dksX1_parting_2 0 rfl rfl)
theorem dX1_parting_49 : decode cX1_parting 49 = .ok (.iload 5, 2) := dk_21 5 (dk_at dksX1_parting_2 3 rfl rfl)
theorem dX1_parting_51 : decode cX1_parting 51 = .ok (.istore_n 3, 1) := dk_62 (dk_at dksX1_parting_2 5 rfl rfl)
theorem dX1_parting_52 : decode cX1_parting 52 = .ok (.iload 6, 2) := dk_21 6 (dk_at dksX1_parting_2 6 rfl rfl)
theorem dX1_parting_54 : decode cX1_parting 54 = .ok (.istore 4, 2) := dk_54 4 (dk_at dksX1_parting_2 8 rfl rfl)
theorem dX1_parting_56 : decode cX1_parting 56 = .ok (.iinc 5 1, 3) := dk_132 5 1 (dk_at dksX1_parting_2 10 rfl rfl)
theorem dX1_parting_59 : decode cX1_parting 59 = .ok (.goto (-51), 3) := dk_167 255 205 (dk_at dksX1_parting_2 13 rfl rfl)
theorem dX1_parting_62 : decode cX1_parting 62 = .ok (.iload_n 3, 1) := dk_29 (dk_at dksX1_parting_2 16 rfl rfl)
theorem dX1_parting_63 : decode cX1_parting 63 = .ok (.ireturn, 1) := dk_172 (dk_at dksX1_parting_2 17 rfl rfl)
abbrev cX1_tell : ByteArray := prog_1_method_33_code
def yX1_tell : MethodName := ⟨RX1, "tell", "(IIZ)Z"⟩
def dkwX1_tell_2 : List UInt8 := [29, 153, 0, 7, 4, 167, 0, 4, 3, 79, 182, 0, 232, 87, 4, 172]
abbrev dktX1_tell_2 : List UInt8 := dkwX1_tell_2 ++ []
def dkwX1_tell_1 : List UInt8 := [16, 12, 160, 0, 5, 3, 172, 42, 180, 0, 60, 6, 188, 10, 89, 3, 27, 79, 89, 4, 28, 79, 89, 5]
abbrev dktX1_tell_1 : List UInt8 := dkwX1_tell_1 ++ dktX1_tell_2
def dkwX1_tell_0 : List UInt8 := [42, 27, 182, 0, 191, 153, 0, 23, 42, 28, 182, 0, 191, 153, 0, 15, 42, 180, 0, 60, 182, 0, 128]
abbrev dktX1_tell_0 : List UInt8 := dkwX1_tell_0 ++ dktX1_tell_1
theorem dksX1_tell_0 : cX1_tell.data.toList.drop 0 = dktX1_tell_0 := by decide +kernel
theorem dksX1_tell_1 : cX1_tell.data.toList.drop 23 = dktX1_tell_1 := dk_seg dksX1_tell_0 23 rfl rfl
theorem dksX1_tell_2 : cX1_tell.data.toList.drop 47 = dktX1_tell_2 := dk_seg dksX1_tell_1 24 rfl rfl
theorem dX1_tell_0 : decode cX1_tell 0 = .ok (.aload_n 0, 1) := dk_42 (dk_at dksX1_tell_0 0 rfl rfl)
theorem dX1_tell_1 : decode cX1_tell 1 = .ok (.iload_n 1, 1) := dk_27 (dk_at dksX1_tell_0 1 rfl rfl)
theorem dX1_tell_2 : decode cX1_tell 2 = .ok (.invokevirtual 191, 3) := dk_182 0 191 (dk_at dksX1_tell_0 2 rfl rfl)
theorem dX1_tell_5 : decode cX1_tell 5 = .ok (.ifCond .eq 23, 3) := dk_153 0 23 (dk_at dksX1_tell_0 5 rfl rfl)
theorem dX1_tell_8 : decode cX1_tell 8 = .ok (.aload_n 0, 1) := dk_42 (dk_at dksX1_tell_0 8 rfl rfl)
theorem dX1_tell_9 : decode cX1_tell 9 = .ok (.iload_n 2, 1) := dk_28 (dk_at dksX1_tell_0 9 rfl rfl)
theorem dX1_tell_10 : decode cX1_tell 10 = .ok (.invokevirtual 191, 3) := dk_182 0 191 (dk_at dksX1_tell_0 10 rfl rfl)
theorem dX1_tell_13 : decode cX1_tell 13 = .ok (.ifCond .eq 15, 3) := dk_153 0 15 (dk_at dksX1_tell_0 13 rfl rfl)
theorem dX1_tell_16 : decode cX1_tell 16 = .ok (.aload_n 0, 1) := dk_42 (dk_at dksX1_tell_0 16 rfl rfl)
theorem dX1_tell_17 : decode cX1_tell 17 = .ok (.getfield 60, 3) := dk_180 0 60 (dk_at dksX1_tell_0 17 rfl rfl)
theorem dX1_tell_20 : decode cX1_tell 20 = .ok (.invokevirtual 128, 3) := dk_182 0 128 (dk_at dksX1_tell_0 20 rfl rfl)
theorem dX1_tell_23 : decode cX1_tell 23 = .ok (.bipush 12, 2) := dk_16 12 (dk_at dksX1_tell_1 0 rfl rfl)
theorem dX1_tell_25 : decode cX1_tell 25 = .ok (.if_icmp .ne 5, 3) := dk_160 0 5 (dk_at dksX1_tell_1 2 rfl rfl)
theorem dX1_tell_28 : decode cX1_tell 28 = .ok (.iconst 0, 1) := dk_3 (dk_at dksX1_tell_1 5 rfl rfl)
theorem dX1_tell_29 : decode cX1_tell 29 = .ok (.ireturn, 1) := dk_172 (dk_at dksX1_tell_1 6 rfl rfl)
theorem dX1_tell_30 : decode cX1_tell 30 = .ok (.aload_n 0, 1) := dk_42 (dk_at dksX1_tell_1 7 rfl rfl)
theorem dX1_tell_31 : decode cX1_tell 31 = .ok (.getfield 60, 3) := dk_180 0 60 (dk_at dksX1_tell_1 8 rfl rfl)
theorem dX1_tell_34 : decode cX1_tell 34 = .ok (.iconst 3, 1) := dk_6 (dk_at dksX1_tell_1 11 rfl rfl)
theorem dX1_tell_35 : decode cX1_tell 35 = .ok (.newarray .int, 2) := dk_188_10 (dk_at dksX1_tell_1 12 rfl rfl)
theorem dX1_tell_37 : decode cX1_tell 37 = .ok (.dup, 1) := dk_89 (dk_at dksX1_tell_1 14 rfl rfl)
theorem dX1_tell_38 : decode cX1_tell 38 = .ok (.iconst 0, 1) := dk_3 (dk_at dksX1_tell_1 15 rfl rfl)
theorem dX1_tell_39 : decode cX1_tell 39 = .ok (.iload_n 1, 1) := dk_27 (dk_at dksX1_tell_1 16 rfl rfl)
theorem dX1_tell_40 : decode cX1_tell 40 = .ok (.iastore, 1) := dk_79 (dk_at dksX1_tell_1 17 rfl rfl)
theorem dX1_tell_41 : decode cX1_tell 41 = .ok (.dup, 1) := dk_89 (dk_at dksX1_tell_1 18 rfl rfl)
theorem dX1_tell_42 : decode cX1_tell 42 = .ok (.iconst 1, 1) := dk_4 (dk_at dksX1_tell_1 19 rfl rfl)
theorem dX1_tell_43 : decode cX1_tell 43 = .ok (.iload_n 2, 1) := dk_28 (dk_at dksX1_tell_1 20 rfl rfl)
theorem dX1_tell_44 : decode cX1_tell 44 = .ok (.iastore, 1) := dk_79 (dk_at dksX1_tell_1 21 rfl rfl)
theorem dX1_tell_45 : decode cX1_tell 45 = .ok (.dup, 1) := dk_89 (dk_at dksX1_tell_1 22 rfl rfl)
theorem dX1_tell_46 : decode cX1_tell 46 = .ok (.iconst 2, 1) := dk_5 (dk_at dksX1_tell_1 23 rfl rfl)
theorem dX1_tell_47 : decode cX1_tell 47 = .ok (.iload_n 3, 1) := dk_29 (dk_at dksX1_tell_2 0 rfl rfl)
theorem dX1_tell_48 : decode cX1_tell 48 = .ok (.ifCond .eq 7, 3) := dk_153 0 7 (dk_at dksX1_tell_2 1 rfl rfl)
theorem dX1_tell_51 : decode cX1_tell 51 = .ok (.iconst 1, 1) := dk_4 (dk_at dksX1_tell_2 4 rfl rfl)
theorem dX1_tell_52 : decode cX1_tell 52 = .ok (.goto 4, 3) := dk_167 0 4 (dk_at dksX1_tell_2 5 rfl rfl)
theorem dX1_tell_55 : decode cX1_tell 55 = .ok (.iconst 0, 1) := dk_3 (dk_at dksX1_tell_2 8 rfl rfl)
theorem dX1_tell_56 : decode cX1_tell 56 = .ok (.iastore, 1) := dk_79 (dk_at dksX1_tell_2 9 rfl rfl)
theorem dX1_tell_57 : decode cX1_tell 57 = .ok (.invokevirtual 232, 3) := dk_182 0 232 (dk_at dksX1_tell_2 10 rfl rfl)
theorem dX1_tell_60 : decode cX1_tell 60 = .ok (.pop, 1) := dk_87 (dk_at dksX1_tell_2 13 rfl rfl)
theorem dX1_tell_61 : decode cX1_tell 61 = .ok (.iconst 1, 1) := dk_4 (dk_at dksX1_tell_2 14 rfl rfl)
theorem dX1_tell_62 : decode cX1_tell 62 = .ok (.ireturn, 1) := dk_172 (dk_at dksX1_tell_2 15 rfl rfl)
abbrev cX1_laws : ByteArray := prog_1_method_35_code
def yX1_laws : MethodName := ⟨RX1, "laws", "(I)I"⟩
def dkwX1_laws_4 : List UInt8 := [21, 4, 172]
abbrev dktX1_laws_4 : List UInt8 := dkwX1_laws_4 ++ []
def dkwX1_laws_3 : List UInt8 := [132, 5, 1, 167, 255, 204, 27, 154, 0, 7, 28, 167, 0, 14, 27, 4, 160, 0, 7, 29, 167, 0, 5]
abbrev dktX1_laws_3 : List UInt8 := dkwX1_laws_3 ++ dktX1_laws_4
def dkwX1_laws_2 : List UInt8 := [167, 0, 17, 28, 154, 0, 10, 21, 5, 62, 21, 6, 54, 4, 132, 2, 1, 132, 6, 255, 167, 255, 220]
abbrev dktX1_laws_2 : List UInt8 := dkwX1_laws_2 ++ dktX1_laws_3
def dkwX1_laws_1 : List UInt8 := [163, 0, 52, 16, 8, 54, 6, 21, 6, 158, 0, 37, 42, 21, 5, 21, 6, 182, 1, 54, 154, 0, 6]
abbrev dktX1_laws_1 : List UInt8 := dkwX1_laws_1 ++ dktX1_laws_2
def dkwX1_laws_0 : List UInt8 := [27, 3, 5, 184, 0, 137, 154, 0, 5, 2, 172, 3, 61, 2, 62, 2, 54, 4, 3, 54, 5, 21, 5, 7]
abbrev dktX1_laws_0 : List UInt8 := dkwX1_laws_0 ++ dktX1_laws_1
theorem dksX1_laws_0 : cX1_laws.data.toList.drop 0 = dktX1_laws_0 := by decide +kernel
theorem dksX1_laws_1 : cX1_laws.data.toList.drop 24 = dktX1_laws_1 := dk_seg dksX1_laws_0 24 rfl rfl
theorem dksX1_laws_2 : cX1_laws.data.toList.drop 47 = dktX1_laws_2 := dk_seg dksX1_laws_1 23 rfl rfl
theorem dksX1_laws_3 : cX1_laws.data.toList.drop 70 = dktX1_laws_3 := dk_seg dksX1_laws_2 23 rfl rfl
theorem dksX1_laws_4 : cX1_laws.data.toList.drop 93 = dktX1_laws_4 := dk_seg dksX1_laws_3 23 rfl rfl
theorem dX1_laws_0 : decode cX1_laws 0 = .ok (.iload_n 1, 1) := dk_27 (dk_at dksX1_laws_0 0 rfl rfl)
theorem dX1_laws_1 : decode cX1_laws 1 = .ok (.iconst 0, 1) := dk_3 (dk_at dksX1_laws_0 1 rfl rfl)
theorem dX1_laws_2 : decode cX1_laws 2 = .ok (.iconst 2, 1) := dk_5 (dk_at dksX1_laws_0 2 rfl rfl)
theorem dX1_laws_3 : decode cX1_laws 3 = .ok (.invokestatic 137, 3) := dk_184 0 137 (dk_at dksX1_laws_0 3 rfl rfl)
theorem dX1_laws_6 : decode cX1_laws 6 = .ok (.ifCond .ne 5, 3) := dk_154 0 5 (dk_at dksX1_laws_0 6 rfl rfl)
theorem dX1_laws_9 : decode cX1_laws 9 = .ok (.iconst (-1), 1) := dk_2 (dk_at dksX1_laws_0 9 rfl rfl)
theorem dX1_laws_10 : decode cX1_laws 10 = .ok (.ireturn, 1) := dk_172 (dk_at dksX1_laws_0 10 rfl rfl)
theorem dX1_laws_11 : decode cX1_laws 11 = .ok (.iconst 0, 1) := dk_3 (dk_at dksX1_laws_0 11 rfl rfl)
theorem dX1_laws_12 : decode cX1_laws 12 = .ok (.istore_n 2, 1) := dk_61 (dk_at dksX1_laws_0 12 rfl rfl)
theorem dX1_laws_13 : decode cX1_laws 13 = .ok (.iconst (-1), 1) := dk_2 (dk_at dksX1_laws_0 13 rfl rfl)
theorem dX1_laws_14 : decode cX1_laws 14 = .ok (.istore_n 3, 1) := dk_62 (dk_at dksX1_laws_0 14 rfl rfl)
theorem dX1_laws_15 : decode cX1_laws 15 = .ok (.iconst (-1), 1) := dk_2 (dk_at dksX1_laws_0 15 rfl rfl)
theorem dX1_laws_16 : decode cX1_laws 16 = .ok (.istore 4, 2) := dk_54 4 (dk_at dksX1_laws_0 16 rfl rfl)
theorem dX1_laws_18 : decode cX1_laws 18 = .ok (.iconst 0, 1) := dk_3 (dk_at dksX1_laws_0 18 rfl rfl)
theorem dX1_laws_19 : decode cX1_laws 19 = .ok (.istore 5, 2) := dk_54 5 (dk_at dksX1_laws_0 19 rfl rfl)
theorem dX1_laws_21 : decode cX1_laws 21 = .ok (.iload 5, 2) := dk_21 5 (dk_at dksX1_laws_0 21 rfl rfl)
theorem dX1_laws_23 : decode cX1_laws 23 = .ok (.iconst 4, 1) := dk_7 (dk_at dksX1_laws_0 23 rfl rfl)
theorem dX1_laws_24 : decode cX1_laws 24 = .ok (.if_icmp .gt 52, 3) := dk_163 0 52 (dk_at dksX1_laws_1 0 rfl rfl)
theorem dX1_laws_27 : decode cX1_laws 27 = .ok (.bipush 8, 2) := dk_16 8 (dk_at dksX1_laws_1 3 rfl rfl)
theorem dX1_laws_29 : decode cX1_laws 29 = .ok (.istore 6, 2) := dk_54 6 (dk_at dksX1_laws_1 5 rfl rfl)
theorem dX1_laws_31 : decode cX1_laws 31 = .ok (.iload 6, 2) := dk_21 6 (dk_at dksX1_laws_1 7 rfl rfl)
theorem dX1_laws_33 : decode cX1_laws 33 = .ok (.ifCond .le 37, 3) := dk_158 0 37 (dk_at dksX1_laws_1 9 rfl rfl)
theorem dX1_laws_36 : decode cX1_laws 36 = .ok (.aload_n 0, 1) := dk_42 (dk_at dksX1_laws_1 12 rfl rfl)
theorem dX1_laws_37 : decode cX1_laws 37 = .ok (.iload 5, 2) := dk_21 5 (dk_at dksX1_laws_1 13 rfl rfl)
theorem dX1_laws_39 : decode cX1_laws 39 = .ok (.iload 6, 2) := dk_21 6 (dk_at dksX1_laws_1 15 rfl rfl)
theorem dX1_laws_41 : decode cX1_laws 41 = .ok (.invokevirtual 310, 3) := dk_182 1 54 (dk_at dksX1_laws_1 17 rfl rfl)
theorem dX1_laws_44 : decode cX1_laws 44 = .ok (.ifCond .ne 6, 3) := dk_154 0 6 (dk_at dksX1_laws_1 20 rfl rfl)
theorem dX1_laws_47 : decode cX1_laws 47 = .ok (.goto 17, 3) := dk_167 0 17 (dk_at dksX1_laws_2 0 rfl rfl)
theorem dX1_laws_50 : decode cX1_laws 50 = .ok (.iload_n 2, 1) := dk_28 (dk_at dksX1_laws_2 3 rfl rfl)
theorem dX1_laws_51 : decode cX1_laws 51 = .ok (.ifCond .ne 10, 3) := dk_154 0 10 (dk_at dksX1_laws_2 4 rfl rfl)
theorem dX1_laws_54 : decode cX1_laws 54 = .ok (.iload 5, 2) := dk_21 5 (dk_at dksX1_laws_2 7 rfl rfl)
theorem dX1_laws_56 : decode cX1_laws 56 = .ok (.istore_n 3, 1) := dk_62 (dk_at dksX1_laws_2 9 rfl rfl)
theorem dX1_laws_57 : decode cX1_laws 57 = .ok (.iload 6, 2) := dk_21 6 (dk_at dksX1_laws_2 10 rfl rfl)
theorem dX1_laws_59 : decode cX1_laws 59 = .ok (.istore 4, 2) := dk_54 4 (dk_at dksX1_laws_2 12 rfl rfl)
theorem dX1_laws_61 : decode cX1_laws 61 = .ok (.iinc 2 1, 3) := dk_132 2 1 (dk_at dksX1_laws_2 14 rfl rfl)
theorem dX1_laws_64 : decode cX1_laws 64 = .ok (.iinc 6 (-1), 3) := dk_132 6 255 (dk_at dksX1_laws_2 17 rfl rfl)
theorem dX1_laws_67 : decode cX1_laws 67 = .ok (.goto (-36), 3) := dk_167 255 220 (dk_at dksX1_laws_2 20 rfl rfl)
theorem dX1_laws_70 : decode cX1_laws 70 = .ok (.iinc 5 1, 3) := dk_132 5 1 (dk_at dksX1_laws_3 0 rfl rfl)
theorem dX1_laws_73 : decode cX1_laws 73 = .ok (.goto (-52), 3) := dk_167 255 204 (dk_at dksX1_laws_3 3 rfl rfl)
theorem dX1_laws_76 : decode cX1_laws 76 = .ok (.iload_n 1, 1) := dk_27 (dk_at dksX1_laws_3 6 rfl rfl)
theorem dX1_laws_77 : decode cX1_laws 77 = .ok (.ifCond .ne 7, 3) := dk_154 0 7 (dk_at dksX1_laws_3 7 rfl rfl)
theorem dX1_laws_80 : decode cX1_laws 80 = .ok (.iload_n 2, 1) := dk_28 (dk_at dksX1_laws_3 10 rfl rfl)
theorem dX1_laws_81 : decode cX1_laws 81 = .ok (.goto 14, 3) := dk_167 0 14 (dk_at dksX1_laws_3 11 rfl rfl)
theorem dX1_laws_84 : decode cX1_laws 84 = .ok (.iload_n 1, 1) := dk_27 (dk_at dksX1_laws_3 14 rfl rfl)
theorem dX1_laws_85 : decode cX1_laws 85 = .ok (.iconst 1, 1) := dk_4 (dk_at dksX1_laws_3 15 rfl rfl)
theorem dX1_laws_86 : decode cX1_laws 86 = .ok (.if_icmp .ne 7, 3) := dk_160 0 7 (dk_at dksX1_laws_3 16 rfl rfl)
theorem dX1_laws_89 : decode cX1_laws 89 = .ok (.iload_n 3, 1) := dk_29 (dk_at dksX1_laws_3 19 rfl rfl)
theorem dX1_laws_90 : decode cX1_laws 90 = .ok (.goto 5, 3) := dk_167 0 5 (dk_at dksX1_laws_3 20 rfl rfl)
theorem dX1_laws_93 : decode cX1_laws 93 = .ok (.iload 4, 2) := dk_21 4 (dk_at dksX1_laws_4 0 rfl rfl)
theorem dX1_laws_95 : decode cX1_laws 95 = .ok (.ireturn, 1) := dk_172 (dk_at dksX1_laws_4 2 rfl rfl)
abbrev cX1_isLaw : ByteArray := prog_1_method_34_code
def yX1_isLaw : MethodName := ⟨RX1, "isLaw", "(II)Z"⟩
def dkwX1_isLaw_4 : List UInt8 := [132, 3, 1, 167, 255, 164, 4, 172]
abbrev dktX1_isLaw_4 : List UInt8 := dkwX1_isLaw_4 ++ []
def dkwX1_isLaw_3 : List UInt8 := [54, 5, 21, 5, 25, 4, 5, 46, 4, 160, 0, 7, 4, 167, 0, 4, 3, 159, 0, 5, 3, 172]
abbrev dktX1_isLaw_3 : List UInt8 := dkwX1_isLaw_3 ++ dktX1_isLaw_4
def dkwX1_isLaw_2 : List UInt8 := [182, 0, 116, 25, 4, 3, 46, 25, 4, 4, 46, 182, 0, 203, 28, 161, 0, 7, 4, 167, 0, 4, 3]
abbrev dktX1_isLaw_2 : List UInt8 := dkwX1_isLaw_2 ++ dktX1_isLaw_3
def dkwX1_isLaw_1 : List UInt8 := [58, 4, 42, 182, 0, 116, 25, 4, 3, 46, 25, 4, 4, 46, 182, 0, 194, 27, 164, 0, 22, 42]
abbrev dktX1_isLaw_1 : List UInt8 := dkwX1_isLaw_1 ++ dktX1_isLaw_2
def dkwX1_isLaw_0 : List UInt8 := [3, 62, 29, 42, 180, 0, 60, 182, 0, 128, 162, 0, 87, 42, 180, 0, 60, 29, 182, 0, 150, 192, 1, 53]
abbrev dktX1_isLaw_0 : List UInt8 := dkwX1_isLaw_0 ++ dktX1_isLaw_1
theorem dksX1_isLaw_0 : cX1_isLaw.data.toList.drop 0 = dktX1_isLaw_0 := by decide +kernel
theorem dksX1_isLaw_1 : cX1_isLaw.data.toList.drop 24 = dktX1_isLaw_1 := dk_seg dksX1_isLaw_0 24 rfl rfl
theorem dksX1_isLaw_2 : cX1_isLaw.data.toList.drop 46 = dktX1_isLaw_2 := dk_seg dksX1_isLaw_1 22 rfl rfl
theorem dksX1_isLaw_3 : cX1_isLaw.data.toList.drop 69 = dktX1_isLaw_3 := dk_seg dksX1_isLaw_2 23 rfl rfl
theorem dksX1_isLaw_4 : cX1_isLaw.data.toList.drop 91 = dktX1_isLaw_4 := dk_seg dksX1_isLaw_3 22 rfl rfl
theorem dX1_isLaw_0 : decode cX1_isLaw 0 = .ok (.iconst 0, 1) := dk_3 (dk_at dksX1_isLaw_0 0 rfl rfl)
theorem dX1_isLaw_1 : decode cX1_isLaw 1 = .ok (.istore_n 3, 1) := dk_62 (dk_at dksX1_isLaw_0 1 rfl rfl)
theorem dX1_isLaw_2 : decode cX1_isLaw 2 = .ok (.iload_n 3, 1) := dk_29 (dk_at dksX1_isLaw_0 2 rfl rfl)
theorem dX1_isLaw_3 : decode cX1_isLaw 3 = .ok (.aload_n 0, 1) := dk_42 (dk_at dksX1_isLaw_0 3 rfl rfl)
theorem dX1_isLaw_4 : decode cX1_isLaw 4 = .ok (.getfield 60, 3) := dk_180 0 60 (dk_at dksX1_isLaw_0 4 rfl rfl)
theorem dX1_isLaw_7 : decode cX1_isLaw 7 = .ok (.invokevirtual 128, 3) := dk_182 0 128 (dk_at dksX1_isLaw_0 7 rfl rfl)
theorem dX1_isLaw_10 : decode cX1_isLaw 10 = .ok (.if_icmp .ge 87, 3) := dk_162 0 87 (dk_at dksX1_isLaw_0 10 rfl rfl)
theorem dX1_isLaw_13 : decode cX1_isLaw 13 = .ok (.aload_n 0, 1) := dk_42 (dk_at dksX1_isLaw_0 13 rfl rfl)
theorem dX1_isLaw_14 : decode cX1_isLaw 14 = .ok (.getfield 60, 3) := dk_180 0 60 (dk_at dksX1_isLaw_0 14 rfl rfl)
theorem dX1_isLaw_17 : decode cX1_isLaw 17 = .ok (.iload_n 3, 1) := dk_29 (dk_at dksX1_isLaw_0 17 rfl rfl)
theorem dX1_isLaw_18 : decode cX1_isLaw 18 = .ok (.invokevirtual 150, 3) := dk_182 0 150 (dk_at dksX1_isLaw_0 18 rfl rfl)
theorem dX1_isLaw_21 : decode cX1_isLaw 21 = .ok (.checkcast 309, 3) := dk_192 1 53 (dk_at dksX1_isLaw_0 21 rfl rfl)
theorem dX1_isLaw_24 : decode cX1_isLaw 24 = .ok (.astore 4, 2) := dk_58 4 (dk_at dksX1_isLaw_1 0 rfl rfl)
theorem dX1_isLaw_26 : decode cX1_isLaw 26 = .ok (.aload_n 0, 1) := dk_42 (dk_at dksX1_isLaw_1 2 rfl rfl)
theorem dX1_isLaw_27 : decode cX1_isLaw 27 = .ok (.invokevirtual 116, 3) := dk_182 0 116 (dk_at dksX1_isLaw_1 3 rfl rfl)
theorem dX1_isLaw_30 : decode cX1_isLaw 30 = .ok (.aload 4, 2) := dk_25 4 (dk_at dksX1_isLaw_1 6 rfl rfl)
theorem dX1_isLaw_32 : decode cX1_isLaw 32 = .ok (.iconst 0, 1) := dk_3 (dk_at dksX1_isLaw_1 8 rfl rfl)
theorem dX1_isLaw_33 : decode cX1_isLaw 33 = .ok (.iaload, 1) := dk_46 (dk_at dksX1_isLaw_1 9 rfl rfl)
theorem dX1_isLaw_34 : decode cX1_isLaw 34 = .ok (.aload 4, 2) := dk_25 4 (dk_at dksX1_isLaw_1 10 rfl rfl)
theorem dX1_isLaw_36 : decode cX1_isLaw 36 = .ok (.iconst 1, 1) := dk_4 (dk_at dksX1_isLaw_1 12 rfl rfl)
theorem dX1_isLaw_37 : decode cX1_isLaw 37 = .ok (.iaload, 1) := dk_46 (dk_at dksX1_isLaw_1 13 rfl rfl)
theorem dX1_isLaw_38 : decode cX1_isLaw 38 = .ok (.invokevirtual 194, 3) := dk_182 0 194 (dk_at dksX1_isLaw_1 14 rfl rfl)
theorem dX1_isLaw_41 : decode cX1_isLaw 41 = .ok (.iload_n 1, 1) := dk_27 (dk_at dksX1_isLaw_1 17 rfl rfl)
theorem dX1_isLaw_42 : decode cX1_isLaw 42 = .ok (.if_icmp .le 22, 3) := dk_164 0 22 (dk_at dksX1_isLaw_1 18 rfl rfl)
theorem dX1_isLaw_45 : decode cX1_isLaw 45 = .ok (.aload_n 0, 1) := dk_42 (dk_at dksX1_isLaw_1 21 rfl rfl)
theorem dX1_isLaw_46 : decode cX1_isLaw 46 = .ok (.invokevirtual 116, 3) := dk_182 0 116 (dk_at dksX1_isLaw_2 0 rfl rfl)
theorem dX1_isLaw_49 : decode cX1_isLaw 49 = .ok (.aload 4, 2) := dk_25 4 (dk_at dksX1_isLaw_2 3 rfl rfl)
theorem dX1_isLaw_51 : decode cX1_isLaw 51 = .ok (.iconst 0, 1) := dk_3 (dk_at dksX1_isLaw_2 5 rfl rfl)
theorem dX1_isLaw_52 : decode cX1_isLaw 52 = .ok (.iaload, 1) := dk_46 (dk_at dksX1_isLaw_2 6 rfl rfl)
theorem dX1_isLaw_53 : decode cX1_isLaw 53 = .ok (.aload 4, 2) := dk_25 4 (dk_at dksX1_isLaw_2 7 rfl rfl)
theorem dX1_isLaw_55 : decode cX1_isLaw 55 = .ok (.iconst 1, 1) := dk_4 (dk_at dksX1_isLaw_2 9 rfl rfl)
theorem dX1_isLaw_56 : decode cX1_isLaw 56 = .ok (.iaload, 1) := dk_46 (dk_at dksX1_isLaw_2 10 rfl rfl)
theorem dX1_isLaw_57 : decode cX1_isLaw 57 = .ok (.invokevirtual 203, 3) := dk_182 0 203 (dk_at dksX1_isLaw_2 11 rfl rfl)
theorem dX1_isLaw_60 : decode cX1_isLaw 60 = .ok (.iload_n 2, 1) := dk_28 (dk_at dksX1_isLaw_2 14 rfl rfl)
theorem dX1_isLaw_61 : decode cX1_isLaw 61 = .ok (.if_icmp .lt 7, 3) := dk_161 0 7 (dk_at dksX1_isLaw_2 15 rfl rfl)
theorem dX1_isLaw_64 : decode cX1_isLaw 64 = .ok (.iconst 1, 1) := dk_4 (dk_at dksX1_isLaw_2 18 rfl rfl)
theorem dX1_isLaw_65 : decode cX1_isLaw 65 = .ok (.goto 4, 3) := dk_167 0 4 (dk_at dksX1_isLaw_2 19 rfl rfl)
theorem dX1_isLaw_68 : decode cX1_isLaw 68 = .ok (.iconst 0, 1) := dk_3 (dk_at dksX1_isLaw_2 22 rfl rfl)
theorem dX1_isLaw_69 : decode cX1_isLaw 69 = .ok (.istore 5, 2) := dk_54 5 (dk_at dksX1_isLaw_3 0 rfl rfl)
theorem dX1_isLaw_71 : decode cX1_isLaw 71 = .ok (.iload 5, 2) := dk_21 5 (dk_at dksX1_isLaw_3 2 rfl rfl)
theorem dX1_isLaw_73 : decode cX1_isLaw 73 = .ok (.aload 4, 2) := dk_25 4 (dk_at dksX1_isLaw_3 4 rfl rfl)
theorem dX1_isLaw_75 : decode cX1_isLaw 75 = .ok (.iconst 2, 1) := dk_5 (dk_at dksX1_isLaw_3 6 rfl rfl)
theorem dX1_isLaw_76 : decode cX1_isLaw 76 = .ok (.iaload, 1) := dk_46 (dk_at dksX1_isLaw_3 7 rfl rfl)
theorem dX1_isLaw_77 : decode cX1_isLaw 77 = .ok (.iconst 1, 1) := dk_4 (dk_at dksX1_isLaw_3 8 rfl rfl)
theorem dX1_isLaw_78 : decode cX1_isLaw 78 = .ok (.if_icmp .ne 7, 3) := dk_160 0 7 (dk_at dksX1_isLaw_3 9 rfl rfl)
theorem dX1_isLaw_81 : decode cX1_isLaw 81 = .ok (.iconst 1, 1) := dk_4 (dk_at dksX1_isLaw_3 12 rfl rfl)
theorem dX1_isLaw_82 : decode cX1_isLaw 82 = .ok (.goto 4, 3) := dk_167 0 4 (dk_at dksX1_isLaw_3 13 rfl rfl)
theorem dX1_isLaw_85 : decode cX1_isLaw 85 = .ok (.iconst 0, 1) := dk_3 (dk_at dksX1_isLaw_3 16 rfl rfl)
theorem dX1_isLaw_86 : decode cX1_isLaw 86 = .ok (.if_icmp .eq 5, 3) := dk_159 0 5 (dk_at dksX1_isLaw_3 17 rfl rfl)
theorem dX1_isLaw_89 : decode cX1_isLaw 89 = .ok (.iconst 0, 1) := dk_3 (dk_at dksX1_isLaw_3 20 rfl rfl)
theorem dX1_isLaw_90 : decode cX1_isLaw 90 = .ok (.ireturn, 1) := dk_172 (dk_at dksX1_isLaw_3 21 rfl rfl)
theorem dX1_isLaw_91 : decode cX1_isLaw 91 = .ok (.iinc 3 1, 3) := dk_132 3 1 (dk_at dksX1_isLaw_4 0 rfl rfl)
theorem dX1_isLaw_94 : decode cX1_isLaw 94 = .ok (.goto (-92), 3) := dk_167 255 164 (dk_at dksX1_isLaw_4 3 rfl rfl)
theorem dX1_isLaw_97 : decode cX1_isLaw 97 = .ok (.iconst 1, 1) := dk_4 (dk_at dksX1_isLaw_4 6 rfl rfl)
theorem dX1_isLaw_98 : decode cX1_isLaw 98 = .ok (.ireturn, 1) := dk_172 (dk_at dksX1_isLaw_4 7 rfl rfl)
abbrev cX1_loss : ByteArray := prog_1_method_37_code
def yX1_loss : MethodName := ⟨RX1, "loss", "(I)I"⟩
def dkwX1_loss_0 : List UInt8 := [27, 4, 16, 30, 184, 0, 137, 153, 0, 13, 42, 27, 2, 2, 182, 1, 66, 167, 0, 4, 2, 172]
abbrev dktX1_loss_0 : List UInt8 := dkwX1_loss_0 ++ []
theorem dksX1_loss_0 : cX1_loss.data.toList.drop 0 = dktX1_loss_0 := by decide +kernel
theorem dX1_loss_0 : decode cX1_loss 0 = .ok (.iload_n 1, 1) := dk_27 (dk_at dksX1_loss_0 0 rfl rfl)
theorem dX1_loss_1 : decode cX1_loss 1 = .ok (.iconst 1, 1) := dk_4 (dk_at dksX1_loss_0 1 rfl rfl)
theorem dX1_loss_2 : decode cX1_loss 2 = .ok (.bipush 30, 2) := dk_16 30 (dk_at dksX1_loss_0 2 rfl rfl)
theorem dX1_loss_4 : decode cX1_loss 4 = .ok (.invokestatic 137, 3) := dk_184 0 137 (dk_at dksX1_loss_0 4 rfl rfl)
theorem dX1_loss_7 : decode cX1_loss 7 = .ok (.ifCond .eq 13, 3) := dk_153 0 13 (dk_at dksX1_loss_0 7 rfl rfl)
theorem dX1_loss_10 : decode cX1_loss 10 = .ok (.aload_n 0, 1) := dk_42 (dk_at dksX1_loss_0 10 rfl rfl)
theorem dX1_loss_11 : decode cX1_loss 11 = .ok (.iload_n 1, 1) := dk_27 (dk_at dksX1_loss_0 11 rfl rfl)
theorem dX1_loss_12 : decode cX1_loss 12 = .ok (.iconst (-1), 1) := dk_2 (dk_at dksX1_loss_0 12 rfl rfl)
theorem dX1_loss_13 : decode cX1_loss 13 = .ok (.iconst (-1), 1) := dk_2 (dk_at dksX1_loss_0 13 rfl rfl)
theorem dX1_loss_14 : decode cX1_loss 14 = .ok (.invokevirtual 322, 3) := dk_182 1 66 (dk_at dksX1_loss_0 14 rfl rfl)
theorem dX1_loss_17 : decode cX1_loss 17 = .ok (.goto 4, 3) := dk_167 0 4 (dk_at dksX1_loss_0 17 rfl rfl)
theorem dX1_loss_20 : decode cX1_loss 20 = .ok (.iconst (-1), 1) := dk_2 (dk_at dksX1_loss_0 20 rfl rfl)
theorem dX1_loss_21 : decode cX1_loss 21 = .ok (.ireturn, 1) := dk_172 (dk_at dksX1_loss_0 21 rfl rfl)
abbrev cX1_lossOf : ByteArray := prog_1_method_36_code
def yX1_lossOf : MethodName := ⟨RX1, "lossOf", "(III)I"⟩
def dkwX1_lossOf_8 : List UInt8 := [167, 255, 76, 21, 4, 172]
abbrev dktX1_lossOf_8 : List UInt8 := dkwX1_lossOf_8 ++ []
def dkwX1_lossOf_7 : List UInt8 := [180, 0, 166, 133, 19, 1, 57, 21, 7, 100, 133, 105, 20, 1, 64, 109, 136, 96, 54, 4, 132, 5, 1]
abbrev dktX1_lossOf_7 : List UInt8 := dkwX1_lossOf_7 ++ dktX1_lossOf_8
def dkwX1_lossOf_6 : List UInt8 := [132, 8, 1, 167, 255, 173, 21, 4, 42, 182, 0, 116, 180, 0, 125, 21, 5, 182, 0, 150, 192, 0, 15]
abbrev dktX1_lossOf_6 : List UInt8 := dkwX1_lossOf_6 ++ dktX1_lossOf_7
def dkwX1_lossOf_5 : List UInt8 := [153, 0, 18, 21, 7, 16, 10, 25, 10, 4, 46, 100, 104, 16, 10, 108, 54, 7, 132, 9, 1, 167, 255, 188]
abbrev dktX1_lossOf_5 : List UInt8 := dkwX1_lossOf_5 ++ dktX1_lossOf_6
def dkwX1_lossOf_4 : List UInt8 := [182, 0, 150, 192, 1, 53, 58, 10, 42, 182, 0, 116, 21, 5, 25, 10, 3, 46, 21, 6, 182, 1, 61]
abbrev dktX1_lossOf_4 : List UInt8 := dkwX1_lossOf_4 ++ dktX1_lossOf_5
def dkwX1_lossOf_3 : List UInt8 := [42, 182, 0, 116, 180, 1, 58, 182, 0, 128, 162, 0, 59, 42, 182, 0, 116, 180, 1, 58, 21, 9]
abbrev dktX1_lossOf_3 : List UInt8 := dkwX1_lossOf_3 ++ dktX1_lossOf_4
def dkwX1_lossOf_2 : List UInt8 := [21, 5, 46, 54, 6, 19, 1, 57, 54, 7, 3, 54, 8, 21, 8, 27, 162, 0, 83, 3, 54, 9, 21, 9]
abbrev dktX1_lossOf_2 : List UInt8 := dkwX1_lossOf_2 ++ dktX1_lossOf_3
def dkwX1_lossOf_1 : List UInt8 := [154, 0, 6, 167, 0, 156, 21, 5, 28, 160, 0, 7, 29, 167, 0, 13, 42, 180, 0, 40, 180, 0, 172]
abbrev dktX1_lossOf_1 : List UInt8 := dkwX1_lossOf_1 ++ dktX1_lossOf_2
def dkwX1_lossOf_0 : List UInt8 := [3, 54, 4, 3, 54, 5, 21, 5, 42, 182, 0, 135, 162, 0, 177, 42, 180, 0, 40, 21, 5, 182, 0, 169]
abbrev dktX1_lossOf_0 : List UInt8 := dkwX1_lossOf_0 ++ dktX1_lossOf_1
theorem dksX1_lossOf_0 : cX1_lossOf.data.toList.drop 0 = dktX1_lossOf_0 := by decide +kernel
theorem dksX1_lossOf_1 : cX1_lossOf.data.toList.drop 24 = dktX1_lossOf_1 := dk_seg dksX1_lossOf_0 24 rfl rfl
theorem dksX1_lossOf_2 : cX1_lossOf.data.toList.drop 47 = dktX1_lossOf_2 := dk_seg dksX1_lossOf_1 23 rfl rfl
theorem dksX1_lossOf_3 : cX1_lossOf.data.toList.drop 71 = dktX1_lossOf_3 := dk_seg dksX1_lossOf_2 24 rfl rfl
theorem dksX1_lossOf_4 : cX1_lossOf.data.toList.drop 93 = dktX1_lossOf_4 := dk_seg dksX1_lossOf_3 22 rfl rfl
theorem dksX1_lossOf_5 : cX1_lossOf.data.toList.drop 116 = dktX1_lossOf_5 := dk_seg dksX1_lossOf_4 23 rfl rfl
theorem dksX1_lossOf_6 : cX1_lossOf.data.toList.drop 140 = dktX1_lossOf_6 := dk_seg dksX1_lossOf_5 24 rfl rfl
theorem dksX1_lossOf_7 : cX1_lossOf.data.toList.drop 163 = dktX1_lossOf_7 := dk_seg dksX1_lossOf_6 23 rfl rfl
theorem dksX1_lossOf_8 : cX1_lossOf.data.toList.drop 186 = dktX1_lossOf_8 := dk_seg dksX1_lossOf_7 23 rfl rfl
theorem dX1_lossOf_0 : decode cX1_lossOf 0 = .ok (.iconst 0, 1) := dk_3 (dk_at dksX1_lossOf_0 0 rfl rfl)
theorem dX1_lossOf_1 : decode cX1_lossOf 1 = .ok (.istore 4, 2) := dk_54 4 (dk_at dksX1_lossOf_0 1 rfl rfl)
theorem dX1_lossOf_3 : decode cX1_lossOf 3 = .ok (.iconst 0, 1) := dk_3 (dk_at dksX1_lossOf_0 3 rfl rfl)
theorem dX1_lossOf_4 : decode cX1_lossOf 4 = .ok (.istore 5, 2) := dk_54 5 (dk_at dksX1_lossOf_0 4 rfl rfl)
theorem dX1_lossOf_6 : decode cX1_lossOf 6 = .ok (.iload 5, 2) := dk_21 5 (dk_at dksX1_lossOf_0 6 rfl rfl)
theorem dX1_lossOf_8 : decode cX1_lossOf 8 = .ok (.aload_n 0, 1) := dk_42 (dk_at dksX1_lossOf_0 8 rfl rfl)
theorem dX1_lossOf_9 : decode cX1_lossOf 9 = .ok (.invokevirtual 135, 3) := dk_182 0 135 (dk_at dksX1_lossOf_0 9 rfl rfl)
theorem dX1_lossOf_12 : decode cX1_lossOf 12 = .ok (.if_icmp .ge 177, 3) := dk_162 0 177 (dk_at dksX1_lossOf_0 12 rfl rfl)
theorem dX1_lossOf_15 : decode cX1_lossOf 15 = .ok (.aload_n 0, 1) := dk_42 (dk_at dksX1_lossOf_0 15 rfl rfl)
theorem dX1_lossOf_16 : decode cX1_lossOf 16 = .ok (.getfield 40, 3) := dk_180 0 40 (dk_at dksX1_lossOf_0 16 rfl rfl)
theorem dX1_lossOf_19 : decode cX1_lossOf 19 = .ok (.iload 5, 2) := dk_21 5 (dk_at dksX1_lossOf_0 19 rfl rfl)
theorem dX1_lossOf_21 : decode cX1_lossOf 21 = .ok (.invokevirtual 169, 3) := dk_182 0 169 (dk_at dksX1_lossOf_0 21 rfl rfl)
theorem dX1_lossOf_24 : decode cX1_lossOf 24 = .ok (.ifCond .ne 6, 3) := dk_154 0 6 (dk_at dksX1_lossOf_1 0 rfl rfl)
theorem dX1_lossOf_27 : decode cX1_lossOf 27 = .ok (.goto 156, 3) := dk_167 0 156 (dk_at dksX1_lossOf_1 3 rfl rfl)
theorem dX1_lossOf_30 : decode cX1_lossOf 30 = .ok (.iload 5, 2) := dk_21 5 (dk_at dksX1_lossOf_1 6 rfl rfl)
theorem dX1_lossOf_32 : decode cX1_lossOf 32 = .ok (.iload_n 2, 1) := dk_28 (dk_at dksX1_lossOf_1 8 rfl rfl)
theorem dX1_lossOf_33 : decode cX1_lossOf 33 = .ok (.if_icmp .ne 7, 3) := dk_160 0 7 (dk_at dksX1_lossOf_1 9 rfl rfl)
theorem dX1_lossOf_36 : decode cX1_lossOf 36 = .ok (.iload_n 3, 1) := dk_29 (dk_at dksX1_lossOf_1 12 rfl rfl)
theorem dX1_lossOf_37 : decode cX1_lossOf 37 = .ok (.goto 13, 3) := dk_167 0 13 (dk_at dksX1_lossOf_1 13 rfl rfl)
theorem dX1_lossOf_40 : decode cX1_lossOf 40 = .ok (.aload_n 0, 1) := dk_42 (dk_at dksX1_lossOf_1 16 rfl rfl)
theorem dX1_lossOf_41 : decode cX1_lossOf 41 = .ok (.getfield 40, 3) := dk_180 0 40 (dk_at dksX1_lossOf_1 17 rfl rfl)
theorem dX1_lossOf_44 : decode cX1_lossOf 44 = .ok (.getfield 172, 3) := dk_180 0 172 (dk_at dksX1_lossOf_1 20 rfl rfl)
theorem dX1_lossOf_47 : decode cX1_lossOf 47 = .ok (.iload 5, 2) := dk_21 5 (dk_at dksX1_lossOf_2 0 rfl rfl)
theorem dX1_lossOf_49 : decode cX1_lossOf 49 = .ok (.iaload, 1) := dk_46 (dk_at dksX1_lossOf_2 2 rfl rfl)
theorem dX1_lossOf_50 : decode cX1_lossOf 50 = .ok (.istore 6, 2) := dk_54 6 (dk_at dksX1_lossOf_2 3 rfl rfl)
theorem dX1_lossOf_52 : decode cX1_lossOf 52 = .ok (.ldc_w 313, 3) := dk_19 1 57 (dk_at dksX1_lossOf_2 5 rfl rfl)
theorem dX1_lossOf_55 : decode cX1_lossOf 55 = .ok (.istore 7, 2) := dk_54 7 (dk_at dksX1_lossOf_2 8 rfl rfl)
theorem dX1_lossOf_57 : decode cX1_lossOf 57 = .ok (.iconst 0, 1) := dk_3 (dk_at dksX1_lossOf_2 10 rfl rfl)
theorem dX1_lossOf_58 : decode cX1_lossOf 58 = .ok (.istore 8, 2) := dk_54 8 (dk_at dksX1_lossOf_2 11 rfl rfl)
theorem dX1_lossOf_60 : decode cX1_lossOf 60 = .ok (.iload 8, 2) := dk_21 8 (dk_at dksX1_lossOf_2 13 rfl rfl)
theorem dX1_lossOf_62 : decode cX1_lossOf 62 = .ok (.iload_n 1, 1) := dk_27 (dk_at dksX1_lossOf_2 15 rfl rfl)
theorem dX1_lossOf_63 : decode cX1_lossOf 63 = .ok (.if_icmp .ge 83, 3) := dk_162 0 83 (dk_at dksX1_lossOf_2 16 rfl rfl)
theorem dX1_lossOf_66 : decode cX1_lossOf 66 = .ok (.iconst 0, 1) := dk_3 (dk_at dksX1_lossOf_2 19 rfl rfl)
theorem dX1_lossOf_67 : decode cX1_lossOf 67 = .ok (.istore 9, 2) := dk_54 9 (dk_at dksX1_lossOf_2 20 rfl rfl)
theorem dX1_lossOf_69 : decode cX1_lossOf 69 = .ok (.iload 9, 2) := dk_21 9 (dk_at dksX1_lossOf_2 22 rfl rfl)
theorem dX1_lossOf_71 : decode cX1_lossOf 71 = .ok (.aload_n 0, 1) := dk_42 (dk_at dksX1_lossOf_3 0 rfl rfl)
theorem dX1_lossOf_72 : decode cX1_lossOf 72 = .ok (.invokevirtual 116, 3) := dk_182 0 116 (dk_at dksX1_lossOf_3 1 rfl rfl)
theorem dX1_lossOf_75 : decode cX1_lossOf 75 = .ok (.getfield 314, 3) := dk_180 1 58 (dk_at dksX1_lossOf_3 4 rfl rfl)
theorem dX1_lossOf_78 : decode cX1_lossOf 78 = .ok (.invokevirtual 128, 3) := dk_182 0 128 (dk_at dksX1_lossOf_3 7 rfl rfl)
theorem dX1_lossOf_81 : decode cX1_lossOf 81 = .ok (.if_icmp .ge 59, 3) := dk_162 0 59 (dk_at dksX1_lossOf_3 10 rfl rfl)
theorem dX1_lossOf_84 : decode cX1_lossOf 84 = .ok (.aload_n 0, 1) := dk_42 (dk_at dksX1_lossOf_3 13 rfl rfl)
theorem dX1_lossOf_85 : decode cX1_lossOf 85 = .ok (.invokevirtual 116, 3) := dk_182 0 116 (dk_at dksX1_lossOf_3 14 rfl rfl)
theorem dX1_lossOf_88 : decode cX1_lossOf 88 = .ok (.getfield 314, 3) := dk_180 1 58 (dk_at dksX1_lossOf_3 17 rfl rfl)
theorem dX1_lossOf_91 : decode cX1_lossOf 91 = .ok (.iload 9, 2) := dk_21 9 (dk_at dksX1_lossOf_3 20 rfl rfl)
theorem dX1_lossOf_93 : decode cX1_lossOf 93 = .ok (.invokevirtual 150, 3) := dk_182 0 150 (dk_at dksX1_lossOf_4 0 rfl rfl)
theorem dX1_lossOf_96 : decode cX1_lossOf 96 = .ok (.checkcast 309, 3) := dk_192 1 53 (dk_at dksX1_lossOf_4 3 rfl rfl)
theorem dX1_lossOf_99 : decode cX1_lossOf 99 = .ok (.astore 10, 2) := dk_58 10 (dk_at dksX1_lossOf_4 6 rfl rfl)
theorem dX1_lossOf_101 : decode cX1_lossOf 101 = .ok (.aload_n 0, 1) := dk_42 (dk_at dksX1_lossOf_4 8 rfl rfl)
theorem dX1_lossOf_102 : decode cX1_lossOf 102 = .ok (.invokevirtual 116, 3) := dk_182 0 116 (dk_at dksX1_lossOf_4 9 rfl rfl)
theorem dX1_lossOf_105 : decode cX1_lossOf 105 = .ok (.iload 5, 2) := dk_21 5 (dk_at dksX1_lossOf_4 12 rfl rfl)
theorem dX1_lossOf_107 : decode cX1_lossOf 107 = .ok (.aload 10, 2) := dk_25 10 (dk_at dksX1_lossOf_4 14 rfl rfl)
theorem dX1_lossOf_109 : decode cX1_lossOf 109 = .ok (.iconst 0, 1) := dk_3 (dk_at dksX1_lossOf_4 16 rfl rfl)
theorem dX1_lossOf_110 : decode cX1_lossOf 110 = .ok (.iaload, 1) := dk_46 (dk_at dksX1_lossOf_4 17 rfl rfl)
theorem dX1_lossOf_111 : decode cX1_lossOf 111 = .ok (.iload 6, 2) := dk_21 6 (dk_at dksX1_lossOf_4 18 rfl rfl)
theorem dX1_lossOf_113 : decode cX1_lossOf 113 = .ok (.invokevirtual 317, 3) := dk_182 1 61 (dk_at dksX1_lossOf_4 20 rfl rfl)
theorem dX1_lossOf_116 : decode cX1_lossOf 116 = .ok (.ifCond .eq 18, 3) := dk_153 0 18 (dk_at dksX1_lossOf_5 0 rfl rfl)
theorem dX1_lossOf_119 : decode cX1_lossOf 119 = .ok (.iload 7, 2) := dk_21 7 (dk_at dksX1_lossOf_5 3 rfl rfl)
theorem dX1_lossOf_121 : decode cX1_lossOf 121 = .ok (.bipush 10, 2) := dk_16 10 (dk_at dksX1_lossOf_5 5 rfl rfl)
theorem dX1_lossOf_123 : decode cX1_lossOf 123 = .ok (.aload 10, 2) := dk_25 10 (dk_at dksX1_lossOf_5 7 rfl rfl)
theorem dX1_lossOf_125 : decode cX1_lossOf 125 = .ok (.iconst 1, 1) := dk_4 (dk_at dksX1_lossOf_5 9 rfl rfl)
theorem dX1_lossOf_126 : decode cX1_lossOf 126 = .ok (.iaload, 1) := dk_46 (dk_at dksX1_lossOf_5 10 rfl rfl)
theorem dX1_lossOf_127 : decode cX1_lossOf 127 = .ok (.isub, 1) := dk_100 (dk_at dksX1_lossOf_5 11 rfl rfl)
theorem dX1_lossOf_128 : decode cX1_lossOf 128 = .ok (.imul, 1) := dk_104 (dk_at dksX1_lossOf_5 12 rfl rfl)
theorem dX1_lossOf_129 : decode cX1_lossOf 129 = .ok (.bipush 10, 2) := dk_16 10 (dk_at dksX1_lossOf_5 13 rfl rfl)
theorem dX1_lossOf_131 : decode cX1_lossOf 131 = .ok (.idiv, 1) := dk_108 (dk_at dksX1_lossOf_5 15 rfl rfl)
theorem dX1_lossOf_132 : decode cX1_lossOf 132 = .ok (.istore 7, 2) := dk_54 7 (dk_at dksX1_lossOf_5 16 rfl rfl)
theorem dX1_lossOf_134 : decode cX1_lossOf 134 = .ok (.iinc 9 1, 3) := dk_132 9 1 (dk_at dksX1_lossOf_5 18 rfl rfl)
theorem dX1_lossOf_137 : decode cX1_lossOf 137 = .ok (.goto (-68), 3) := dk_167 255 188 (dk_at dksX1_lossOf_5 21 rfl rfl)
theorem dX1_lossOf_140 : decode cX1_lossOf 140 = .ok (.iinc 8 1, 3) := dk_132 8 1 (dk_at dksX1_lossOf_6 0 rfl rfl)
theorem dX1_lossOf_143 : decode cX1_lossOf 143 = .ok (.goto (-83), 3) := dk_167 255 173 (dk_at dksX1_lossOf_6 3 rfl rfl)
theorem dX1_lossOf_146 : decode cX1_lossOf 146 = .ok (.iload 4, 2) := dk_21 4 (dk_at dksX1_lossOf_6 6 rfl rfl)
theorem dX1_lossOf_148 : decode cX1_lossOf 148 = .ok (.aload_n 0, 1) := dk_42 (dk_at dksX1_lossOf_6 8 rfl rfl)
theorem dX1_lossOf_149 : decode cX1_lossOf 149 = .ok (.invokevirtual 116, 3) := dk_182 0 116 (dk_at dksX1_lossOf_6 9 rfl rfl)
theorem dX1_lossOf_152 : decode cX1_lossOf 152 = .ok (.getfield 125, 3) := dk_180 0 125 (dk_at dksX1_lossOf_6 12 rfl rfl)
theorem dX1_lossOf_155 : decode cX1_lossOf 155 = .ok (.iload 5, 2) := dk_21 5 (dk_at dksX1_lossOf_6 15 rfl rfl)
theorem dX1_lossOf_157 : decode cX1_lossOf 157 = .ok (.invokevirtual 150, 3) := dk_182 0 150 (dk_at dksX1_lossOf_6 17 rfl rfl)
theorem dX1_lossOf_160 : decode cX1_lossOf 160 = .ok (.checkcast 15, 3) := dk_192 0 15 (dk_at dksX1_lossOf_6 20 rfl rfl)
theorem dX1_lossOf_163 : decode cX1_lossOf 163 = .ok (.getfield 166, 3) := dk_180 0 166 (dk_at dksX1_lossOf_7 0 rfl rfl)
theorem dX1_lossOf_166 : decode cX1_lossOf 166 = .ok (.i2l, 1) := dk_133 (dk_at dksX1_lossOf_7 3 rfl rfl)
theorem dX1_lossOf_167 : decode cX1_lossOf 167 = .ok (.ldc_w 313, 3) := dk_19 1 57 (dk_at dksX1_lossOf_7 4 rfl rfl)
theorem dX1_lossOf_170 : decode cX1_lossOf 170 = .ok (.iload 7, 2) := dk_21 7 (dk_at dksX1_lossOf_7 7 rfl rfl)
theorem dX1_lossOf_172 : decode cX1_lossOf 172 = .ok (.isub, 1) := dk_100 (dk_at dksX1_lossOf_7 9 rfl rfl)
theorem dX1_lossOf_173 : decode cX1_lossOf 173 = .ok (.i2l, 1) := dk_133 (dk_at dksX1_lossOf_7 10 rfl rfl)
theorem dX1_lossOf_174 : decode cX1_lossOf 174 = .ok (.lmul, 1) := dk_105 (dk_at dksX1_lossOf_7 11 rfl rfl)
theorem dX1_lossOf_175 : decode cX1_lossOf 175 = .ok (.ldc2_w 320, 3) := dk_20 1 64 (dk_at dksX1_lossOf_7 12 rfl rfl)
theorem dX1_lossOf_178 : decode cX1_lossOf 178 = .ok (.ldiv, 1) := dk_109 (dk_at dksX1_lossOf_7 15 rfl rfl)
theorem dX1_lossOf_179 : decode cX1_lossOf 179 = .ok (.l2i, 1) := dk_136 (dk_at dksX1_lossOf_7 16 rfl rfl)
theorem dX1_lossOf_180 : decode cX1_lossOf 180 = .ok (.iadd, 1) := dk_96 (dk_at dksX1_lossOf_7 17 rfl rfl)
theorem dX1_lossOf_181 : decode cX1_lossOf 181 = .ok (.istore 4, 2) := dk_54 4 (dk_at dksX1_lossOf_7 18 rfl rfl)
theorem dX1_lossOf_183 : decode cX1_lossOf 183 = .ok (.iinc 5 1, 3) := dk_132 5 1 (dk_at dksX1_lossOf_7 20 rfl rfl)
theorem dX1_lossOf_186 : decode cX1_lossOf 186 = .ok (.goto (-180), 3) := dk_167 255 76 (dk_at dksX1_lossOf_8 0 rfl rfl)
theorem dX1_lossOf_189 : decode cX1_lossOf 189 = .ok (.iload 4, 2) := dk_21 4 (dk_at dksX1_lossOf_8 3 rfl rfl)
theorem dX1_lossOf_191 : decode cX1_lossOf 191 = .ok (.ireturn, 1) := dk_172 (dk_at dksX1_lossOf_8 5 rfl rfl)
abbrev cX1_best : ByteArray := prog_1_method_38_code
def yX1_best : MethodName := ⟨RX1, "best", "(II)I"⟩
def dkwX1_best_4 : List UInt8 := [21, 6, 54, 4, 132, 5, 1, 167, 255, 196, 29, 172]
abbrev dktX1_best_4 : List UInt8 := dkwX1_best_4 ++ []
def dkwX1_best_3 : List UInt8 := [182, 1, 66, 54, 6, 29, 2, 159, 0, 13, 21, 6, 21, 4, 161, 0, 6, 167, 0, 10, 21, 5, 62]
abbrev dktX1_best_3 : List UInt8 := dkwX1_best_3 ++ dktX1_best_4
def dkwX1_best_2 : List UInt8 := [162, 0, 57, 42, 180, 0, 40, 27, 21, 5, 182, 1, 70, 154, 0, 6, 167, 0, 35, 42, 28, 27, 21, 5]
abbrev dktX1_best_2 : List UInt8 := dkwX1_best_2 ++ dktX1_best_3
def dkwX1_best_1 : List UInt8 := [184, 0, 137, 154, 0, 5, 2, 172, 2, 62, 3, 54, 4, 3, 54, 5, 21, 5, 42, 182, 0, 141]
abbrev dktX1_best_1 : List UInt8 := dkwX1_best_1 ++ dktX1_best_2
def dkwX1_best_0 : List UInt8 := [42, 27, 182, 0, 146, 153, 0, 24, 42, 180, 0, 40, 27, 182, 0, 169, 153, 0, 13, 28, 4, 16, 30]
abbrev dktX1_best_0 : List UInt8 := dkwX1_best_0 ++ dktX1_best_1
theorem dksX1_best_0 : cX1_best.data.toList.drop 0 = dktX1_best_0 := by decide +kernel
theorem dksX1_best_1 : cX1_best.data.toList.drop 23 = dktX1_best_1 := dk_seg dksX1_best_0 23 rfl rfl
theorem dksX1_best_2 : cX1_best.data.toList.drop 45 = dktX1_best_2 := dk_seg dksX1_best_1 22 rfl rfl
theorem dksX1_best_3 : cX1_best.data.toList.drop 69 = dktX1_best_3 := dk_seg dksX1_best_2 24 rfl rfl
theorem dksX1_best_4 : cX1_best.data.toList.drop 92 = dktX1_best_4 := dk_seg dksX1_best_3 23 rfl rfl
theorem dX1_best_0 : decode cX1_best 0 = .ok (.aload_n 0, 1) := dk_42 (dk_at dksX1_best_0 0 rfl rfl)
theorem dX1_best_1 : decode cX1_best 1 = .ok (.iload_n 1, 1) := dk_27 (dk_at dksX1_best_0 1 rfl rfl)
theorem dX1_best_2 : decode cX1_best 2 = .ok (.invokevirtual 146, 3) := dk_182 0 146 (dk_at dksX1_best_0 2 rfl rfl)
theorem dX1_best_5 : decode cX1_best 5 = .ok (.ifCond .eq 24, 3) := dk_153 0 24 (dk_at dksX1_best_0 5 rfl rfl)
theorem dX1_best_8 : decode cX1_best 8 = .ok (.aload_n 0, 1) := dk_42 (dk_at dksX1_best_0 8 rfl rfl)
theorem dX1_best_9 : decode cX1_best 9 = .ok (.getfield 40, 3) := dk_180 0 40 (dk_at dksX1_best_0 9 rfl rfl)
theorem dX1_best_12 : decode cX1_best 12 = .ok (.iload_n 1, 1) := dk_27 (dk_at dksX1_best_0 12 rfl rfl)
theorem dX1_best_13 : decode cX1_best 13 = .ok (.invokevirtual 169, 3) := dk_182 0 169 (dk_at dksX1_best_0 13 rfl rfl)
theorem dX1_best_16 : decode cX1_best 16 = .ok (.ifCond .eq 13, 3) := dk_153 0 13 (dk_at dksX1_best_0 16 rfl rfl)
theorem dX1_best_19 : decode cX1_best 19 = .ok (.iload_n 2, 1) := dk_28 (dk_at dksX1_best_0 19 rfl rfl)
theorem dX1_best_20 : decode cX1_best 20 = .ok (.iconst 1, 1) := dk_4 (dk_at dksX1_best_0 20 rfl rfl)
theorem dX1_best_21 : decode cX1_best 21 = .ok (.bipush 30, 2) := dk_16 30 (dk_at dksX1_best_0 21 rfl rfl)
theorem dX1_best_23 : decode cX1_best 23 = .ok (.invokestatic 137, 3) := dk_184 0 137 (dk_at dksX1_best_1 0 rfl rfl)
theorem dX1_best_26 : decode cX1_best 26 = .ok (.ifCond .ne 5, 3) := dk_154 0 5 (dk_at dksX1_best_1 3 rfl rfl)
theorem dX1_best_29 : decode cX1_best 29 = .ok (.iconst (-1), 1) := dk_2 (dk_at dksX1_best_1 6 rfl rfl)
theorem dX1_best_30 : decode cX1_best 30 = .ok (.ireturn, 1) := dk_172 (dk_at dksX1_best_1 7 rfl rfl)
theorem dX1_best_31 : decode cX1_best 31 = .ok (.iconst (-1), 1) := dk_2 (dk_at dksX1_best_1 8 rfl rfl)
theorem dX1_best_32 : decode cX1_best 32 = .ok (.istore_n 3, 1) := dk_62 (dk_at dksX1_best_1 9 rfl rfl)
theorem dX1_best_33 : decode cX1_best 33 = .ok (.iconst 0, 1) := dk_3 (dk_at dksX1_best_1 10 rfl rfl)
theorem dX1_best_34 : decode cX1_best 34 = .ok (.istore 4, 2) := dk_54 4 (dk_at dksX1_best_1 11 rfl rfl)
theorem dX1_best_36 : decode cX1_best 36 = .ok (.iconst 0, 1) := dk_3 (dk_at dksX1_best_1 13 rfl rfl)
theorem dX1_best_37 : decode cX1_best 37 = .ok (.istore 5, 2) := dk_54 5 (dk_at dksX1_best_1 14 rfl rfl)
theorem dX1_best_39 : decode cX1_best 39 = .ok (.iload 5, 2) := dk_21 5 (dk_at dksX1_best_1 16 rfl rfl)
theorem dX1_best_41 : decode cX1_best 41 = .ok (.aload_n 0, 1) := dk_42 (dk_at dksX1_best_1 18 rfl rfl)
theorem dX1_best_42 : decode cX1_best 42 = .ok (.invokevirtual 141, 3) := dk_182 0 141 (dk_at dksX1_best_1 19 rfl rfl)
theorem dX1_best_45 : decode cX1_best 45 = .ok (.if_icmp .ge 57, 3) := dk_162 0 57 (dk_at dksX1_best_2 0 rfl rfl)
theorem dX1_best_48 : decode cX1_best 48 = .ok (.aload_n 0, 1) := dk_42 (dk_at dksX1_best_2 3 rfl rfl)
theorem dX1_best_49 : decode cX1_best 49 = .ok (.getfield 40, 3) := dk_180 0 40 (dk_at dksX1_best_2 4 rfl rfl)
theorem dX1_best_52 : decode cX1_best 52 = .ok (.iload_n 1, 1) := dk_27 (dk_at dksX1_best_2 7 rfl rfl)
theorem dX1_best_53 : decode cX1_best 53 = .ok (.iload 5, 2) := dk_21 5 (dk_at dksX1_best_2 8 rfl rfl)
theorem dX1_best_55 : decode cX1_best 55 = .ok (.invokevirtual 326, 3) := dk_182 1 70 (dk_at dksX1_best_2 10 rfl rfl)
theorem dX1_best_58 : decode cX1_best 58 = .ok (.ifCond .ne 6, 3) := dk_154 0 6 (dk_at dksX1_best_2 13 rfl rfl)
theorem dX1_best_61 : decode cX1_best 61 = .ok (.goto 35, 3) := dk_167 0 35 (dk_at dksX1_best_2 16 rfl rfl)
theorem dX1_best_64 : decode cX1_best 64 = .ok (.aload_n 0, 1) := dk_42 (dk_at dksX1_best_2 19 rfl rfl)
theorem dX1_best_65 : decode cX1_best 65 = .ok (.iload_n 2, 1) := dk_28 (dk_at dksX1_best_2 20 rfl rfl)
theorem dX1_best_66 : decode cX1_best 66 = .ok (.iload_n 1, 1) := dk_27 (dk_at dksX1_best_2 21 rfl rfl)
theorem dX1_best_67 : decode cX1_best 67 = .ok (.iload 5, 2) := dk_21 5 (dk_at dksX1_best_2 22 rfl rfl)
theorem dX1_best_69 : decode cX1_best 69 = .ok (.invokevirtual 322, 3) := dk_182 1 66 (dk_at dksX1_best_3 0 rfl rfl)
theorem dX1_best_72 : decode cX1_best 72 = .ok (.istore 6, 2) := dk_54 6 (dk_at dksX1_best_3 3 rfl rfl)
theorem dX1_best_74 : decode cX1_best 74 = .ok (.iload_n 3, 1) := dk_29 (dk_at dksX1_best_3 5 rfl rfl)
theorem dX1_best_75 : decode cX1_best 75 = .ok (.iconst (-1), 1) := dk_2 (dk_at dksX1_best_3 6 rfl rfl)
theorem dX1_best_76 : decode cX1_best 76 = .ok (.if_icmp .eq 13, 3) := dk_159 0 13 (dk_at dksX1_best_3 7 rfl rfl)
theorem dX1_best_79 : decode cX1_best 79 = .ok (.iload 6, 2) := dk_21 6 (dk_at dksX1_best_3 10 rfl rfl)
theorem dX1_best_81 : decode cX1_best 81 = .ok (.iload 4, 2) := dk_21 4 (dk_at dksX1_best_3 12 rfl rfl)
theorem dX1_best_83 : decode cX1_best 83 = .ok (.if_icmp .lt 6, 3) := dk_161 0 6 (dk_at dksX1_best_3 14 rfl rfl)
theorem dX1_best_86 : decode cX1_best 86 = .ok (.goto 10, 3) := dk_167 0 10 (dk_at dksX1_best_3 17 rfl rfl)
theorem dX1_best_89 : decode cX1_best 89 = .ok (.iload 5, 2) := dk_21 5 (dk_at dksX1_best_3 20 rfl rfl)
theorem dX1_best_91 : decode cX1_best 91 = .ok (.istore_n 3, 1) := dk_62 (dk_at dksX1_best_3 22 rfl rfl)
theorem dX1_best_92 : decode cX1_best 92 = .ok (.iload 6, 2) := dk_21 6 (dk_at dksX1_best_4 0 rfl rfl)
theorem dX1_best_94 : decode cX1_best 94 = .ok (.istore 4, 2) := dk_54 4 (dk_at dksX1_best_4 2 rfl rfl)
theorem dX1_best_96 : decode cX1_best 96 = .ok (.iinc 5 1, 3) := dk_132 5 1 (dk_at dksX1_best_4 4 rfl rfl)
theorem dX1_best_99 : decode cX1_best 99 = .ok (.goto (-60), 3) := dk_167 255 196 (dk_at dksX1_best_4 7 rfl rfl)
theorem dX1_best_102 : decode cX1_best 102 = .ok (.iload_n 3, 1) := dk_29 (dk_at dksX1_best_4 10 rfl rfl)
theorem dX1_best_103 : decode cX1_best 103 = .ok (.ireturn, 1) := dk_172 (dk_at dksX1_best_4 11 rfl rfl)
abbrev cX1_hide : ByteArray := prog_1_method_42_code
def yX1_hide : MethodName := ⟨RX1, "hide", "(II)I"⟩
def dkwX1_hide_5 : List UInt8 := [132, 5, 1, 167, 255, 167, 29, 172]
abbrev dktX1_hide_5 : List UInt8 := dkwX1_hide_5 ++ []
def dkwX1_hide_4 : List UInt8 := [29, 2, 159, 0, 13, 21, 6, 21, 4, 161, 0, 6, 167, 0, 10, 21, 5, 62, 21, 6, 54, 4]
abbrev dktX1_hide_4 : List UInt8 := dkwX1_hide_4 ++ dktX1_hide_5
def dkwX1_hide_3 : List UInt8 := [159, 0, 18, 21, 6, 42, 21, 7, 27, 28, 182, 1, 90, 184, 1, 93, 54, 6, 132, 7, 1, 167, 255, 216]
abbrev dktX1_hide_3 : List UInt8 := dkwX1_hide_3 ++ dktX1_hide_4
def dkwX1_hide_2 : List UInt8 := [54, 6, 3, 54, 7, 21, 7, 42, 182, 0, 116, 180, 1, 73, 182, 0, 128, 162, 0, 31, 21, 7, 21, 5]
abbrev dktX1_hide_2 : List UInt8 := dkwX1_hide_2 ++ dktX1_hide_3
def dkwX1_hide_1 : List UInt8 := [2, 62, 3, 54, 4, 3, 54, 5, 21, 5, 42, 182, 0, 116, 180, 1, 73, 182, 0, 128, 162, 0, 80, 3]
abbrev dktX1_hide_1 : List UInt8 := dkwX1_hide_1 ++ dktX1_hide_2
def dkwX1_hide_0 : List UInt8 := [27, 28, 184, 1, 84, 153, 0, 17, 42, 182, 0, 116, 180, 1, 73, 182, 0, 128, 5, 162, 0, 5, 2, 172]
abbrev dktX1_hide_0 : List UInt8 := dkwX1_hide_0 ++ dktX1_hide_1
theorem dksX1_hide_0 : cX1_hide.data.toList.drop 0 = dktX1_hide_0 := by decide +kernel
theorem dksX1_hide_1 : cX1_hide.data.toList.drop 24 = dktX1_hide_1 := dk_seg dksX1_hide_0 24 rfl rfl
theorem dksX1_hide_2 : cX1_hide.data.toList.drop 48 = dktX1_hide_2 := dk_seg dksX1_hide_1 24 rfl rfl
theorem dksX1_hide_3 : cX1_hide.data.toList.drop 72 = dktX1_hide_3 := dk_seg dksX1_hide_2 24 rfl rfl
theorem dksX1_hide_4 : cX1_hide.data.toList.drop 96 = dktX1_hide_4 := dk_seg dksX1_hide_3 24 rfl rfl
theorem dksX1_hide_5 : cX1_hide.data.toList.drop 118 = dktX1_hide_5 := dk_seg dksX1_hide_4 22 rfl rfl
theorem dX1_hide_0 : decode cX1_hide 0 = .ok (.iload_n 1, 1) := dk_27 (dk_at dksX1_hide_0 0 rfl rfl)
theorem dX1_hide_1 : decode cX1_hide 1 = .ok (.iload_n 2, 1) := dk_28 (dk_at dksX1_hide_0 1 rfl rfl)
theorem dX1_hide_2 : decode cX1_hide 2 = .ok (.invokestatic 340, 3) := dk_184 1 84 (dk_at dksX1_hide_0 2 rfl rfl)
theorem dX1_hide_5 : decode cX1_hide 5 = .ok (.ifCond .eq 17, 3) := dk_153 0 17 (dk_at dksX1_hide_0 5 rfl rfl)
theorem dX1_hide_8 : decode cX1_hide 8 = .ok (.aload_n 0, 1) := dk_42 (dk_at dksX1_hide_0 8 rfl rfl)
theorem dX1_hide_9 : decode cX1_hide 9 = .ok (.invokevirtual 116, 3) := dk_182 0 116 (dk_at dksX1_hide_0 9 rfl rfl)
theorem dX1_hide_12 : decode cX1_hide 12 = .ok (.getfield 329, 3) := dk_180 1 73 (dk_at dksX1_hide_0 12 rfl rfl)
theorem dX1_hide_15 : decode cX1_hide 15 = .ok (.invokevirtual 128, 3) := dk_182 0 128 (dk_at dksX1_hide_0 15 rfl rfl)
theorem dX1_hide_18 : decode cX1_hide 18 = .ok (.iconst 2, 1) := dk_5 (dk_at dksX1_hide_0 18 rfl rfl)
theorem dX1_hide_19 : decode cX1_hide 19 = .ok (.if_icmp .ge 5, 3) := dk_162 0 5 (dk_at dksX1_hide_0 19 rfl rfl)
theorem dX1_hide_22 : decode cX1_hide 22 = .ok (.iconst (-1), 1) := dk_2 (dk_at dksX1_hide_0 22 rfl rfl)
theorem dX1_hide_23 : decode cX1_hide 23 = .ok (.ireturn, 1) := dk_172 (dk_at dksX1_hide_0 23 rfl rfl)
theorem dX1_hide_24 : decode cX1_hide 24 = .ok (.iconst (-1), 1) := dk_2 (dk_at dksX1_hide_1 0 rfl rfl)
theorem dX1_hide_25 : decode cX1_hide 25 = .ok (.istore_n 3, 1) := dk_62 (dk_at dksX1_hide_1 1 rfl rfl)
theorem dX1_hide_26 : decode cX1_hide 26 = .ok (.iconst 0, 1) := dk_3 (dk_at dksX1_hide_1 2 rfl rfl)
theorem dX1_hide_27 : decode cX1_hide 27 = .ok (.istore 4, 2) := dk_54 4 (dk_at dksX1_hide_1 3 rfl rfl)
theorem dX1_hide_29 : decode cX1_hide 29 = .ok (.iconst 0, 1) := dk_3 (dk_at dksX1_hide_1 5 rfl rfl)
theorem dX1_hide_30 : decode cX1_hide 30 = .ok (.istore 5, 2) := dk_54 5 (dk_at dksX1_hide_1 6 rfl rfl)
theorem dX1_hide_32 : decode cX1_hide 32 = .ok (.iload 5, 2) := dk_21 5 (dk_at dksX1_hide_1 8 rfl rfl)
theorem dX1_hide_34 : decode cX1_hide 34 = .ok (.aload_n 0, 1) := dk_42 (dk_at dksX1_hide_1 10 rfl rfl)
theorem dX1_hide_35 : decode cX1_hide 35 = .ok (.invokevirtual 116, 3) := dk_182 0 116 (dk_at dksX1_hide_1 11 rfl rfl)
theorem dX1_hide_38 : decode cX1_hide 38 = .ok (.getfield 329, 3) := dk_180 1 73 (dk_at dksX1_hide_1 14 rfl rfl)
theorem dX1_hide_41 : decode cX1_hide 41 = .ok (.invokevirtual 128, 3) := dk_182 0 128 (dk_at dksX1_hide_1 17 rfl rfl)
theorem dX1_hide_44 : decode cX1_hide 44 = .ok (.if_icmp .ge 80, 3) := dk_162 0 80 (dk_at dksX1_hide_1 20 rfl rfl)
theorem dX1_hide_47 : decode cX1_hide 47 = .ok (.iconst 0, 1) := dk_3 (dk_at dksX1_hide_1 23 rfl rfl)
theorem dX1_hide_48 : decode cX1_hide 48 = .ok (.istore 6, 2) := dk_54 6 (dk_at dksX1_hide_2 0 rfl rfl)
theorem dX1_hide_50 : decode cX1_hide 50 = .ok (.iconst 0, 1) := dk_3 (dk_at dksX1_hide_2 2 rfl rfl)
theorem dX1_hide_51 : decode cX1_hide 51 = .ok (.istore 7, 2) := dk_54 7 (dk_at dksX1_hide_2 3 rfl rfl)
theorem dX1_hide_53 : decode cX1_hide 53 = .ok (.iload 7, 2) := dk_21 7 (dk_at dksX1_hide_2 5 rfl rfl)
theorem dX1_hide_55 : decode cX1_hide 55 = .ok (.aload_n 0, 1) := dk_42 (dk_at dksX1_hide_2 7 rfl rfl)
theorem dX1_hide_56 : decode cX1_hide 56 = .ok (.invokevirtual 116, 3) := dk_182 0 116 (dk_at dksX1_hide_2 8 rfl rfl)
theorem dX1_hide_59 : decode cX1_hide 59 = .ok (.getfield 329, 3) := dk_180 1 73 (dk_at dksX1_hide_2 11 rfl rfl)
theorem dX1_hide_62 : decode cX1_hide 62 = .ok (.invokevirtual 128, 3) := dk_182 0 128 (dk_at dksX1_hide_2 14 rfl rfl)
theorem dX1_hide_65 : decode cX1_hide 65 = .ok (.if_icmp .ge 31, 3) := dk_162 0 31 (dk_at dksX1_hide_2 17 rfl rfl)
theorem dX1_hide_68 : decode cX1_hide 68 = .ok (.iload 7, 2) := dk_21 7 (dk_at dksX1_hide_2 20 rfl rfl)
theorem dX1_hide_70 : decode cX1_hide 70 = .ok (.iload 5, 2) := dk_21 5 (dk_at dksX1_hide_2 22 rfl rfl)
theorem dX1_hide_72 : decode cX1_hide 72 = .ok (.if_icmp .eq 18, 3) := dk_159 0 18 (dk_at dksX1_hide_3 0 rfl rfl)
theorem dX1_hide_75 : decode cX1_hide 75 = .ok (.iload 6, 2) := dk_21 6 (dk_at dksX1_hide_3 3 rfl rfl)
theorem dX1_hide_77 : decode cX1_hide 77 = .ok (.aload_n 0, 1) := dk_42 (dk_at dksX1_hide_3 5 rfl rfl)
theorem dX1_hide_78 : decode cX1_hide 78 = .ok (.iload 7, 2) := dk_21 7 (dk_at dksX1_hide_3 6 rfl rfl)
theorem dX1_hide_80 : decode cX1_hide 80 = .ok (.iload_n 1, 1) := dk_27 (dk_at dksX1_hide_3 8 rfl rfl)
theorem dX1_hide_81 : decode cX1_hide 81 = .ok (.iload_n 2, 1) := dk_28 (dk_at dksX1_hide_3 9 rfl rfl)
theorem dX1_hide_82 : decode cX1_hide 82 = .ok (.invokevirtual 346, 3) := dk_182 1 90 (dk_at dksX1_hide_3 10 rfl rfl)
theorem dX1_hide_85 : decode cX1_hide 85 = .ok (.invokestatic 349, 3) := dk_184 1 93 (dk_at dksX1_hide_3 13 rfl rfl)
theorem dX1_hide_88 : decode cX1_hide 88 = .ok (.istore 6, 2) := dk_54 6 (dk_at dksX1_hide_3 16 rfl rfl)
theorem dX1_hide_90 : decode cX1_hide 90 = .ok (.iinc 7 1, 3) := dk_132 7 1 (dk_at dksX1_hide_3 18 rfl rfl)
theorem dX1_hide_93 : decode cX1_hide 93 = .ok (.goto (-40), 3) := dk_167 255 216 (dk_at dksX1_hide_3 21 rfl rfl)
theorem dX1_hide_96 : decode cX1_hide 96 = .ok (.iload_n 3, 1) := dk_29 (dk_at dksX1_hide_4 0 rfl rfl)
theorem dX1_hide_97 : decode cX1_hide 97 = .ok (.iconst (-1), 1) := dk_2 (dk_at dksX1_hide_4 1 rfl rfl)
theorem dX1_hide_98 : decode cX1_hide 98 = .ok (.if_icmp .eq 13, 3) := dk_159 0 13 (dk_at dksX1_hide_4 2 rfl rfl)
theorem dX1_hide_101 : decode cX1_hide 101 = .ok (.iload 6, 2) := dk_21 6 (dk_at dksX1_hide_4 5 rfl rfl)
theorem dX1_hide_103 : decode cX1_hide 103 = .ok (.iload 4, 2) := dk_21 4 (dk_at dksX1_hide_4 7 rfl rfl)
theorem dX1_hide_105 : decode cX1_hide 105 = .ok (.if_icmp .lt 6, 3) := dk_161 0 6 (dk_at dksX1_hide_4 9 rfl rfl)
theorem dX1_hide_108 : decode cX1_hide 108 = .ok (.goto 10, 3) := dk_167 0 10 (dk_at dksX1_hide_4 12 rfl rfl)
theorem dX1_hide_111 : decode cX1_hide 111 = .ok (.iload 5, 2) := dk_21 5 (dk_at dksX1_hide_4 15 rfl rfl)
theorem dX1_hide_113 : decode cX1_hide 113 = .ok (.istore_n 3, 1) := dk_62 (dk_at dksX1_hide_4 17 rfl rfl)
theorem dX1_hide_114 : decode cX1_hide 114 = .ok (.iload 6, 2) := dk_21 6 (dk_at dksX1_hide_4 18 rfl rfl)
theorem dX1_hide_116 : decode cX1_hide 116 = .ok (.istore 4, 2) := dk_54 4 (dk_at dksX1_hide_4 20 rfl rfl)
theorem dX1_hide_118 : decode cX1_hide 118 = .ok (.iinc 5 1, 3) := dk_132 5 1 (dk_at dksX1_hide_5 0 rfl rfl)
theorem dX1_hide_121 : decode cX1_hide 121 = .ok (.goto (-89), 3) := dk_167 255 167 (dk_at dksX1_hide_5 3 rfl rfl)
theorem dX1_hide_124 : decode cX1_hide 124 = .ok (.iload_n 3, 1) := dk_29 (dk_at dksX1_hide_5 6 rfl rfl)
theorem dX1_hide_125 : decode cX1_hide 125 = .ok (.ireturn, 1) := dk_172 (dk_at dksX1_hide_5 7 rfl rfl)
abbrev cX1_areLane : ByteArray := prog_1_method_39_code
def yX1_areLane : MethodName := ⟨RX1, "areLane", "(II)Z"⟩
def dkwX1_areLane_1 : List UInt8 := [3, 172]
abbrev dktX1_areLane_1 : List UInt8 := dkwX1_areLane_1 ++ []
def dkwX1_areLane_0 : List UInt8 := [26, 3, 16, 11, 184, 0, 137, 153, 0, 17, 27, 3, 16, 6, 184, 0, 137, 153, 0, 7, 4, 167, 0, 4]
abbrev dktX1_areLane_0 : List UInt8 := dkwX1_areLane_0 ++ dktX1_areLane_1
theorem dksX1_areLane_0 : cX1_areLane.data.toList.drop 0 = dktX1_areLane_0 := by decide +kernel
theorem dksX1_areLane_1 : cX1_areLane.data.toList.drop 24 = dktX1_areLane_1 := dk_seg dksX1_areLane_0 24 rfl rfl
theorem dX1_areLane_0 : decode cX1_areLane 0 = .ok (.iload_n 0, 1) := dk_26 (dk_at dksX1_areLane_0 0 rfl rfl)
theorem dX1_areLane_1 : decode cX1_areLane 1 = .ok (.iconst 0, 1) := dk_3 (dk_at dksX1_areLane_0 1 rfl rfl)
theorem dX1_areLane_2 : decode cX1_areLane 2 = .ok (.bipush 11, 2) := dk_16 11 (dk_at dksX1_areLane_0 2 rfl rfl)
theorem dX1_areLane_4 : decode cX1_areLane 4 = .ok (.invokestatic 137, 3) := dk_184 0 137 (dk_at dksX1_areLane_0 4 rfl rfl)
theorem dX1_areLane_7 : decode cX1_areLane 7 = .ok (.ifCond .eq 17, 3) := dk_153 0 17 (dk_at dksX1_areLane_0 7 rfl rfl)
theorem dX1_areLane_10 : decode cX1_areLane 10 = .ok (.iload_n 1, 1) := dk_27 (dk_at dksX1_areLane_0 10 rfl rfl)
theorem dX1_areLane_11 : decode cX1_areLane 11 = .ok (.iconst 0, 1) := dk_3 (dk_at dksX1_areLane_0 11 rfl rfl)
theorem dX1_areLane_12 : decode cX1_areLane 12 = .ok (.bipush 6, 2) := dk_16 6 (dk_at dksX1_areLane_0 12 rfl rfl)
theorem dX1_areLane_14 : decode cX1_areLane 14 = .ok (.invokestatic 137, 3) := dk_184 0 137 (dk_at dksX1_areLane_0 14 rfl rfl)
theorem dX1_areLane_17 : decode cX1_areLane 17 = .ok (.ifCond .eq 7, 3) := dk_153 0 7 (dk_at dksX1_areLane_0 17 rfl rfl)
theorem dX1_areLane_20 : decode cX1_areLane 20 = .ok (.iconst 1, 1) := dk_4 (dk_at dksX1_areLane_0 20 rfl rfl)
theorem dX1_areLane_21 : decode cX1_areLane 21 = .ok (.goto 4, 3) := dk_167 0 4 (dk_at dksX1_areLane_0 21 rfl rfl)
theorem dX1_areLane_24 : decode cX1_areLane 24 = .ok (.iconst 0, 1) := dk_3 (dk_at dksX1_areLane_1 0 rfl rfl)
theorem dX1_areLane_25 : decode cX1_areLane 25 = .ok (.ireturn, 1) := dk_172 (dk_at dksX1_areLane_1 1 rfl rfl)
abbrev cX1_stolen : ByteArray := prog_1_method_40_code
def yX1_stolen : MethodName := ⟨RX1, "stolen", "(III)I"⟩
def dkwX1_stolen_3 : List UInt8 := [192, 0, 15, 180, 1, 76, 182, 1, 79, 182, 1, 81, 96, 54, 5, 132, 6, 1, 167, 255, 203, 21, 5, 172]
abbrev dktX1_stolen_3 : List UInt8 := dkwX1_stolen_3 ++ []
def dkwX1_stolen_2 : List UInt8 := [180, 0, 44, 42, 180, 0, 44, 28, 29, 42, 182, 0, 116, 180, 0, 125, 25, 4, 21, 6, 46, 182, 0, 150]
abbrev dktX1_stolen_2 : List UInt8 := dkwX1_stolen_2 ++ dktX1_stolen_3
def dkwX1_stolen_1 : List UInt8 := [192, 1, 53, 58, 4, 3, 54, 5, 3, 54, 6, 21, 6, 25, 4, 190, 162, 0, 51, 21, 5, 42]
abbrev dktX1_stolen_1 : List UInt8 := dkwX1_stolen_1 ++ dktX1_stolen_2
def dkwX1_stolen_0 : List UInt8 := [42, 180, 0, 44, 42, 180, 0, 40, 182, 0, 218, 87, 42, 182, 0, 116, 180, 1, 73, 27, 182, 0, 150]
abbrev dktX1_stolen_0 : List UInt8 := dkwX1_stolen_0 ++ dktX1_stolen_1
theorem dksX1_stolen_0 : cX1_stolen.data.toList.drop 0 = dktX1_stolen_0 := by decide +kernel
theorem dksX1_stolen_1 : cX1_stolen.data.toList.drop 23 = dktX1_stolen_1 := dk_seg dksX1_stolen_0 23 rfl rfl
theorem dksX1_stolen_2 : cX1_stolen.data.toList.drop 45 = dktX1_stolen_2 := dk_seg dksX1_stolen_1 22 rfl rfl
theorem dksX1_stolen_3 : cX1_stolen.data.toList.drop 69 = dktX1_stolen_3 := dk_seg dksX1_stolen_2 24 rfl rfl
theorem dX1_stolen_0 : decode cX1_stolen 0 = .ok (.aload_n 0, 1) := dk_42 (dk_at dksX1_stolen_0 0 rfl rfl)
theorem dX1_stolen_1 : decode cX1_stolen 1 = .ok (.getfield 44, 3) := dk_180 0 44 (dk_at dksX1_stolen_0 1 rfl rfl)
theorem dX1_stolen_4 : decode cX1_stolen 4 = .ok (.aload_n 0, 1) := dk_42 (dk_at dksX1_stolen_0 4 rfl rfl)
theorem dX1_stolen_5 : decode cX1_stolen 5 = .ok (.getfield 40, 3) := dk_180 0 40 (dk_at dksX1_stolen_0 5 rfl rfl)
theorem dX1_stolen_8 : decode cX1_stolen 8 = .ok (.invokevirtual 218, 3) := dk_182 0 218 (dk_at dksX1_stolen_0 8 rfl rfl)
theorem dX1_stolen_11 : decode cX1_stolen 11 = .ok (.pop, 1) := dk_87 (dk_at dksX1_stolen_0 11 rfl rfl)
theorem dX1_stolen_12 : decode cX1_stolen 12 = .ok (.aload_n 0, 1) := dk_42 (dk_at dksX1_stolen_0 12 rfl rfl)
theorem dX1_stolen_13 : decode cX1_stolen 13 = .ok (.invokevirtual 116, 3) := dk_182 0 116 (dk_at dksX1_stolen_0 13 rfl rfl)
theorem dX1_stolen_16 : decode cX1_stolen 16 = .ok (.getfield 329, 3) := dk_180 1 73 (dk_at dksX1_stolen_0 16 rfl rfl)
theorem dX1_stolen_19 : decode cX1_stolen 19 = .ok (.iload_n 1, 1) := dk_27 (dk_at dksX1_stolen_0 19 rfl rfl)
theorem dX1_stolen_20 : decode cX1_stolen 20 = .ok (.invokevirtual 150, 3) := dk_182 0 150 (dk_at dksX1_stolen_0 20 rfl rfl)
theorem dX1_stolen_23 : decode cX1_stolen 23 = .ok (.checkcast 309, 3) := dk_192 1 53 (dk_at dksX1_stolen_1 0 rfl rfl)
theorem dX1_stolen_26 : decode cX1_stolen 26 = .ok (.astore 4, 2) := dk_58 4 (dk_at dksX1_stolen_1 3 rfl rfl)
theorem dX1_stolen_28 : decode cX1_stolen 28 = .ok (.iconst 0, 1) := dk_3 (dk_at dksX1_stolen_1 5 rfl rfl)
theorem dX1_stolen_29 : decode cX1_stolen 29 = .ok (.istore 5, 2) := dk_54 5 (dk_at dksX1_stolen_1 6 rfl rfl)
theorem dX1_stolen_31 : decode cX1_stolen 31 = .ok (.iconst 0, 1) := dk_3 (dk_at dksX1_stolen_1 8 rfl rfl)
theorem dX1_stolen_32 : decode cX1_stolen 32 = .ok (.istore 6, 2) := dk_54 6 (dk_at dksX1_stolen_1 9 rfl rfl)
theorem dX1_stolen_34 : decode cX1_stolen 34 = .ok (.iload 6, 2) := dk_21 6 (dk_at dksX1_stolen_1 11 rfl rfl)
theorem dX1_stolen_36 : decode cX1_stolen 36 = .ok (.aload 4, 2) := dk_25 4 (dk_at dksX1_stolen_1 13 rfl rfl)
theorem dX1_stolen_38 : decode cX1_stolen 38 = .ok (.arraylength, 1) := dk_190 (dk_at dksX1_stolen_1 15 rfl rfl)
theorem dX1_stolen_39 : decode cX1_stolen 39 = .ok (.if_icmp .ge 51, 3) := dk_162 0 51 (dk_at dksX1_stolen_1 16 rfl rfl)
theorem dX1_stolen_42 : decode cX1_stolen 42 = .ok (.iload 5, 2) := dk_21 5 (dk_at dksX1_stolen_1 19 rfl rfl)
theorem dX1_stolen_44 : decode cX1_stolen 44 = .ok (.aload_n 0, 1) := dk_42 (dk_at dksX1_stolen_1 21 rfl rfl)
theorem dX1_stolen_45 : decode cX1_stolen 45 = .ok (.getfield 44, 3) := dk_180 0 44 (dk_at dksX1_stolen_2 0 rfl rfl)
theorem dX1_stolen_48 : decode cX1_stolen 48 = .ok (.aload_n 0, 1) := dk_42 (dk_at dksX1_stolen_2 3 rfl rfl)
theorem dX1_stolen_49 : decode cX1_stolen 49 = .ok (.getfield 44, 3) := dk_180 0 44 (dk_at dksX1_stolen_2 4 rfl rfl)
theorem dX1_stolen_52 : decode cX1_stolen 52 = .ok (.iload_n 2, 1) := dk_28 (dk_at dksX1_stolen_2 7 rfl rfl)
theorem dX1_stolen_53 : decode cX1_stolen 53 = .ok (.iload_n 3, 1) := dk_29 (dk_at dksX1_stolen_2 8 rfl rfl)
theorem dX1_stolen_54 : decode cX1_stolen 54 = .ok (.aload_n 0, 1) := dk_42 (dk_at dksX1_stolen_2 9 rfl rfl)
theorem dX1_stolen_55 : decode cX1_stolen 55 = .ok (.invokevirtual 116, 3) := dk_182 0 116 (dk_at dksX1_stolen_2 10 rfl rfl)
theorem dX1_stolen_58 : decode cX1_stolen 58 = .ok (.getfield 125, 3) := dk_180 0 125 (dk_at dksX1_stolen_2 13 rfl rfl)
theorem dX1_stolen_61 : decode cX1_stolen 61 = .ok (.aload 4, 2) := dk_25 4 (dk_at dksX1_stolen_2 16 rfl rfl)
theorem dX1_stolen_63 : decode cX1_stolen 63 = .ok (.iload 6, 2) := dk_21 6 (dk_at dksX1_stolen_2 18 rfl rfl)
theorem dX1_stolen_65 : decode cX1_stolen 65 = .ok (.iaload, 1) := dk_46 (dk_at dksX1_stolen_2 20 rfl rfl)
theorem dX1_stolen_66 : decode cX1_stolen 66 = .ok (.invokevirtual 150, 3) := dk_182 0 150 (dk_at dksX1_stolen_2 21 rfl rfl)
theorem dX1_stolen_69 : decode cX1_stolen 69 = .ok (.checkcast 15, 3) := dk_192 0 15 (dk_at dksX1_stolen_3 0 rfl rfl)
theorem dX1_stolen_72 : decode cX1_stolen 72 = .ok (.getfield 332, 3) := dk_180 1 76 (dk_at dksX1_stolen_3 3 rfl rfl)
theorem dX1_stolen_75 : decode cX1_stolen 75 = .ok (.invokevirtual 335, 3) := dk_182 1 79 (dk_at dksX1_stolen_3 6 rfl rfl)
theorem dX1_stolen_78 : decode cX1_stolen 78 = .ok (.invokevirtual 337, 3) := dk_182 1 81 (dk_at dksX1_stolen_3 9 rfl rfl)
theorem dX1_stolen_81 : decode cX1_stolen 81 = .ok (.iadd, 1) := dk_96 (dk_at dksX1_stolen_3 12 rfl rfl)
theorem dX1_stolen_82 : decode cX1_stolen 82 = .ok (.istore 5, 2) := dk_54 5 (dk_at dksX1_stolen_3 13 rfl rfl)
theorem dX1_stolen_84 : decode cX1_stolen 84 = .ok (.iinc 6 1, 3) := dk_132 6 1 (dk_at dksX1_stolen_3 15 rfl rfl)
theorem dX1_stolen_87 : decode cX1_stolen 87 = .ok (.goto (-53), 3) := dk_167 255 203 (dk_at dksX1_stolen_3 18 rfl rfl)
theorem dX1_stolen_90 : decode cX1_stolen 90 = .ok (.iload 5, 2) := dk_21 5 (dk_at dksX1_stolen_3 21 rfl rfl)
theorem dX1_stolen_92 : decode cX1_stolen 92 = .ok (.ireturn, 1) := dk_172 (dk_at dksX1_stolen_3 23 rfl rfl)
abbrev cX1_banns : ByteArray := prog_1_method_43_code
def yX1_banns : MethodName := ⟨RX1, "banns", "(III)I"⟩
def dkwX1_banns_3 : List UInt8 := [29, 4, 100, 46, 172]
abbrev dktX1_banns_3 : List UInt8 := dkwX1_banns_3 ++ []
def dkwX1_banns_2 : List UInt8 := [182, 1, 99, 29, 154, 0, 13, 42, 180, 0, 86, 180, 1, 103, 167, 0, 14, 42, 180, 0, 86, 180, 1, 106]
abbrev dktX1_banns_2 : List UInt8 := dkwX1_banns_2 ++ dktX1_banns_3
def dkwX1_banns_1 : List UInt8 := [182, 0, 116, 180, 1, 96, 182, 0, 128, 184, 0, 137, 154, 0, 5, 2, 172, 42, 180, 0, 86, 27, 28]
abbrev dktX1_banns_1 : List UInt8 := dkwX1_banns_1 ++ dktX1_banns_2
def dkwX1_banns_0 : List UInt8 := [27, 28, 184, 1, 84, 153, 0, 34, 42, 182, 0, 116, 180, 1, 96, 182, 0, 252, 154, 0, 21, 29, 3, 42]
abbrev dktX1_banns_0 : List UInt8 := dkwX1_banns_0 ++ dktX1_banns_1
theorem dksX1_banns_0 : cX1_banns.data.toList.drop 0 = dktX1_banns_0 := by decide +kernel
theorem dksX1_banns_1 : cX1_banns.data.toList.drop 24 = dktX1_banns_1 := dk_seg dksX1_banns_0 24 rfl rfl
theorem dksX1_banns_2 : cX1_banns.data.toList.drop 47 = dktX1_banns_2 := dk_seg dksX1_banns_1 23 rfl rfl
theorem dksX1_banns_3 : cX1_banns.data.toList.drop 71 = dktX1_banns_3 := dk_seg dksX1_banns_2 24 rfl rfl
theorem dX1_banns_0 : decode cX1_banns 0 = .ok (.iload_n 1, 1) := dk_27 (dk_at dksX1_banns_0 0 rfl rfl)
theorem dX1_banns_1 : decode cX1_banns 1 = .ok (.iload_n 2, 1) := dk_28 (dk_at dksX1_banns_0 1 rfl rfl)
theorem dX1_banns_2 : decode cX1_banns 2 = .ok (.invokestatic 340, 3) := dk_184 1 84 (dk_at dksX1_banns_0 2 rfl rfl)
theorem dX1_banns_5 : decode cX1_banns 5 = .ok (.ifCond .eq 34, 3) := dk_153 0 34 (dk_at dksX1_banns_0 5 rfl rfl)
theorem dX1_banns_8 : decode cX1_banns 8 = .ok (.aload_n 0, 1) := dk_42 (dk_at dksX1_banns_0 8 rfl rfl)
theorem dX1_banns_9 : decode cX1_banns 9 = .ok (.invokevirtual 116, 3) := dk_182 0 116 (dk_at dksX1_banns_0 9 rfl rfl)
theorem dX1_banns_12 : decode cX1_banns 12 = .ok (.getfield 352, 3) := dk_180 1 96 (dk_at dksX1_banns_0 12 rfl rfl)
theorem dX1_banns_15 : decode cX1_banns 15 = .ok (.invokevirtual 252, 3) := dk_182 0 252 (dk_at dksX1_banns_0 15 rfl rfl)
theorem dX1_banns_18 : decode cX1_banns 18 = .ok (.ifCond .ne 21, 3) := dk_154 0 21 (dk_at dksX1_banns_0 18 rfl rfl)
theorem dX1_banns_21 : decode cX1_banns 21 = .ok (.iload_n 3, 1) := dk_29 (dk_at dksX1_banns_0 21 rfl rfl)
theorem dX1_banns_22 : decode cX1_banns 22 = .ok (.iconst 0, 1) := dk_3 (dk_at dksX1_banns_0 22 rfl rfl)
theorem dX1_banns_23 : decode cX1_banns 23 = .ok (.aload_n 0, 1) := dk_42 (dk_at dksX1_banns_0 23 rfl rfl)
theorem dX1_banns_24 : decode cX1_banns 24 = .ok (.invokevirtual 116, 3) := dk_182 0 116 (dk_at dksX1_banns_1 0 rfl rfl)
theorem dX1_banns_27 : decode cX1_banns 27 = .ok (.getfield 352, 3) := dk_180 1 96 (dk_at dksX1_banns_1 3 rfl rfl)
theorem dX1_banns_30 : decode cX1_banns 30 = .ok (.invokevirtual 128, 3) := dk_182 0 128 (dk_at dksX1_banns_1 6 rfl rfl)
theorem dX1_banns_33 : decode cX1_banns 33 = .ok (.invokestatic 137, 3) := dk_184 0 137 (dk_at dksX1_banns_1 9 rfl rfl)
theorem dX1_banns_36 : decode cX1_banns 36 = .ok (.ifCond .ne 5, 3) := dk_154 0 5 (dk_at dksX1_banns_1 12 rfl rfl)
theorem dX1_banns_39 : decode cX1_banns 39 = .ok (.iconst (-1), 1) := dk_2 (dk_at dksX1_banns_1 15 rfl rfl)
theorem dX1_banns_40 : decode cX1_banns 40 = .ok (.ireturn, 1) := dk_172 (dk_at dksX1_banns_1 16 rfl rfl)
theorem dX1_banns_41 : decode cX1_banns 41 = .ok (.aload_n 0, 1) := dk_42 (dk_at dksX1_banns_1 17 rfl rfl)
theorem dX1_banns_42 : decode cX1_banns 42 = .ok (.getfield 86, 3) := dk_180 0 86 (dk_at dksX1_banns_1 18 rfl rfl)
theorem dX1_banns_45 : decode cX1_banns 45 = .ok (.iload_n 1, 1) := dk_27 (dk_at dksX1_banns_1 21 rfl rfl)
theorem dX1_banns_46 : decode cX1_banns 46 = .ok (.iload_n 2, 1) := dk_28 (dk_at dksX1_banns_1 22 rfl rfl)
theorem dX1_banns_47 : decode cX1_banns 47 = .ok (.invokevirtual 355, 3) := dk_182 1 99 (dk_at dksX1_banns_2 0 rfl rfl)
theorem dX1_banns_50 : decode cX1_banns 50 = .ok (.iload_n 3, 1) := dk_29 (dk_at dksX1_banns_2 3 rfl rfl)
theorem dX1_banns_51 : decode cX1_banns 51 = .ok (.ifCond .ne 13, 3) := dk_154 0 13 (dk_at dksX1_banns_2 4 rfl rfl)
theorem dX1_banns_54 : decode cX1_banns 54 = .ok (.aload_n 0, 1) := dk_42 (dk_at dksX1_banns_2 7 rfl rfl)
theorem dX1_banns_55 : decode cX1_banns 55 = .ok (.getfield 86, 3) := dk_180 0 86 (dk_at dksX1_banns_2 8 rfl rfl)
theorem dX1_banns_58 : decode cX1_banns 58 = .ok (.getfield 359, 3) := dk_180 1 103 (dk_at dksX1_banns_2 11 rfl rfl)
theorem dX1_banns_61 : decode cX1_banns 61 = .ok (.goto 14, 3) := dk_167 0 14 (dk_at dksX1_banns_2 14 rfl rfl)
theorem dX1_banns_64 : decode cX1_banns 64 = .ok (.aload_n 0, 1) := dk_42 (dk_at dksX1_banns_2 17 rfl rfl)
theorem dX1_banns_65 : decode cX1_banns 65 = .ok (.getfield 86, 3) := dk_180 0 86 (dk_at dksX1_banns_2 18 rfl rfl)
theorem dX1_banns_68 : decode cX1_banns 68 = .ok (.getfield 362, 3) := dk_180 1 106 (dk_at dksX1_banns_2 21 rfl rfl)
theorem dX1_banns_71 : decode cX1_banns 71 = .ok (.iload_n 3, 1) := dk_29 (dk_at dksX1_banns_3 0 rfl rfl)
theorem dX1_banns_72 : decode cX1_banns 72 = .ok (.iconst 1, 1) := dk_4 (dk_at dksX1_banns_3 1 rfl rfl)
theorem dX1_banns_73 : decode cX1_banns 73 = .ok (.isub, 1) := dk_100 (dk_at dksX1_banns_3 2 rfl rfl)
theorem dX1_banns_74 : decode cX1_banns 74 = .ok (.iaload, 1) := dk_46 (dk_at dksX1_banns_3 3 rfl rfl)
theorem dX1_banns_75 : decode cX1_banns 75 = .ok (.ireturn, 1) := dk_172 (dk_at dksX1_banns_3 4 rfl rfl)
abbrev cX1_years : ByteArray := prog_1_method_46_code
def yX1_years : MethodName := ⟨RX1, "years", "(III)I"⟩
def dkwX1_years_5 : List UInt8 := [172]
abbrev dktX1_years_5 : List UInt8 := dkwX1_years_5 ++ []
def dkwX1_years_4 : List UInt8 := [100, 167, 0, 23, 29, 4, 160, 0, 8, 21, 4, 167, 0, 13, 42, 180, 0, 44, 180, 1, 0, 184, 1, 127]
abbrev dktX1_years_4 : List UInt8 := dkwX1_years_4 ++ dktX1_years_5
def dkwX1_years_3 : List UInt8 := [132, 5, 1, 167, 255, 238, 29, 154, 0, 21, 42, 180, 0, 44, 180, 1, 14, 42, 180, 0, 40, 180, 1, 14]
abbrev dktX1_years_3 : List UInt8 := dkwX1_years_3 ++ dktX1_years_4
def dkwX1_years_2 : List UInt8 := [181, 1, 109, 3, 54, 4, 3, 54, 5, 21, 5, 28, 162, 0, 18, 21, 4, 42, 182, 1, 124, 96, 54, 4]
abbrev dktX1_years_2 : List UInt8 := dkwX1_years_2 ++ dktX1_years_3
def dkwX1_years_1 : List UInt8 := [184, 0, 137, 154, 0, 5, 2, 172, 42, 180, 0, 44, 42, 180, 0, 40, 182, 0, 218, 87, 42, 27, 133]
abbrev dktX1_years_1 : List UInt8 := dkwX1_years_1 ++ dktX1_years_2
def dkwX1_years_0 : List UInt8 := [27, 3, 17, 39, 15, 184, 0, 137, 153, 0, 22, 28, 4, 16, 60, 184, 0, 137, 153, 0, 12, 29, 3, 5]
abbrev dktX1_years_0 : List UInt8 := dkwX1_years_0 ++ dktX1_years_1
theorem dksX1_years_0 : cX1_years.data.toList.drop 0 = dktX1_years_0 := by decide +kernel
theorem dksX1_years_1 : cX1_years.data.toList.drop 24 = dktX1_years_1 := dk_seg dksX1_years_0 24 rfl rfl
theorem dksX1_years_2 : cX1_years.data.toList.drop 47 = dktX1_years_2 := dk_seg dksX1_years_1 23 rfl rfl
theorem dksX1_years_3 : cX1_years.data.toList.drop 71 = dktX1_years_3 := dk_seg dksX1_years_2 24 rfl rfl
theorem dksX1_years_4 : cX1_years.data.toList.drop 95 = dktX1_years_4 := dk_seg dksX1_years_3 24 rfl rfl
theorem dksX1_years_5 : cX1_years.data.toList.drop 119 = dktX1_years_5 := dk_seg dksX1_years_4 24 rfl rfl
theorem dX1_years_0 : decode cX1_years 0 = .ok (.iload_n 1, 1) := dk_27 (dk_at dksX1_years_0 0 rfl rfl)
theorem dX1_years_1 : decode cX1_years 1 = .ok (.iconst 0, 1) := dk_3 (dk_at dksX1_years_0 1 rfl rfl)
theorem dX1_years_2 : decode cX1_years 2 = .ok (.sipush 9999, 3) := dk_17 39 15 (dk_at dksX1_years_0 2 rfl rfl)
theorem dX1_years_5 : decode cX1_years 5 = .ok (.invokestatic 137, 3) := dk_184 0 137 (dk_at dksX1_years_0 5 rfl rfl)
theorem dX1_years_8 : decode cX1_years 8 = .ok (.ifCond .eq 22, 3) := dk_153 0 22 (dk_at dksX1_years_0 8 rfl rfl)
theorem dX1_years_11 : decode cX1_years 11 = .ok (.iload_n 2, 1) := dk_28 (dk_at dksX1_years_0 11 rfl rfl)
theorem dX1_years_12 : decode cX1_years 12 = .ok (.iconst 1, 1) := dk_4 (dk_at dksX1_years_0 12 rfl rfl)
theorem dX1_years_13 : decode cX1_years 13 = .ok (.bipush 60, 2) := dk_16 60 (dk_at dksX1_years_0 13 rfl rfl)
theorem dX1_years_15 : decode cX1_years 15 = .ok (.invokestatic 137, 3) := dk_184 0 137 (dk_at dksX1_years_0 15 rfl rfl)
theorem dX1_years_18 : decode cX1_years 18 = .ok (.ifCond .eq 12, 3) := dk_153 0 12 (dk_at dksX1_years_0 18 rfl rfl)
theorem dX1_years_21 : decode cX1_years 21 = .ok (.iload_n 3, 1) := dk_29 (dk_at dksX1_years_0 21 rfl rfl)
theorem dX1_years_22 : decode cX1_years 22 = .ok (.iconst 0, 1) := dk_3 (dk_at dksX1_years_0 22 rfl rfl)
theorem dX1_years_23 : decode cX1_years 23 = .ok (.iconst 2, 1) := dk_5 (dk_at dksX1_years_0 23 rfl rfl)
theorem dX1_years_24 : decode cX1_years 24 = .ok (.invokestatic 137, 3) := dk_184 0 137 (dk_at dksX1_years_1 0 rfl rfl)
theorem dX1_years_27 : decode cX1_years 27 = .ok (.ifCond .ne 5, 3) := dk_154 0 5 (dk_at dksX1_years_1 3 rfl rfl)
theorem dX1_years_30 : decode cX1_years 30 = .ok (.iconst (-1), 1) := dk_2 (dk_at dksX1_years_1 6 rfl rfl)
theorem dX1_years_31 : decode cX1_years 31 = .ok (.ireturn, 1) := dk_172 (dk_at dksX1_years_1 7 rfl rfl)
theorem dX1_years_32 : decode cX1_years 32 = .ok (.aload_n 0, 1) := dk_42 (dk_at dksX1_years_1 8 rfl rfl)
theorem dX1_years_33 : decode cX1_years 33 = .ok (.getfield 44, 3) := dk_180 0 44 (dk_at dksX1_years_1 9 rfl rfl)
theorem dX1_years_36 : decode cX1_years 36 = .ok (.aload_n 0, 1) := dk_42 (dk_at dksX1_years_1 12 rfl rfl)
theorem dX1_years_37 : decode cX1_years 37 = .ok (.getfield 40, 3) := dk_180 0 40 (dk_at dksX1_years_1 13 rfl rfl)
theorem dX1_years_40 : decode cX1_years 40 = .ok (.invokevirtual 218, 3) := dk_182 0 218 (dk_at dksX1_years_1 16 rfl rfl)
theorem dX1_years_43 : decode cX1_years 43 = .ok (.pop, 1) := dk_87 (dk_at dksX1_years_1 19 rfl rfl)
theorem dX1_years_44 : decode cX1_years 44 = .ok (.aload_n 0, 1) := dk_42 (dk_at dksX1_years_1 20 rfl rfl)
theorem dX1_years_45 : decode cX1_years 45 = .ok (.iload_n 1, 1) := dk_27 (dk_at dksX1_years_1 21 rfl rfl)
theorem dX1_years_46 : decode cX1_years 46 = .ok (.i2l, 1) := dk_133 (dk_at dksX1_years_1 22 rfl rfl)
theorem dX1_years_47 : decode cX1_years 47 = .ok (.putfield 365, 3) := dk_181 1 109 (dk_at dksX1_years_2 0 rfl rfl)
theorem dX1_years_50 : decode cX1_years 50 = .ok (.iconst 0, 1) := dk_3 (dk_at dksX1_years_2 3 rfl rfl)
theorem dX1_years_51 : decode cX1_years 51 = .ok (.istore 4, 2) := dk_54 4 (dk_at dksX1_years_2 4 rfl rfl)
theorem dX1_years_53 : decode cX1_years 53 = .ok (.iconst 0, 1) := dk_3 (dk_at dksX1_years_2 6 rfl rfl)
theorem dX1_years_54 : decode cX1_years 54 = .ok (.istore 5, 2) := dk_54 5 (dk_at dksX1_years_2 7 rfl rfl)
theorem dX1_years_56 : decode cX1_years 56 = .ok (.iload 5, 2) := dk_21 5 (dk_at dksX1_years_2 9 rfl rfl)
theorem dX1_years_58 : decode cX1_years 58 = .ok (.iload_n 2, 1) := dk_28 (dk_at dksX1_years_2 11 rfl rfl)
theorem dX1_years_59 : decode cX1_years 59 = .ok (.if_icmp .ge 18, 3) := dk_162 0 18 (dk_at dksX1_years_2 12 rfl rfl)
theorem dX1_years_62 : decode cX1_years 62 = .ok (.iload 4, 2) := dk_21 4 (dk_at dksX1_years_2 15 rfl rfl)
theorem dX1_years_64 : decode cX1_years 64 = .ok (.aload_n 0, 1) := dk_42 (dk_at dksX1_years_2 17 rfl rfl)
theorem dX1_years_65 : decode cX1_years 65 = .ok (.invokevirtual 380, 3) := dk_182 1 124 (dk_at dksX1_years_2 18 rfl rfl)
theorem dX1_years_68 : decode cX1_years 68 = .ok (.iadd, 1) := dk_96 (dk_at dksX1_years_2 21 rfl rfl)
theorem dX1_years_69 : decode cX1_years 69 = .ok (.istore 4, 2) := dk_54 4 (dk_at dksX1_years_2 22 rfl rfl)
theorem dX1_years_71 : decode cX1_years 71 = .ok (.iinc 5 1, 3) := dk_132 5 1 (dk_at dksX1_years_3 0 rfl rfl)
theorem dX1_years_74 : decode cX1_years 74 = .ok (.goto (-18), 3) := dk_167 255 238 (dk_at dksX1_years_3 3 rfl rfl)
theorem dX1_years_77 : decode cX1_years 77 = .ok (.iload_n 3, 1) := dk_29 (dk_at dksX1_years_3 6 rfl rfl)
theorem dX1_years_78 : decode cX1_years 78 = .ok (.ifCond .ne 21, 3) := dk_154 0 21 (dk_at dksX1_years_3 7 rfl rfl)
theorem dX1_years_81 : decode cX1_years 81 = .ok (.aload_n 0, 1) := dk_42 (dk_at dksX1_years_3 10 rfl rfl)
theorem dX1_years_82 : decode cX1_years 82 = .ok (.getfield 44, 3) := dk_180 0 44 (dk_at dksX1_years_3 11 rfl rfl)
theorem dX1_years_85 : decode cX1_years 85 = .ok (.getfield 270, 3) := dk_180 1 14 (dk_at dksX1_years_3 14 rfl rfl)
theorem dX1_years_88 : decode cX1_years 88 = .ok (.aload_n 0, 1) := dk_42 (dk_at dksX1_years_3 17 rfl rfl)
theorem dX1_years_89 : decode cX1_years 89 = .ok (.getfield 40, 3) := dk_180 0 40 (dk_at dksX1_years_3 18 rfl rfl)
theorem dX1_years_92 : decode cX1_years 92 = .ok (.getfield 270, 3) := dk_180 1 14 (dk_at dksX1_years_3 21 rfl rfl)
theorem dX1_years_95 : decode cX1_years 95 = .ok (.isub, 1) := dk_100 (dk_at dksX1_years_4 0 rfl rfl)
theorem dX1_years_96 : decode cX1_years 96 = .ok (.goto 23, 3) := dk_167 0 23 (dk_at dksX1_years_4 1 rfl rfl)
theorem dX1_years_99 : decode cX1_years 99 = .ok (.iload_n 3, 1) := dk_29 (dk_at dksX1_years_4 4 rfl rfl)
theorem dX1_years_100 : decode cX1_years 100 = .ok (.iconst 1, 1) := dk_4 (dk_at dksX1_years_4 5 rfl rfl)
theorem dX1_years_101 : decode cX1_years 101 = .ok (.if_icmp .ne 8, 3) := dk_160 0 8 (dk_at dksX1_years_4 6 rfl rfl)
theorem dX1_years_104 : decode cX1_years 104 = .ok (.iload 4, 2) := dk_21 4 (dk_at dksX1_years_4 9 rfl rfl)
theorem dX1_years_106 : decode cX1_years 106 = .ok (.goto 13, 3) := dk_167 0 13 (dk_at dksX1_years_4 11 rfl rfl)
theorem dX1_years_109 : decode cX1_years 109 = .ok (.aload_n 0, 1) := dk_42 (dk_at dksX1_years_4 14 rfl rfl)
theorem dX1_years_110 : decode cX1_years 110 = .ok (.getfield 44, 3) := dk_180 0 44 (dk_at dksX1_years_4 15 rfl rfl)
theorem dX1_years_113 : decode cX1_years 113 = .ok (.getfield 256, 3) := dk_180 1 0 (dk_at dksX1_years_4 18 rfl rfl)
theorem dX1_years_116 : decode cX1_years 116 = .ok (.invokestatic 383, 3) := dk_184 1 127 (dk_at dksX1_years_4 21 rfl rfl)
theorem dX1_years_119 : decode cX1_years 119 = .ok (.ireturn, 1) := dk_172 (dk_at dksX1_years_5 0 rfl rfl)
abbrev cX1_drawnDay : ByteArray := prog_1_method_45_code
def yX1_drawnDay : MethodName := ⟨RX1, "drawnDay", "()I"⟩
def dkwX1_drawnDay_9 : List UInt8 := [182, 0, 242, 87, 167, 0, 9, 132, 2, 1, 167, 255, 192, 42, 180, 0, 44, 182, 0, 249, 27, 172]
abbrev dktX1_drawnDay_9 : List UInt8 := dkwX1_drawnDay_9 ++ []
def dkwX1_drawnDay_8 : List UInt8 := [192, 0, 15, 180, 0, 163, 42, 180, 0, 44, 180, 0, 184, 164, 0, 6, 167, 0, 15, 42, 180, 0, 44, 28]
abbrev dktX1_drawnDay_8 : List UInt8 := dkwX1_drawnDay_8 ++ dktX1_drawnDay_9
def dkwX1_drawnDay_7 : List UInt8 := [42, 180, 0, 44, 28, 182, 0, 239, 153, 0, 45, 42, 182, 0, 116, 180, 0, 125, 28, 182, 0, 150]
abbrev dktX1_drawnDay_7 : List UInt8 := dkwX1_drawnDay_7 ++ dktX1_drawnDay_8
def dkwX1_drawnDay_6 : List UInt8 := [42, 180, 0, 44, 28, 29, 182, 0, 222, 182, 1, 11, 96, 60, 3, 61, 28, 42, 182, 0, 135, 162, 0, 62]
abbrev dktX1_drawnDay_6 : List UInt8 := dkwX1_drawnDay_6 ++ dktX1_drawnDay_7
def dkwX1_drawnDay_5 : List UInt8 := [182, 0, 141, 182, 1, 121, 62, 42, 182, 0, 116, 28, 29, 182, 0, 212, 153, 0, 22, 27, 42, 180, 0, 44]
abbrev dktX1_drawnDay_5 : List UInt8 := dkwX1_drawnDay_5 ++ dktX1_drawnDay_6
def dkwX1_drawnDay_4 : List UInt8 := [182, 0, 141, 158, 0, 58, 42, 42, 182, 0, 116, 180, 0, 143, 182, 0, 128, 182, 1, 121, 61, 42, 42]
abbrev dktX1_drawnDay_4 : List UInt8 := dkwX1_drawnDay_4 ++ dktX1_drawnDay_5
def dkwX1_drawnDay_3 : List UInt8 := [96, 60, 132, 2, 1, 167, 255, 185, 42, 182, 0, 116, 180, 0, 143, 182, 0, 252, 154, 0, 65, 42]
abbrev dktX1_drawnDay_3 : List UInt8 := dkwX1_drawnDay_3 ++ dktX1_drawnDay_4
def dkwX1_drawnDay_2 : List UInt8 := [42, 180, 0, 44, 42, 180, 0, 44, 42, 16, 12, 182, 1, 121, 6, 45, 3, 46, 182, 1, 79, 182, 1, 11]
abbrev dktX1_drawnDay_2 : List UInt8 := dkwX1_drawnDay_2 ++ dktX1_drawnDay_3
def dkwX1_drawnDay_1 : List UInt8 := [180, 1, 58, 28, 182, 0, 150, 192, 1, 53, 78, 42, 16, 10, 182, 1, 121, 45, 4, 46, 162, 0, 30, 27]
abbrev dktX1_drawnDay_1 : List UInt8 := dkwX1_drawnDay_1 ++ dktX1_drawnDay_2
def dkwX1_drawnDay_0 : List UInt8 := [3, 60, 3, 61, 28, 42, 182, 0, 116, 180, 1, 58, 182, 0, 128, 162, 0, 63, 42, 182, 0, 116]
abbrev dktX1_drawnDay_0 : List UInt8 := dkwX1_drawnDay_0 ++ dktX1_drawnDay_1
theorem dksX1_drawnDay_0 : cX1_drawnDay.data.toList.drop 0 = dktX1_drawnDay_0 := by decide +kernel
theorem dksX1_drawnDay_1 : cX1_drawnDay.data.toList.drop 22 = dktX1_drawnDay_1 := dk_seg dksX1_drawnDay_0 22 rfl rfl
theorem dksX1_drawnDay_2 : cX1_drawnDay.data.toList.drop 46 = dktX1_drawnDay_2 := dk_seg dksX1_drawnDay_1 24 rfl rfl
theorem dksX1_drawnDay_3 : cX1_drawnDay.data.toList.drop 70 = dktX1_drawnDay_3 := dk_seg dksX1_drawnDay_2 24 rfl rfl
theorem dksX1_drawnDay_4 : cX1_drawnDay.data.toList.drop 92 = dktX1_drawnDay_4 := dk_seg dksX1_drawnDay_3 22 rfl rfl
theorem dksX1_drawnDay_5 : cX1_drawnDay.data.toList.drop 115 = dktX1_drawnDay_5 := dk_seg dksX1_drawnDay_4 23 rfl rfl
theorem dksX1_drawnDay_6 : cX1_drawnDay.data.toList.drop 139 = dktX1_drawnDay_6 := dk_seg dksX1_drawnDay_5 24 rfl rfl
theorem dksX1_drawnDay_7 : cX1_drawnDay.data.toList.drop 163 = dktX1_drawnDay_7 := dk_seg dksX1_drawnDay_6 24 rfl rfl
theorem dksX1_drawnDay_8 : cX1_drawnDay.data.toList.drop 185 = dktX1_drawnDay_8 := dk_seg dksX1_drawnDay_7 22 rfl rfl
theorem dksX1_drawnDay_9 : cX1_drawnDay.data.toList.drop 209 = dktX1_drawnDay_9 := dk_seg dksX1_drawnDay_8 24 rfl rfl
theorem dX1_drawnDay_0 : decode cX1_drawnDay 0 = .ok (.iconst 0, 1) := dk_3 (dk_at dksX1_drawnDay_0 0 rfl rfl)
theorem dX1_drawnDay_1 : decode cX1_drawnDay 1 = .ok (.istore_n 1, 1) := dk_60 (dk_at dksX1_drawnDay_0 1 rfl rfl)
theorem dX1_drawnDay_2 : decode cX1_drawnDay 2 = .ok (.iconst 0, 1) := dk_3 (dk_at dksX1_drawnDay_0 2 rfl rfl)
theorem dX1_drawnDay_3 : decode cX1_drawnDay 3 = .ok (.istore_n 2, 1) := dk_61 (dk_at dksX1_drawnDay_0 3 rfl rfl)
theorem dX1_drawnDay_4 : decode cX1_drawnDay 4 = .ok (.iload_n 2, 1) := dk_28 (dk_at dksX1_drawnDay_0 4 rfl rfl)
theorem dX1_drawnDay_5 : decode cX1_drawnDay 5 = .ok (.aload_n 0, 1) := dk_42 (dk_at dksX1_drawnDay_0 5 rfl rfl)
theorem dX1_drawnDay_6 : decode cX1_drawnDay 6 = .ok (.invokevirtual 116, 3) := dk_182 0 116 (dk_at dksX1_drawnDay_0 6 rfl rfl)
theorem dX1_drawnDay_9 : decode cX1_drawnDay 9 = .ok (.getfield 314, 3) := dk_180 1 58 (dk_at dksX1_drawnDay_0 9 rfl rfl)
theorem dX1_drawnDay_12 : decode cX1_drawnDay 12 = .ok (.invokevirtual 128, 3) := dk_182 0 128 (dk_at dksX1_drawnDay_0 12 rfl rfl)
theorem dX1_drawnDay_15 : decode cX1_drawnDay 15 = .ok (.if_icmp .ge 63, 3) := dk_162 0 63 (dk_at dksX1_drawnDay_0 15 rfl rfl)
theorem dX1_drawnDay_18 : decode cX1_drawnDay 18 = .ok (.aload_n 0, 1) := dk_42 (dk_at dksX1_drawnDay_0 18 rfl rfl)
theorem dX1_drawnDay_19 : decode cX1_drawnDay 19 = .ok (.invokevirtual 116, 3) := dk_182 0 116 (dk_at dksX1_drawnDay_0 19 rfl rfl)
theorem dX1_drawnDay_22 : decode cX1_drawnDay 22 = .ok (.getfield 314, 3) := dk_180 1 58 (dk_at dksX1_drawnDay_1 0 rfl rfl)
theorem dX1_drawnDay_25 : decode cX1_drawnDay 25 = .ok (.iload_n 2, 1) := dk_28 (dk_at dksX1_drawnDay_1 3 rfl rfl)
theorem dX1_drawnDay_26 : decode cX1_drawnDay 26 = .ok (.invokevirtual 150, 3) := dk_182 0 150 (dk_at dksX1_drawnDay_1 4 rfl rfl)
theorem dX1_drawnDay_29 : decode cX1_drawnDay 29 = .ok (.checkcast 309, 3) := dk_192 1 53 (dk_at dksX1_drawnDay_1 7 rfl rfl)
theorem dX1_drawnDay_32 : decode cX1_drawnDay 32 = .ok (.astore_n 3, 1) := dk_78 (dk_at dksX1_drawnDay_1 10 rfl rfl)
theorem dX1_drawnDay_33 : decode cX1_drawnDay 33 = .ok (.aload_n 0, 1) := dk_42 (dk_at dksX1_drawnDay_1 11 rfl rfl)
theorem dX1_drawnDay_34 : decode cX1_drawnDay 34 = .ok (.bipush 10, 2) := dk_16 10 (dk_at dksX1_drawnDay_1 12 rfl rfl)
theorem dX1_drawnDay_36 : decode cX1_drawnDay 36 = .ok (.invokevirtual 377, 3) := dk_182 1 121 (dk_at dksX1_drawnDay_1 14 rfl rfl)
theorem dX1_drawnDay_39 : decode cX1_drawnDay 39 = .ok (.aload_n 3, 1) := dk_45 (dk_at dksX1_drawnDay_1 17 rfl rfl)
theorem dX1_drawnDay_40 : decode cX1_drawnDay 40 = .ok (.iconst 1, 1) := dk_4 (dk_at dksX1_drawnDay_1 18 rfl rfl)
theorem dX1_drawnDay_41 : decode cX1_drawnDay 41 = .ok (.iaload, 1) := dk_46 (dk_at dksX1_drawnDay_1 19 rfl rfl)
theorem dX1_drawnDay_42 : decode cX1_drawnDay 42 = .ok (.if_icmp .ge 30, 3) := dk_162 0 30 (dk_at dksX1_drawnDay_1 20 rfl rfl)
theorem dX1_drawnDay_45 : decode cX1_drawnDay 45 = .ok (.iload_n 1, 1) := dk_27 (dk_at dksX1_drawnDay_1 23 rfl rfl)
theorem dX1_drawnDay_46 : decode cX1_drawnDay 46 = .ok (.aload_n 0, 1) := dk_42 (dk_at dksX1_drawnDay_2 0 rfl rfl)
theorem dX1_drawnDay_47 : decode cX1_drawnDay 47 = .ok (.getfield 44, 3) := dk_180 0 44 (dk_at dksX1_drawnDay_2 1 rfl rfl)
theorem dX1_drawnDay_50 : decode cX1_drawnDay 50 = .ok (.aload_n 0, 1) := dk_42 (dk_at dksX1_drawnDay_2 4 rfl rfl)
theorem dX1_drawnDay_51 : decode cX1_drawnDay 51 = .ok (.getfield 44, 3) := dk_180 0 44 (dk_at dksX1_drawnDay_2 5 rfl rfl)
theorem dX1_drawnDay_54 : decode cX1_drawnDay 54 = .ok (.aload_n 0, 1) := dk_42 (dk_at dksX1_drawnDay_2 8 rfl rfl)
theorem dX1_drawnDay_55 : decode cX1_drawnDay 55 = .ok (.bipush 12, 2) := dk_16 12 (dk_at dksX1_drawnDay_2 9 rfl rfl)
theorem dX1_drawnDay_57 : decode cX1_drawnDay 57 = .ok (.invokevirtual 377, 3) := dk_182 1 121 (dk_at dksX1_drawnDay_2 11 rfl rfl)
theorem dX1_drawnDay_60 : decode cX1_drawnDay 60 = .ok (.iconst 3, 1) := dk_6 (dk_at dksX1_drawnDay_2 14 rfl rfl)
theorem dX1_drawnDay_61 : decode cX1_drawnDay 61 = .ok (.aload_n 3, 1) := dk_45 (dk_at dksX1_drawnDay_2 15 rfl rfl)
theorem dX1_drawnDay_62 : decode cX1_drawnDay 62 = .ok (.iconst 0, 1) := dk_3 (dk_at dksX1_drawnDay_2 16 rfl rfl)
theorem dX1_drawnDay_63 : decode cX1_drawnDay 63 = .ok (.iaload, 1) := dk_46 (dk_at dksX1_drawnDay_2 17 rfl rfl)
theorem dX1_drawnDay_64 : decode cX1_drawnDay 64 = .ok (.invokevirtual 335, 3) := dk_182 1 79 (dk_at dksX1_drawnDay_2 18 rfl rfl)
theorem dX1_drawnDay_67 : decode cX1_drawnDay 67 = .ok (.invokevirtual 267, 3) := dk_182 1 11 (dk_at dksX1_drawnDay_2 21 rfl rfl)
theorem dX1_drawnDay_70 : decode cX1_drawnDay 70 = .ok (.iadd, 1) := dk_96 (dk_at dksX1_drawnDay_3 0 rfl rfl)
theorem dX1_drawnDay_71 : decode cX1_drawnDay 71 = .ok (.istore_n 1, 1) := dk_60 (dk_at dksX1_drawnDay_3 1 rfl rfl)
theorem dX1_drawnDay_72 : decode cX1_drawnDay 72 = .ok (.iinc 2 1, 3) := dk_132 2 1 (dk_at dksX1_drawnDay_3 2 rfl rfl)
theorem dX1_drawnDay_75 : decode cX1_drawnDay 75 = .ok (.goto (-71), 3) := dk_167 255 185 (dk_at dksX1_drawnDay_3 5 rfl rfl)
theorem dX1_drawnDay_78 : decode cX1_drawnDay 78 = .ok (.aload_n 0, 1) := dk_42 (dk_at dksX1_drawnDay_3 8 rfl rfl)
theorem dX1_drawnDay_79 : decode cX1_drawnDay 79 = .ok (.invokevirtual 116, 3) := dk_182 0 116 (dk_at dksX1_drawnDay_3 9 rfl rfl)
theorem dX1_drawnDay_82 : decode cX1_drawnDay 82 = .ok (.getfield 143, 3) := dk_180 0 143 (dk_at dksX1_drawnDay_3 12 rfl rfl)
theorem dX1_drawnDay_85 : decode cX1_drawnDay 85 = .ok (.invokevirtual 252, 3) := dk_182 0 252 (dk_at dksX1_drawnDay_3 15 rfl rfl)
theorem dX1_drawnDay_88 : decode cX1_drawnDay 88 = .ok (.ifCond .ne 65, 3) := dk_154 0 65 (dk_at dksX1_drawnDay_3 18 rfl rfl)
theorem dX1_drawnDay_91 : decode cX1_drawnDay 91 = .ok (.aload_n 0, 1) := dk_42 (dk_at dksX1_drawnDay_3 21 rfl rfl)
theorem dX1_drawnDay_92 : decode cX1_drawnDay 92 = .ok (.invokevirtual 141, 3) := dk_182 0 141 (dk_at dksX1_drawnDay_4 0 rfl rfl)
theorem dX1_drawnDay_95 : decode cX1_drawnDay 95 = .ok (.ifCond .le 58, 3) := dk_158 0 58 (dk_at dksX1_drawnDay_4 3 rfl rfl)
theorem dX1_drawnDay_98 : decode cX1_drawnDay 98 = .ok (.aload_n 0, 1) := dk_42 (dk_at dksX1_drawnDay_4 6 rfl rfl)
theorem dX1_drawnDay_99 : decode cX1_drawnDay 99 = .ok (.aload_n 0, 1) := dk_42 (dk_at dksX1_drawnDay_4 7 rfl rfl)
theorem dX1_drawnDay_100 : decode cX1_drawnDay 100 = .ok (.invokevirtual 116, 3) := dk_182 0 116 (dk_at dksX1_drawnDay_4 8 rfl rfl)
theorem dX1_drawnDay_103 : decode cX1_drawnDay 103 = .ok (.getfield 143, 3) := dk_180 0 143 (dk_at dksX1_drawnDay_4 11 rfl rfl)
theorem dX1_drawnDay_106 : decode cX1_drawnDay 106 = .ok (.invokevirtual 128, 3) := dk_182 0 128 (dk_at dksX1_drawnDay_4 14 rfl rfl)
theorem dX1_drawnDay_109 : decode cX1_drawnDay 109 = .ok (.invokevirtual 377, 3) := dk_182 1 121 (dk_at dksX1_drawnDay_4 17 rfl rfl)
theorem dX1_drawnDay_112 : decode cX1_drawnDay 112 = .ok (.istore_n 2, 1) := dk_61 (dk_at dksX1_drawnDay_4 20 rfl rfl)
theorem dX1_drawnDay_113 : decode cX1_drawnDay 113 = .ok (.aload_n 0, 1) := dk_42 (dk_at dksX1_drawnDay_4 21 rfl rfl)
theorem dX1_drawnDay_114 : decode cX1_drawnDay 114 = .ok (.aload_n 0, 1) := dk_42 (dk_at dksX1_drawnDay_4 22 rfl rfl)
theorem dX1_drawnDay_115 : decode cX1_drawnDay 115 = .ok (.invokevirtual 141, 3) := dk_182 0 141 (dk_at dksX1_drawnDay_5 0 rfl rfl)
theorem dX1_drawnDay_118 : decode cX1_drawnDay 118 = .ok (.invokevirtual 377, 3) := dk_182 1 121 (dk_at dksX1_drawnDay_5 3 rfl rfl)
theorem dX1_drawnDay_121 : decode cX1_drawnDay 121 = .ok (.istore_n 3, 1) := dk_62 (dk_at dksX1_drawnDay_5 6 rfl rfl)
theorem dX1_drawnDay_122 : decode cX1_drawnDay 122 = .ok (.aload_n 0, 1) := dk_42 (dk_at dksX1_drawnDay_5 7 rfl rfl)
theorem dX1_drawnDay_123 : decode cX1_drawnDay 123 = .ok (.invokevirtual 116, 3) := dk_182 0 116 (dk_at dksX1_drawnDay_5 8 rfl rfl)
theorem dX1_drawnDay_126 : decode cX1_drawnDay 126 = .ok (.iload_n 2, 1) := dk_28 (dk_at dksX1_drawnDay_5 11 rfl rfl)
theorem dX1_drawnDay_127 : decode cX1_drawnDay 127 = .ok (.iload_n 3, 1) := dk_29 (dk_at dksX1_drawnDay_5 12 rfl rfl)
theorem dX1_drawnDay_128 : decode cX1_drawnDay 128 = .ok (.invokevirtual 212, 3) := dk_182 0 212 (dk_at dksX1_drawnDay_5 13 rfl rfl)
theorem dX1_drawnDay_131 : decode cX1_drawnDay 131 = .ok (.ifCond .eq 22, 3) := dk_153 0 22 (dk_at dksX1_drawnDay_5 16 rfl rfl)
theorem dX1_drawnDay_134 : decode cX1_drawnDay 134 = .ok (.iload_n 1, 1) := dk_27 (dk_at dksX1_drawnDay_5 19 rfl rfl)
theorem dX1_drawnDay_135 : decode cX1_drawnDay 135 = .ok (.aload_n 0, 1) := dk_42 (dk_at dksX1_drawnDay_5 20 rfl rfl)
theorem dX1_drawnDay_136 : decode cX1_drawnDay 136 = .ok (.getfield 44, 3) := dk_180 0 44 (dk_at dksX1_drawnDay_5 21 rfl rfl)
theorem dX1_drawnDay_139 : decode cX1_drawnDay 139 = .ok (.aload_n 0, 1) := dk_42 (dk_at dksX1_drawnDay_6 0 rfl rfl)
theorem dX1_drawnDay_140 : decode cX1_drawnDay 140 = .ok (.getfield 44, 3) := dk_180 0 44 (dk_at dksX1_drawnDay_6 1 rfl rfl)
theorem dX1_drawnDay_143 : decode cX1_drawnDay 143 = .ok (.iload_n 2, 1) := dk_28 (dk_at dksX1_drawnDay_6 4 rfl rfl)
theorem dX1_drawnDay_144 : decode cX1_drawnDay 144 = .ok (.iload_n 3, 1) := dk_29 (dk_at dksX1_drawnDay_6 5 rfl rfl)
theorem dX1_drawnDay_145 : decode cX1_drawnDay 145 = .ok (.invokevirtual 222, 3) := dk_182 0 222 (dk_at dksX1_drawnDay_6 6 rfl rfl)
theorem dX1_drawnDay_148 : decode cX1_drawnDay 148 = .ok (.invokevirtual 267, 3) := dk_182 1 11 (dk_at dksX1_drawnDay_6 9 rfl rfl)
theorem dX1_drawnDay_151 : decode cX1_drawnDay 151 = .ok (.iadd, 1) := dk_96 (dk_at dksX1_drawnDay_6 12 rfl rfl)
theorem dX1_drawnDay_152 : decode cX1_drawnDay 152 = .ok (.istore_n 1, 1) := dk_60 (dk_at dksX1_drawnDay_6 13 rfl rfl)
theorem dX1_drawnDay_153 : decode cX1_drawnDay 153 = .ok (.iconst 0, 1) := dk_3 (dk_at dksX1_drawnDay_6 14 rfl rfl)
theorem dX1_drawnDay_154 : decode cX1_drawnDay 154 = .ok (.istore_n 2, 1) := dk_61 (dk_at dksX1_drawnDay_6 15 rfl rfl)
theorem dX1_drawnDay_155 : decode cX1_drawnDay 155 = .ok (.iload_n 2, 1) := dk_28 (dk_at dksX1_drawnDay_6 16 rfl rfl)
theorem dX1_drawnDay_156 : decode cX1_drawnDay 156 = .ok (.aload_n 0, 1) := dk_42 (dk_at dksX1_drawnDay_6 17 rfl rfl)
theorem dX1_drawnDay_157 : decode cX1_drawnDay 157 = .ok (.invokevirtual 135, 3) := dk_182 0 135 (dk_at dksX1_drawnDay_6 18 rfl rfl)
theorem dX1_drawnDay_160 : decode cX1_drawnDay 160 = .ok (.if_icmp .ge 62, 3) := dk_162 0 62 (dk_at dksX1_drawnDay_6 21 rfl rfl)
theorem dX1_drawnDay_163 : decode cX1_drawnDay 163 = .ok (.aload_n 0, 1) := dk_42 (dk_at dksX1_drawnDay_7 0 rfl rfl)
theorem dX1_drawnDay_164 : decode cX1_drawnDay 164 = .ok (.getfield 44, 3) := dk_180 0 44 (dk_at dksX1_drawnDay_7 1 rfl rfl)
theorem dX1_drawnDay_167 : decode cX1_drawnDay 167 = .ok (.iload_n 2, 1) := dk_28 (dk_at dksX1_drawnDay_7 4 rfl rfl)
theorem dX1_drawnDay_168 : decode cX1_drawnDay 168 = .ok (.invokevirtual 239, 3) := dk_182 0 239 (dk_at dksX1_drawnDay_7 5 rfl rfl)
theorem dX1_drawnDay_171 : decode cX1_drawnDay 171 = .ok (.ifCond .eq 45, 3) := dk_153 0 45 (dk_at dksX1_drawnDay_7 8 rfl rfl)
theorem dX1_drawnDay_174 : decode cX1_drawnDay 174 = .ok (.aload_n 0, 1) := dk_42 (dk_at dksX1_drawnDay_7 11 rfl rfl)
theorem dX1_drawnDay_175 : decode cX1_drawnDay 175 = .ok (.invokevirtual 116, 3) := dk_182 0 116 (dk_at dksX1_drawnDay_7 12 rfl rfl)
theorem dX1_drawnDay_178 : decode cX1_drawnDay 178 = .ok (.getfield 125, 3) := dk_180 0 125 (dk_at dksX1_drawnDay_7 15 rfl rfl)
theorem dX1_drawnDay_181 : decode cX1_drawnDay 181 = .ok (.iload_n 2, 1) := dk_28 (dk_at dksX1_drawnDay_7 18 rfl rfl)
theorem dX1_drawnDay_182 : decode cX1_drawnDay 182 = .ok (.invokevirtual 150, 3) := dk_182 0 150 (dk_at dksX1_drawnDay_7 19 rfl rfl)
theorem dX1_drawnDay_185 : decode cX1_drawnDay 185 = .ok (.checkcast 15, 3) := dk_192 0 15 (dk_at dksX1_drawnDay_8 0 rfl rfl)
theorem dX1_drawnDay_188 : decode cX1_drawnDay 188 = .ok (.getfield 163, 3) := dk_180 0 163 (dk_at dksX1_drawnDay_8 3 rfl rfl)
theorem dX1_drawnDay_191 : decode cX1_drawnDay 191 = .ok (.aload_n 0, 1) := dk_42 (dk_at dksX1_drawnDay_8 6 rfl rfl)
theorem dX1_drawnDay_192 : decode cX1_drawnDay 192 = .ok (.getfield 44, 3) := dk_180 0 44 (dk_at dksX1_drawnDay_8 7 rfl rfl)
theorem dX1_drawnDay_195 : decode cX1_drawnDay 195 = .ok (.getfield 184, 3) := dk_180 0 184 (dk_at dksX1_drawnDay_8 10 rfl rfl)
theorem dX1_drawnDay_198 : decode cX1_drawnDay 198 = .ok (.if_icmp .le 6, 3) := dk_164 0 6 (dk_at dksX1_drawnDay_8 13 rfl rfl)
theorem dX1_drawnDay_201 : decode cX1_drawnDay 201 = .ok (.goto 15, 3) := dk_167 0 15 (dk_at dksX1_drawnDay_8 16 rfl rfl)
theorem dX1_drawnDay_204 : decode cX1_drawnDay 204 = .ok (.aload_n 0, 1) := dk_42 (dk_at dksX1_drawnDay_8 19 rfl rfl)
theorem dX1_drawnDay_205 : decode cX1_drawnDay 205 = .ok (.getfield 44, 3) := dk_180 0 44 (dk_at dksX1_drawnDay_8 20 rfl rfl)
theorem dX1_drawnDay_208 : decode cX1_drawnDay 208 = .ok (.iload_n 2, 1) := dk_28 (dk_at dksX1_drawnDay_8 23 rfl rfl)
theorem dX1_drawnDay_209 : decode cX1_drawnDay 209 = .ok (.invokevirtual 242, 3) := dk_182 0 242 (dk_at dksX1_drawnDay_9 0 rfl rfl)
theorem dX1_drawnDay_212 : decode cX1_drawnDay 212 = .ok (.pop, 1) := dk_87 (dk_at dksX1_drawnDay_9 3 rfl rfl)
theorem dX1_drawnDay_213 : decode cX1_drawnDay 213 = .ok (.goto 9, 3) := dk_167 0 9 (dk_at dksX1_drawnDay_9 4 rfl rfl)
theorem dX1_drawnDay_216 : decode cX1_drawnDay 216 = .ok (.iinc 2 1, 3) := dk_132 2 1 (dk_at dksX1_drawnDay_9 7 rfl rfl)
theorem dX1_drawnDay_219 : decode cX1_drawnDay 219 = .ok (.goto (-64), 3) := dk_167 255 192 (dk_at dksX1_drawnDay_9 10 rfl rfl)
theorem dX1_drawnDay_222 : decode cX1_drawnDay 222 = .ok (.aload_n 0, 1) := dk_42 (dk_at dksX1_drawnDay_9 13 rfl rfl)
theorem dX1_drawnDay_223 : decode cX1_drawnDay 223 = .ok (.getfield 44, 3) := dk_180 0 44 (dk_at dksX1_drawnDay_9 14 rfl rfl)
theorem dX1_drawnDay_226 : decode cX1_drawnDay 226 = .ok (.invokevirtual 249, 3) := dk_182 0 249 (dk_at dksX1_drawnDay_9 17 rfl rfl)
theorem dX1_drawnDay_229 : decode cX1_drawnDay 229 = .ok (.iload_n 1, 1) := dk_27 (dk_at dksX1_drawnDay_9 20 rfl rfl)
theorem dX1_drawnDay_230 : decode cX1_drawnDay 230 = .ok (.ireturn, 1) := dk_172 (dk_at dksX1_drawnDay_9 21 rfl rfl)
abbrev cX1_draw : ByteArray := prog_1_method_44_code
def yX1_draw : MethodName := ⟨RX1, "draw", "(I)I"⟩
def dkwX1_draw_1 : List UInt8 := [20, 1, 119, 109, 27, 133, 113, 136, 172]
abbrev dktX1_draw_1 : List UInt8 := dkwX1_draw_1 ++ []
def dkwX1_draw_0 : List UInt8 := [42, 42, 180, 1, 109, 20, 1, 113, 105, 20, 1, 115, 97, 20, 1, 117, 113, 181, 1, 109, 42, 180, 1, 109]
abbrev dktX1_draw_0 : List UInt8 := dkwX1_draw_0 ++ dktX1_draw_1
theorem dksX1_draw_0 : cX1_draw.data.toList.drop 0 = dktX1_draw_0 := by decide +kernel
theorem dksX1_draw_1 : cX1_draw.data.toList.drop 24 = dktX1_draw_1 := dk_seg dksX1_draw_0 24 rfl rfl
theorem dX1_draw_0 : decode cX1_draw 0 = .ok (.aload_n 0, 1) := dk_42 (dk_at dksX1_draw_0 0 rfl rfl)
theorem dX1_draw_1 : decode cX1_draw 1 = .ok (.aload_n 0, 1) := dk_42 (dk_at dksX1_draw_0 1 rfl rfl)
theorem dX1_draw_2 : decode cX1_draw 2 = .ok (.getfield 365, 3) := dk_180 1 109 (dk_at dksX1_draw_0 2 rfl rfl)
theorem dX1_draw_5 : decode cX1_draw 5 = .ok (.ldc2_w 369, 3) := dk_20 1 113 (dk_at dksX1_draw_0 5 rfl rfl)
theorem dX1_draw_8 : decode cX1_draw 8 = .ok (.lmul, 1) := dk_105 (dk_at dksX1_draw_0 8 rfl rfl)
theorem dX1_draw_9 : decode cX1_draw 9 = .ok (.ldc2_w 371, 3) := dk_20 1 115 (dk_at dksX1_draw_0 9 rfl rfl)
theorem dX1_draw_12 : decode cX1_draw 12 = .ok (.ladd, 1) := dk_97 (dk_at dksX1_draw_0 12 rfl rfl)
theorem dX1_draw_13 : decode cX1_draw 13 = .ok (.ldc2_w 373, 3) := dk_20 1 117 (dk_at dksX1_draw_0 13 rfl rfl)
theorem dX1_draw_16 : decode cX1_draw 16 = .ok (.lrem, 1) := dk_113 (dk_at dksX1_draw_0 16 rfl rfl)
theorem dX1_draw_17 : decode cX1_draw 17 = .ok (.putfield 365, 3) := dk_181 1 109 (dk_at dksX1_draw_0 17 rfl rfl)
theorem dX1_draw_20 : decode cX1_draw 20 = .ok (.aload_n 0, 1) := dk_42 (dk_at dksX1_draw_0 20 rfl rfl)
theorem dX1_draw_21 : decode cX1_draw 21 = .ok (.getfield 365, 3) := dk_180 1 109 (dk_at dksX1_draw_0 21 rfl rfl)
theorem dX1_draw_24 : decode cX1_draw 24 = .ok (.ldc2_w 375, 3) := dk_20 1 119 (dk_at dksX1_draw_1 0 rfl rfl)
theorem dX1_draw_27 : decode cX1_draw 27 = .ok (.ldiv, 1) := dk_109 (dk_at dksX1_draw_1 3 rfl rfl)
theorem dX1_draw_28 : decode cX1_draw 28 = .ok (.iload_n 1, 1) := dk_27 (dk_at dksX1_draw_1 4 rfl rfl)
theorem dX1_draw_29 : decode cX1_draw 29 = .ok (.i2l, 1) := dk_133 (dk_at dksX1_draw_1 5 rfl rfl)
theorem dX1_draw_30 : decode cX1_draw 30 = .ok (.lrem, 1) := dk_113 (dk_at dksX1_draw_1 6 rfl rfl)
theorem dX1_draw_31 : decode cX1_draw 31 = .ok (.l2i, 1) := dk_136 (dk_at dksX1_draw_1 7 rfl rfl)
theorem dX1_draw_32 : decode cX1_draw 32 = .ok (.ireturn, 1) := dk_172 (dk_at dksX1_draw_1 8 rfl rfl)
abbrev cX1_bits : ByteArray := prog_1_method_3_code
def yX1_bits : MethodName := ⟨RX1, "bits", "(I)I"⟩
def dkwX1_bits_0 : List UInt8 := [3, 60, 26, 61, 28, 153, 0, 15, 132, 1, 1, 28, 28, 4, 100, 126, 61, 167, 255, 243, 27, 172]
abbrev dktX1_bits_0 : List UInt8 := dkwX1_bits_0 ++ []
theorem dksX1_bits_0 : cX1_bits.data.toList.drop 0 = dktX1_bits_0 := by decide +kernel
theorem dX1_bits_0 : decode cX1_bits 0 = .ok (.iconst 0, 1) := dk_3 (dk_at dksX1_bits_0 0 rfl rfl)
theorem dX1_bits_1 : decode cX1_bits 1 = .ok (.istore_n 1, 1) := dk_60 (dk_at dksX1_bits_0 1 rfl rfl)
theorem dX1_bits_2 : decode cX1_bits 2 = .ok (.iload_n 0, 1) := dk_26 (dk_at dksX1_bits_0 2 rfl rfl)
theorem dX1_bits_3 : decode cX1_bits 3 = .ok (.istore_n 2, 1) := dk_61 (dk_at dksX1_bits_0 3 rfl rfl)
theorem dX1_bits_4 : decode cX1_bits 4 = .ok (.iload_n 2, 1) := dk_28 (dk_at dksX1_bits_0 4 rfl rfl)
theorem dX1_bits_5 : decode cX1_bits 5 = .ok (.ifCond .eq 15, 3) := dk_153 0 15 (dk_at dksX1_bits_0 5 rfl rfl)
theorem dX1_bits_8 : decode cX1_bits 8 = .ok (.iinc 1 1, 3) := dk_132 1 1 (dk_at dksX1_bits_0 8 rfl rfl)
theorem dX1_bits_11 : decode cX1_bits 11 = .ok (.iload_n 2, 1) := dk_28 (dk_at dksX1_bits_0 11 rfl rfl)
theorem dX1_bits_12 : decode cX1_bits 12 = .ok (.iload_n 2, 1) := dk_28 (dk_at dksX1_bits_0 12 rfl rfl)
theorem dX1_bits_13 : decode cX1_bits 13 = .ok (.iconst 1, 1) := dk_4 (dk_at dksX1_bits_0 13 rfl rfl)
theorem dX1_bits_14 : decode cX1_bits 14 = .ok (.isub, 1) := dk_100 (dk_at dksX1_bits_0 14 rfl rfl)
theorem dX1_bits_15 : decode cX1_bits 15 = .ok (.iand, 1) := dk_126 (dk_at dksX1_bits_0 15 rfl rfl)
theorem dX1_bits_16 : decode cX1_bits 16 = .ok (.istore_n 2, 1) := dk_61 (dk_at dksX1_bits_0 16 rfl rfl)
theorem dX1_bits_17 : decode cX1_bits 17 = .ok (.goto (-13), 3) := dk_167 255 243 (dk_at dksX1_bits_0 17 rfl rfl)
theorem dX1_bits_20 : decode cX1_bits 20 = .ok (.iload_n 1, 1) := dk_27 (dk_at dksX1_bits_0 20 rfl rfl)
theorem dX1_bits_21 : decode cX1_bits 21 = .ok (.ireturn, 1) := dk_172 (dk_at dksX1_bits_0 21 rfl rfl)
abbrev cX1_mark : ByteArray := prog_1_method_49_code
def yX1_mark : MethodName := ⟨RX1, "mark", "(IZ)Z"⟩
def dkwX1_mark_5 : List UInt8 := [27, 50, 180, 1, 148, 184, 1, 139, 181, 0, 60, 42, 180, 0, 64, 182, 0, 108, 4, 172]
abbrev dktX1_mark_5 : List UInt8 := dkwX1_mark_5 ++ []
def dkwX1_mark_4 : List UInt8 := [181, 0, 52, 42, 42, 180, 0, 92, 27, 50, 180, 1, 147, 184, 1, 136, 181, 0, 56, 42, 42, 180, 0, 92]
abbrev dktX1_mark_4 : List UInt8 := dkwX1_mark_4 ++ dktX1_mark_5
def dkwX1_mark_3 : List UInt8 := [180, 0, 92, 27, 50, 180, 1, 145, 182, 0, 228, 181, 0, 40, 42, 42, 180, 0, 92, 27, 50, 180, 1, 146]
abbrev dktX1_mark_3 : List UInt8 := dkwX1_mark_3 ++ dktX1_mark_4
def dkwX1_mark_2 : List UInt8 := [42, 180, 0, 56, 184, 1, 136, 42, 180, 0, 60, 184, 1, 139, 183, 1, 142, 83, 4, 172, 42, 42]
abbrev dktX1_mark_2 : List UInt8 := dkwX1_mark_2 ++ dktX1_mark_3
def dkwX1_mark_1 : List UInt8 := [28, 154, 0, 43, 42, 180, 0, 92, 27, 187, 0, 90, 89, 42, 180, 0, 40, 182, 0, 228, 42, 180, 0, 52]
abbrev dktX1_mark_1 : List UInt8 := dkwX1_mark_1 ++ dktX1_mark_2
def dkwX1_mark_0 : List UInt8 := [27, 3, 6, 184, 0, 137, 153, 0, 16, 28, 153, 0, 14, 42, 180, 0, 92, 27, 50, 199, 0, 5, 3, 172]
abbrev dktX1_mark_0 : List UInt8 := dkwX1_mark_0 ++ dktX1_mark_1
theorem dksX1_mark_0 : cX1_mark.data.toList.drop 0 = dktX1_mark_0 := by decide +kernel
theorem dksX1_mark_1 : cX1_mark.data.toList.drop 24 = dktX1_mark_1 := dk_seg dksX1_mark_0 24 rfl rfl
theorem dksX1_mark_2 : cX1_mark.data.toList.drop 48 = dktX1_mark_2 := dk_seg dksX1_mark_1 24 rfl rfl
theorem dksX1_mark_3 : cX1_mark.data.toList.drop 70 = dktX1_mark_3 := dk_seg dksX1_mark_2 22 rfl rfl
theorem dksX1_mark_4 : cX1_mark.data.toList.drop 94 = dktX1_mark_4 := dk_seg dksX1_mark_3 24 rfl rfl
theorem dksX1_mark_5 : cX1_mark.data.toList.drop 118 = dktX1_mark_5 := dk_seg dksX1_mark_4 24 rfl rfl
theorem dX1_mark_0 : decode cX1_mark 0 = .ok (.iload_n 1, 1) := dk_27 (dk_at dksX1_mark_0 0 rfl rfl)
theorem dX1_mark_1 : decode cX1_mark 1 = .ok (.iconst 0, 1) := dk_3 (dk_at dksX1_mark_0 1 rfl rfl)
theorem dX1_mark_2 : decode cX1_mark 2 = .ok (.iconst 3, 1) := dk_6 (dk_at dksX1_mark_0 2 rfl rfl)
theorem dX1_mark_3 : decode cX1_mark 3 = .ok (.invokestatic 137, 3) := dk_184 0 137 (dk_at dksX1_mark_0 3 rfl rfl)
theorem dX1_mark_6 : decode cX1_mark 6 = .ok (.ifCond .eq 16, 3) := dk_153 0 16 (dk_at dksX1_mark_0 6 rfl rfl)
theorem dX1_mark_9 : decode cX1_mark 9 = .ok (.iload_n 2, 1) := dk_28 (dk_at dksX1_mark_0 9 rfl rfl)
theorem dX1_mark_10 : decode cX1_mark 10 = .ok (.ifCond .eq 14, 3) := dk_153 0 14 (dk_at dksX1_mark_0 10 rfl rfl)
theorem dX1_mark_13 : decode cX1_mark 13 = .ok (.aload_n 0, 1) := dk_42 (dk_at dksX1_mark_0 13 rfl rfl)
theorem dX1_mark_14 : decode cX1_mark 14 = .ok (.getfield 92, 3) := dk_180 0 92 (dk_at dksX1_mark_0 14 rfl rfl)
theorem dX1_mark_17 : decode cX1_mark 17 = .ok (.iload_n 1, 1) := dk_27 (dk_at dksX1_mark_0 17 rfl rfl)
theorem dX1_mark_18 : decode cX1_mark 18 = .ok (.aaload, 1) := dk_50 (dk_at dksX1_mark_0 18 rfl rfl)
theorem dX1_mark_19 : decode cX1_mark 19 = .ok (.ifnonnull 5, 3) := dk_199 0 5 (dk_at dksX1_mark_0 19 rfl rfl)
theorem dX1_mark_22 : decode cX1_mark 22 = .ok (.iconst 0, 1) := dk_3 (dk_at dksX1_mark_0 22 rfl rfl)
theorem dX1_mark_23 : decode cX1_mark 23 = .ok (.ireturn, 1) := dk_172 (dk_at dksX1_mark_0 23 rfl rfl)
theorem dX1_mark_24 : decode cX1_mark 24 = .ok (.iload_n 2, 1) := dk_28 (dk_at dksX1_mark_1 0 rfl rfl)
theorem dX1_mark_25 : decode cX1_mark 25 = .ok (.ifCond .ne 43, 3) := dk_154 0 43 (dk_at dksX1_mark_1 1 rfl rfl)
theorem dX1_mark_28 : decode cX1_mark 28 = .ok (.aload_n 0, 1) := dk_42 (dk_at dksX1_mark_1 4 rfl rfl)
theorem dX1_mark_29 : decode cX1_mark 29 = .ok (.getfield 92, 3) := dk_180 0 92 (dk_at dksX1_mark_1 5 rfl rfl)
theorem dX1_mark_32 : decode cX1_mark 32 = .ok (.iload_n 1, 1) := dk_27 (dk_at dksX1_mark_1 8 rfl rfl)
theorem dX1_mark_33 : decode cX1_mark 33 = .ok (.new 90, 3) := dk_187 0 90 (dk_at dksX1_mark_1 9 rfl rfl)
theorem dX1_mark_36 : decode cX1_mark 36 = .ok (.dup, 1) := dk_89 (dk_at dksX1_mark_1 12 rfl rfl)
theorem dX1_mark_37 : decode cX1_mark 37 = .ok (.aload_n 0, 1) := dk_42 (dk_at dksX1_mark_1 13 rfl rfl)
theorem dX1_mark_38 : decode cX1_mark 38 = .ok (.getfield 40, 3) := dk_180 0 40 (dk_at dksX1_mark_1 14 rfl rfl)
theorem dX1_mark_41 : decode cX1_mark 41 = .ok (.invokevirtual 228, 3) := dk_182 0 228 (dk_at dksX1_mark_1 17 rfl rfl)
theorem dX1_mark_44 : decode cX1_mark 44 = .ok (.aload_n 0, 1) := dk_42 (dk_at dksX1_mark_1 20 rfl rfl)
theorem dX1_mark_45 : decode cX1_mark 45 = .ok (.getfield 52, 3) := dk_180 0 52 (dk_at dksX1_mark_1 21 rfl rfl)
theorem dX1_mark_48 : decode cX1_mark 48 = .ok (.aload_n 0, 1) := dk_42 (dk_at dksX1_mark_2 0 rfl rfl)
theorem dX1_mark_49 : decode cX1_mark 49 = .ok (.getfield 56, 3) := dk_180 0 56 (dk_at dksX1_mark_2 1 rfl rfl)
theorem dX1_mark_52 : decode cX1_mark 52 = .ok (.invokestatic 392, 3) := dk_184 1 136 (dk_at dksX1_mark_2 4 rfl rfl)
theorem dX1_mark_55 : decode cX1_mark 55 = .ok (.aload_n 0, 1) := dk_42 (dk_at dksX1_mark_2 7 rfl rfl)
theorem dX1_mark_56 : decode cX1_mark 56 = .ok (.getfield 60, 3) := dk_180 0 60 (dk_at dksX1_mark_2 8 rfl rfl)
theorem dX1_mark_59 : decode cX1_mark 59 = .ok (.invokestatic 395, 3) := dk_184 1 139 (dk_at dksX1_mark_2 11 rfl rfl)
theorem dX1_mark_62 : decode cX1_mark 62 = .ok (.invokespecial 398, 3) := dk_183 1 142 (dk_at dksX1_mark_2 14 rfl rfl)
theorem dX1_mark_65 : decode cX1_mark 65 = .ok (.aastore, 1) := dk_83 (dk_at dksX1_mark_2 17 rfl rfl)
theorem dX1_mark_66 : decode cX1_mark 66 = .ok (.iconst 1, 1) := dk_4 (dk_at dksX1_mark_2 18 rfl rfl)
theorem dX1_mark_67 : decode cX1_mark 67 = .ok (.ireturn, 1) := dk_172 (dk_at dksX1_mark_2 19 rfl rfl)
theorem dX1_mark_68 : decode cX1_mark 68 = .ok (.aload_n 0, 1) := dk_42 (dk_at dksX1_mark_2 20 rfl rfl)
theorem dX1_mark_69 : decode cX1_mark 69 = .ok (.aload_n 0, 1) := dk_42 (dk_at dksX1_mark_2 21 rfl rfl)
theorem dX1_mark_70 : decode cX1_mark 70 = .ok (.getfield 92, 3) := dk_180 0 92 (dk_at dksX1_mark_3 0 rfl rfl)
theorem dX1_mark_73 : decode cX1_mark 73 = .ok (.iload_n 1, 1) := dk_27 (dk_at dksX1_mark_3 3 rfl rfl)
theorem dX1_mark_74 : decode cX1_mark 74 = .ok (.aaload, 1) := dk_50 (dk_at dksX1_mark_3 4 rfl rfl)
theorem dX1_mark_75 : decode cX1_mark 75 = .ok (.getfield 401, 3) := dk_180 1 145 (dk_at dksX1_mark_3 5 rfl rfl)
theorem dX1_mark_78 : decode cX1_mark 78 = .ok (.invokevirtual 228, 3) := dk_182 0 228 (dk_at dksX1_mark_3 8 rfl rfl)
theorem dX1_mark_81 : decode cX1_mark 81 = .ok (.putfield 40, 3) := dk_181 0 40 (dk_at dksX1_mark_3 11 rfl rfl)
theorem dX1_mark_84 : decode cX1_mark 84 = .ok (.aload_n 0, 1) := dk_42 (dk_at dksX1_mark_3 14 rfl rfl)
theorem dX1_mark_85 : decode cX1_mark 85 = .ok (.aload_n 0, 1) := dk_42 (dk_at dksX1_mark_3 15 rfl rfl)
theorem dX1_mark_86 : decode cX1_mark 86 = .ok (.getfield 92, 3) := dk_180 0 92 (dk_at dksX1_mark_3 16 rfl rfl)
theorem dX1_mark_89 : decode cX1_mark 89 = .ok (.iload_n 1, 1) := dk_27 (dk_at dksX1_mark_3 19 rfl rfl)
theorem dX1_mark_90 : decode cX1_mark 90 = .ok (.aaload, 1) := dk_50 (dk_at dksX1_mark_3 20 rfl rfl)
theorem dX1_mark_91 : decode cX1_mark 91 = .ok (.getfield 402, 3) := dk_180 1 146 (dk_at dksX1_mark_3 21 rfl rfl)
theorem dX1_mark_94 : decode cX1_mark 94 = .ok (.putfield 52, 3) := dk_181 0 52 (dk_at dksX1_mark_4 0 rfl rfl)
theorem dX1_mark_97 : decode cX1_mark 97 = .ok (.aload_n 0, 1) := dk_42 (dk_at dksX1_mark_4 3 rfl rfl)
theorem dX1_mark_98 : decode cX1_mark 98 = .ok (.aload_n 0, 1) := dk_42 (dk_at dksX1_mark_4 4 rfl rfl)
theorem dX1_mark_99 : decode cX1_mark 99 = .ok (.getfield 92, 3) := dk_180 0 92 (dk_at dksX1_mark_4 5 rfl rfl)
theorem dX1_mark_102 : decode cX1_mark 102 = .ok (.iload_n 1, 1) := dk_27 (dk_at dksX1_mark_4 8 rfl rfl)
theorem dX1_mark_103 : decode cX1_mark 103 = .ok (.aaload, 1) := dk_50 (dk_at dksX1_mark_4 9 rfl rfl)
theorem dX1_mark_104 : decode cX1_mark 104 = .ok (.getfield 403, 3) := dk_180 1 147 (dk_at dksX1_mark_4 10 rfl rfl)
theorem dX1_mark_107 : decode cX1_mark 107 = .ok (.invokestatic 392, 3) := dk_184 1 136 (dk_at dksX1_mark_4 13 rfl rfl)
theorem dX1_mark_110 : decode cX1_mark 110 = .ok (.putfield 56, 3) := dk_181 0 56 (dk_at dksX1_mark_4 16 rfl rfl)
theorem dX1_mark_113 : decode cX1_mark 113 = .ok (.aload_n 0, 1) := dk_42 (dk_at dksX1_mark_4 19 rfl rfl)
theorem dX1_mark_114 : decode cX1_mark 114 = .ok (.aload_n 0, 1) := dk_42 (dk_at dksX1_mark_4 20 rfl rfl)
theorem dX1_mark_115 : decode cX1_mark 115 = .ok (.getfield 92, 3) := dk_180 0 92 (dk_at dksX1_mark_4 21 rfl rfl)
theorem dX1_mark_118 : decode cX1_mark 118 = .ok (.iload_n 1, 1) := dk_27 (dk_at dksX1_mark_5 0 rfl rfl)
theorem dX1_mark_119 : decode cX1_mark 119 = .ok (.aaload, 1) := dk_50 (dk_at dksX1_mark_5 1 rfl rfl)
theorem dX1_mark_120 : decode cX1_mark 120 = .ok (.getfield 404, 3) := dk_180 1 148 (dk_at dksX1_mark_5 2 rfl rfl)
theorem dX1_mark_123 : decode cX1_mark 123 = .ok (.invokestatic 395, 3) := dk_184 1 139 (dk_at dksX1_mark_5 5 rfl rfl)
theorem dX1_mark_126 : decode cX1_mark 126 = .ok (.putfield 60, 3) := dk_181 0 60 (dk_at dksX1_mark_5 8 rfl rfl)
theorem dX1_mark_129 : decode cX1_mark 129 = .ok (.aload_n 0, 1) := dk_42 (dk_at dksX1_mark_5 11 rfl rfl)
theorem dX1_mark_130 : decode cX1_mark 130 = .ok (.getfield 64, 3) := dk_180 0 64 (dk_at dksX1_mark_5 12 rfl rfl)
theorem dX1_mark_133 : decode cX1_mark 133 = .ok (.invokevirtual 108, 3) := dk_182 0 108 (dk_at dksX1_mark_5 15 rfl rfl)
theorem dX1_mark_136 : decode cX1_mark 136 = .ok (.iconst 1, 1) := dk_4 (dk_at dksX1_mark_5 18 rfl rfl)
theorem dX1_mark_137 : decode cX1_mark 137 = .ok (.ireturn, 1) := dk_172 (dk_at dksX1_mark_5 19 rfl rfl)
abbrev cX1_copied : ByteArray := prog_1_method_48_code
def yX1_copied : MethodName := ⟨RX1, "copied", "([I)[I"⟩
def dkwX1_copied_0 : List UInt8 := [42, 190, 188, 10, 76, 42, 3, 43, 3, 42, 190, 184, 1, 130, 43, 176]
abbrev dktX1_copied_0 : List UInt8 := dkwX1_copied_0 ++ []
theorem dksX1_copied_0 : cX1_copied.data.toList.drop 0 = dktX1_copied_0 := by decide +kernel
theorem dX1_copied_0 : decode cX1_copied 0 = .ok (.aload_n 0, 1) := dk_42 (dk_at dksX1_copied_0 0 rfl rfl)
theorem dX1_copied_1 : decode cX1_copied 1 = .ok (.arraylength, 1) := dk_190 (dk_at dksX1_copied_0 1 rfl rfl)
theorem dX1_copied_2 : decode cX1_copied 2 = .ok (.newarray .int, 2) := dk_188_10 (dk_at dksX1_copied_0 2 rfl rfl)
theorem dX1_copied_4 : decode cX1_copied 4 = .ok (.astore_n 1, 1) := dk_76 (dk_at dksX1_copied_0 4 rfl rfl)
theorem dX1_copied_5 : decode cX1_copied 5 = .ok (.aload_n 0, 1) := dk_42 (dk_at dksX1_copied_0 5 rfl rfl)
theorem dX1_copied_6 : decode cX1_copied 6 = .ok (.iconst 0, 1) := dk_3 (dk_at dksX1_copied_0 6 rfl rfl)
theorem dX1_copied_7 : decode cX1_copied 7 = .ok (.aload_n 1, 1) := dk_43 (dk_at dksX1_copied_0 7 rfl rfl)
theorem dX1_copied_8 : decode cX1_copied 8 = .ok (.iconst 0, 1) := dk_3 (dk_at dksX1_copied_0 8 rfl rfl)
theorem dX1_copied_9 : decode cX1_copied 9 = .ok (.aload_n 0, 1) := dk_42 (dk_at dksX1_copied_0 9 rfl rfl)
theorem dX1_copied_10 : decode cX1_copied 10 = .ok (.arraylength, 1) := dk_190 (dk_at dksX1_copied_0 10 rfl rfl)
theorem dX1_copied_11 : decode cX1_copied 11 = .ok (.invokestatic 386, 3) := dk_184 1 130 (dk_at dksX1_copied_0 11 rfl rfl)
theorem dX1_copied_14 : decode cX1_copied 14 = .ok (.aload_n 1, 1) := dk_43 (dk_at dksX1_copied_0 14 rfl rfl)
theorem dX1_copied_15 : decode cX1_copied 15 = .ok (.areturn, 1) := dk_176 (dk_at dksX1_copied_0 15 rfl rfl)
abbrev cX1_copied_2 : ByteArray := prog_1_method_47_code
def yX1_copied_2 : MethodName := ⟨RX1, "copied", "(Ljava/util/ArrayList;)Ljava/util/ArrayList;"⟩
def dkwX1_copied_2_1 : List UInt8 := [182, 0, 150, 192, 1, 53, 182, 0, 232, 87, 132, 2, 1, 167, 255, 232, 43, 176]
abbrev dktX1_copied_2_1 : List UInt8 := dkwX1_copied_2_1 ++ []
def dkwX1_copied_2_0 : List UInt8 := [187, 0, 47, 89, 5, 183, 0, 49, 76, 3, 61, 28, 42, 182, 0, 128, 162, 0, 22, 43, 42, 28]
abbrev dktX1_copied_2_0 : List UInt8 := dkwX1_copied_2_0 ++ dktX1_copied_2_1
theorem dksX1_copied_2_0 : cX1_copied_2.data.toList.drop 0 = dktX1_copied_2_0 := by decide +kernel
theorem dksX1_copied_2_1 : cX1_copied_2.data.toList.drop 22 = dktX1_copied_2_1 := dk_seg dksX1_copied_2_0 22 rfl rfl
theorem dX1_copied_2_0 : decode cX1_copied_2 0 = .ok (.new 47, 3) := dk_187 0 47 (dk_at dksX1_copied_2_0 0 rfl rfl)
theorem dX1_copied_2_3 : decode cX1_copied_2 3 = .ok (.dup, 1) := dk_89 (dk_at dksX1_copied_2_0 3 rfl rfl)
theorem dX1_copied_2_4 : decode cX1_copied_2 4 = .ok (.iconst 2, 1) := dk_5 (dk_at dksX1_copied_2_0 4 rfl rfl)
theorem dX1_copied_2_5 : decode cX1_copied_2 5 = .ok (.invokespecial 49, 3) := dk_183 0 49 (dk_at dksX1_copied_2_0 5 rfl rfl)
theorem dX1_copied_2_8 : decode cX1_copied_2 8 = .ok (.astore_n 1, 1) := dk_76 (dk_at dksX1_copied_2_0 8 rfl rfl)
theorem dX1_copied_2_9 : decode cX1_copied_2 9 = .ok (.iconst 0, 1) := dk_3 (dk_at dksX1_copied_2_0 9 rfl rfl)
theorem dX1_copied_2_10 : decode cX1_copied_2 10 = .ok (.istore_n 2, 1) := dk_61 (dk_at dksX1_copied_2_0 10 rfl rfl)
theorem dX1_copied_2_11 : decode cX1_copied_2 11 = .ok (.iload_n 2, 1) := dk_28 (dk_at dksX1_copied_2_0 11 rfl rfl)
theorem dX1_copied_2_12 : decode cX1_copied_2 12 = .ok (.aload_n 0, 1) := dk_42 (dk_at dksX1_copied_2_0 12 rfl rfl)
theorem dX1_copied_2_13 : decode cX1_copied_2 13 = .ok (.invokevirtual 128, 3) := dk_182 0 128 (dk_at dksX1_copied_2_0 13 rfl rfl)
theorem dX1_copied_2_16 : decode cX1_copied_2 16 = .ok (.if_icmp .ge 22, 3) := dk_162 0 22 (dk_at dksX1_copied_2_0 16 rfl rfl)
theorem dX1_copied_2_19 : decode cX1_copied_2 19 = .ok (.aload_n 1, 1) := dk_43 (dk_at dksX1_copied_2_0 19 rfl rfl)
theorem dX1_copied_2_20 : decode cX1_copied_2 20 = .ok (.aload_n 0, 1) := dk_42 (dk_at dksX1_copied_2_0 20 rfl rfl)
theorem dX1_copied_2_21 : decode cX1_copied_2 21 = .ok (.iload_n 2, 1) := dk_28 (dk_at dksX1_copied_2_0 21 rfl rfl)
theorem dX1_copied_2_22 : decode cX1_copied_2 22 = .ok (.invokevirtual 150, 3) := dk_182 0 150 (dk_at dksX1_copied_2_1 0 rfl rfl)
theorem dX1_copied_2_25 : decode cX1_copied_2 25 = .ok (.checkcast 309, 3) := dk_192 1 53 (dk_at dksX1_copied_2_1 3 rfl rfl)
theorem dX1_copied_2_28 : decode cX1_copied_2 28 = .ok (.invokevirtual 232, 3) := dk_182 0 232 (dk_at dksX1_copied_2_1 6 rfl rfl)
theorem dX1_copied_2_31 : decode cX1_copied_2 31 = .ok (.pop, 1) := dk_87 (dk_at dksX1_copied_2_1 9 rfl rfl)
theorem dX1_copied_2_32 : decode cX1_copied_2 32 = .ok (.iinc 2 1, 3) := dk_132 2 1 (dk_at dksX1_copied_2_1 10 rfl rfl)
theorem dX1_copied_2_35 : decode cX1_copied_2 35 = .ok (.goto (-24), 3) := dk_167 255 232 (dk_at dksX1_copied_2_1 13 rfl rfl)
theorem dX1_copied_2_38 : decode cX1_copied_2 38 = .ok (.aload_n 1, 1) := dk_43 (dk_at dksX1_copied_2_1 16 rfl rfl)
theorem dX1_copied_2_39 : decode cX1_copied_2 39 = .ok (.areturn, 1) := dk_176 (dk_at dksX1_copied_2_1 17 rfl rfl)
abbrev cX1_count : ByteArray := prog_1_method_50_code
def yX1_count : MethodName := ⟨RX1, "count", "(I)I"⟩
def dkwX1_count_8 : List UInt8 := [153, 0, 7, 4, 167, 0, 4, 3, 172, 2, 172]
abbrev dktX1_count_8 : List UInt8 := dkwX1_count_8 ++ []
def dkwX1_count_7 : List UInt8 := [180, 0, 64, 182, 0, 128, 172, 42, 180, 0, 26, 180, 0, 100, 172, 42, 180, 0, 40, 180, 1, 149]
abbrev dktX1_count_7 : List UInt8 := dkwX1_count_7 ++ dktX1_count_8
def dkwX1_count_6 : List UInt8 := [4, 182, 1, 32, 42, 5, 182, 1, 32, 128, 184, 1, 127, 172, 42, 180, 0, 60, 182, 0, 128, 172, 42]
abbrev dktX1_count_6 : List UInt8 := dkwX1_count_6 ++ dktX1_count_7
def dkwX1_count_5 : List UInt8 := [180, 0, 40, 180, 0, 184, 172, 42, 180, 0, 40, 180, 1, 14, 172, 42, 180, 0, 52, 182, 0, 128, 172, 42]
abbrev dktX1_count_5 : List UInt8 := dkwX1_count_5 ++ dktX1_count_6
def dkwX1_count_4 : List UInt8 := [182, 0, 116, 180, 1, 96, 182, 0, 128, 172, 42, 180, 0, 40, 180, 1, 0, 184, 1, 127, 172, 42]
abbrev dktX1_count_4 : List UInt8 := dkwX1_count_4 ++ dktX1_count_5
def dkwX1_count_3 : List UInt8 := [182, 0, 116, 180, 1, 58, 182, 0, 128, 172, 42, 182, 0, 116, 180, 1, 73, 182, 0, 128, 172, 42]
abbrev dktX1_count_3 : List UInt8 := dkwX1_count_3 ++ dktX1_count_4
def dkwX1_count_2 : List UInt8 := [42, 182, 0, 135, 172, 42, 182, 0, 141, 172, 42, 182, 0, 116, 180, 0, 143, 182, 0, 128, 172, 42]
abbrev dktX1_count_2 : List UInt8 := dkwX1_count_2 ++ dktX1_count_3
def dkwX1_count_1 : List UInt8 := [170, 0, 0, 0, 0, 0, 219, 0, 0, 0, 0, 0, 0, 0, 14, 0, 0, 0, 75, 0, 0, 0, 80, 0, 0, 0, 85, 0, 0, 0, 96, 0, 0, 0, 107, 0, 0, 0, 118, 0, 0, 0, 129, 0, 0, 0, 140, 0, 0, 0, 148, 0, 0, 0, 156, 0, 0, 0, 164, 0, 0, 0, 179, 0, 0, 0, 187, 0, 0, 0, 195, 0, 0, 0, 203]
abbrev dktX1_count_1 : List UInt8 := dkwX1_count_1 ++ dktX1_count_2
def dkwX1_count_0 : List UInt8 := [27]
abbrev dktX1_count_0 : List UInt8 := dkwX1_count_0 ++ dktX1_count_1
theorem dksX1_count_0 : cX1_count.data.toList.drop 0 = dktX1_count_0 := by decide +kernel
theorem dksX1_count_1 : cX1_count.data.toList.drop 1 = dktX1_count_1 := dk_seg dksX1_count_0 1 rfl rfl
theorem dksX1_count_2 : cX1_count.data.toList.drop 76 = dktX1_count_2 := dk_seg dksX1_count_1 75 rfl rfl
theorem dksX1_count_3 : cX1_count.data.toList.drop 98 = dktX1_count_3 := dk_seg dksX1_count_2 22 rfl rfl
theorem dksX1_count_4 : cX1_count.data.toList.drop 120 = dktX1_count_4 := dk_seg dksX1_count_3 22 rfl rfl
theorem dksX1_count_5 : cX1_count.data.toList.drop 142 = dktX1_count_5 := dk_seg dksX1_count_4 22 rfl rfl
theorem dksX1_count_6 : cX1_count.data.toList.drop 166 = dktX1_count_6 := dk_seg dksX1_count_5 24 rfl rfl
theorem dksX1_count_7 : cX1_count.data.toList.drop 189 = dktX1_count_7 := dk_seg dksX1_count_6 23 rfl rfl
theorem dksX1_count_8 : cX1_count.data.toList.drop 211 = dktX1_count_8 := dk_seg dksX1_count_7 22 rfl rfl
theorem dX1_count_0 : decode cX1_count 0 = .ok (.iload_n 1, 1) := dk_27 (dk_at dksX1_count_0 0 rfl rfl)
theorem dX1_count_1 : decode cX1_count 1 = .ok (.tableswitch 219 0 14 #[75, 80, 85, 96, 107, 118, 129, 140, 148, 156, 164, 179, 187, 195, 203], 75) := by decide +kernel
theorem dX1_count_76 : decode cX1_count 76 = .ok (.aload_n 0, 1) := dk_42 (dk_at dksX1_count_2 0 rfl rfl)
theorem dX1_count_77 : decode cX1_count 77 = .ok (.invokevirtual 135, 3) := dk_182 0 135 (dk_at dksX1_count_2 1 rfl rfl)
theorem dX1_count_80 : decode cX1_count 80 = .ok (.ireturn, 1) := dk_172 (dk_at dksX1_count_2 4 rfl rfl)
theorem dX1_count_81 : decode cX1_count 81 = .ok (.aload_n 0, 1) := dk_42 (dk_at dksX1_count_2 5 rfl rfl)
theorem dX1_count_82 : decode cX1_count 82 = .ok (.invokevirtual 141, 3) := dk_182 0 141 (dk_at dksX1_count_2 6 rfl rfl)
theorem dX1_count_85 : decode cX1_count 85 = .ok (.ireturn, 1) := dk_172 (dk_at dksX1_count_2 9 rfl rfl)
theorem dX1_count_86 : decode cX1_count 86 = .ok (.aload_n 0, 1) := dk_42 (dk_at dksX1_count_2 10 rfl rfl)
theorem dX1_count_87 : decode cX1_count 87 = .ok (.invokevirtual 116, 3) := dk_182 0 116 (dk_at dksX1_count_2 11 rfl rfl)
theorem dX1_count_90 : decode cX1_count 90 = .ok (.getfield 143, 3) := dk_180 0 143 (dk_at dksX1_count_2 14 rfl rfl)
theorem dX1_count_93 : decode cX1_count 93 = .ok (.invokevirtual 128, 3) := dk_182 0 128 (dk_at dksX1_count_2 17 rfl rfl)
theorem dX1_count_96 : decode cX1_count 96 = .ok (.ireturn, 1) := dk_172 (dk_at dksX1_count_2 20 rfl rfl)
theorem dX1_count_97 : decode cX1_count 97 = .ok (.aload_n 0, 1) := dk_42 (dk_at dksX1_count_2 21 rfl rfl)
theorem dX1_count_98 : decode cX1_count 98 = .ok (.invokevirtual 116, 3) := dk_182 0 116 (dk_at dksX1_count_3 0 rfl rfl)
theorem dX1_count_101 : decode cX1_count 101 = .ok (.getfield 314, 3) := dk_180 1 58 (dk_at dksX1_count_3 3 rfl rfl)
theorem dX1_count_104 : decode cX1_count 104 = .ok (.invokevirtual 128, 3) := dk_182 0 128 (dk_at dksX1_count_3 6 rfl rfl)
theorem dX1_count_107 : decode cX1_count 107 = .ok (.ireturn, 1) := dk_172 (dk_at dksX1_count_3 9 rfl rfl)
theorem dX1_count_108 : decode cX1_count 108 = .ok (.aload_n 0, 1) := dk_42 (dk_at dksX1_count_3 10 rfl rfl)
theorem dX1_count_109 : decode cX1_count 109 = .ok (.invokevirtual 116, 3) := dk_182 0 116 (dk_at dksX1_count_3 11 rfl rfl)
theorem dX1_count_112 : decode cX1_count 112 = .ok (.getfield 329, 3) := dk_180 1 73 (dk_at dksX1_count_3 14 rfl rfl)
theorem dX1_count_115 : decode cX1_count 115 = .ok (.invokevirtual 128, 3) := dk_182 0 128 (dk_at dksX1_count_3 17 rfl rfl)
theorem dX1_count_118 : decode cX1_count 118 = .ok (.ireturn, 1) := dk_172 (dk_at dksX1_count_3 20 rfl rfl)
theorem dX1_count_119 : decode cX1_count 119 = .ok (.aload_n 0, 1) := dk_42 (dk_at dksX1_count_3 21 rfl rfl)
theorem dX1_count_120 : decode cX1_count 120 = .ok (.invokevirtual 116, 3) := dk_182 0 116 (dk_at dksX1_count_4 0 rfl rfl)
theorem dX1_count_123 : decode cX1_count 123 = .ok (.getfield 352, 3) := dk_180 1 96 (dk_at dksX1_count_4 3 rfl rfl)
theorem dX1_count_126 : decode cX1_count 126 = .ok (.invokevirtual 128, 3) := dk_182 0 128 (dk_at dksX1_count_4 6 rfl rfl)
theorem dX1_count_129 : decode cX1_count 129 = .ok (.ireturn, 1) := dk_172 (dk_at dksX1_count_4 9 rfl rfl)
theorem dX1_count_130 : decode cX1_count 130 = .ok (.aload_n 0, 1) := dk_42 (dk_at dksX1_count_4 10 rfl rfl)
theorem dX1_count_131 : decode cX1_count 131 = .ok (.getfield 40, 3) := dk_180 0 40 (dk_at dksX1_count_4 11 rfl rfl)
theorem dX1_count_134 : decode cX1_count 134 = .ok (.getfield 256, 3) := dk_180 1 0 (dk_at dksX1_count_4 14 rfl rfl)
theorem dX1_count_137 : decode cX1_count 137 = .ok (.invokestatic 383, 3) := dk_184 1 127 (dk_at dksX1_count_4 17 rfl rfl)
theorem dX1_count_140 : decode cX1_count 140 = .ok (.ireturn, 1) := dk_172 (dk_at dksX1_count_4 20 rfl rfl)
theorem dX1_count_141 : decode cX1_count 141 = .ok (.aload_n 0, 1) := dk_42 (dk_at dksX1_count_4 21 rfl rfl)
theorem dX1_count_142 : decode cX1_count 142 = .ok (.getfield 40, 3) := dk_180 0 40 (dk_at dksX1_count_5 0 rfl rfl)
theorem dX1_count_145 : decode cX1_count 145 = .ok (.getfield 184, 3) := dk_180 0 184 (dk_at dksX1_count_5 3 rfl rfl)
theorem dX1_count_148 : decode cX1_count 148 = .ok (.ireturn, 1) := dk_172 (dk_at dksX1_count_5 6 rfl rfl)
theorem dX1_count_149 : decode cX1_count 149 = .ok (.aload_n 0, 1) := dk_42 (dk_at dksX1_count_5 7 rfl rfl)
theorem dX1_count_150 : decode cX1_count 150 = .ok (.getfield 40, 3) := dk_180 0 40 (dk_at dksX1_count_5 8 rfl rfl)
theorem dX1_count_153 : decode cX1_count 153 = .ok (.getfield 270, 3) := dk_180 1 14 (dk_at dksX1_count_5 11 rfl rfl)
theorem dX1_count_156 : decode cX1_count 156 = .ok (.ireturn, 1) := dk_172 (dk_at dksX1_count_5 14 rfl rfl)
theorem dX1_count_157 : decode cX1_count 157 = .ok (.aload_n 0, 1) := dk_42 (dk_at dksX1_count_5 15 rfl rfl)
theorem dX1_count_158 : decode cX1_count 158 = .ok (.getfield 52, 3) := dk_180 0 52 (dk_at dksX1_count_5 16 rfl rfl)
theorem dX1_count_161 : decode cX1_count 161 = .ok (.invokevirtual 128, 3) := dk_182 0 128 (dk_at dksX1_count_5 19 rfl rfl)
theorem dX1_count_164 : decode cX1_count 164 = .ok (.ireturn, 1) := dk_172 (dk_at dksX1_count_5 22 rfl rfl)
theorem dX1_count_165 : decode cX1_count 165 = .ok (.aload_n 0, 1) := dk_42 (dk_at dksX1_count_5 23 rfl rfl)
theorem dX1_count_166 : decode cX1_count 166 = .ok (.iconst 1, 1) := dk_4 (dk_at dksX1_count_6 0 rfl rfl)
theorem dX1_count_167 : decode cX1_count 167 = .ok (.invokevirtual 288, 3) := dk_182 1 32 (dk_at dksX1_count_6 1 rfl rfl)
theorem dX1_count_170 : decode cX1_count 170 = .ok (.aload_n 0, 1) := dk_42 (dk_at dksX1_count_6 4 rfl rfl)
theorem dX1_count_171 : decode cX1_count 171 = .ok (.iconst 2, 1) := dk_5 (dk_at dksX1_count_6 5 rfl rfl)
theorem dX1_count_172 : decode cX1_count 172 = .ok (.invokevirtual 288, 3) := dk_182 1 32 (dk_at dksX1_count_6 6 rfl rfl)
theorem dX1_count_175 : decode cX1_count 175 = .ok (.ior, 1) := dk_128 (dk_at dksX1_count_6 9 rfl rfl)
theorem dX1_count_176 : decode cX1_count 176 = .ok (.invokestatic 383, 3) := dk_184 1 127 (dk_at dksX1_count_6 10 rfl rfl)
theorem dX1_count_179 : decode cX1_count 179 = .ok (.ireturn, 1) := dk_172 (dk_at dksX1_count_6 13 rfl rfl)
theorem dX1_count_180 : decode cX1_count 180 = .ok (.aload_n 0, 1) := dk_42 (dk_at dksX1_count_6 14 rfl rfl)
theorem dX1_count_181 : decode cX1_count 181 = .ok (.getfield 60, 3) := dk_180 0 60 (dk_at dksX1_count_6 15 rfl rfl)
theorem dX1_count_184 : decode cX1_count 184 = .ok (.invokevirtual 128, 3) := dk_182 0 128 (dk_at dksX1_count_6 18 rfl rfl)
theorem dX1_count_187 : decode cX1_count 187 = .ok (.ireturn, 1) := dk_172 (dk_at dksX1_count_6 21 rfl rfl)
theorem dX1_count_188 : decode cX1_count 188 = .ok (.aload_n 0, 1) := dk_42 (dk_at dksX1_count_6 22 rfl rfl)
theorem dX1_count_189 : decode cX1_count 189 = .ok (.getfield 64, 3) := dk_180 0 64 (dk_at dksX1_count_7 0 rfl rfl)
theorem dX1_count_192 : decode cX1_count 192 = .ok (.invokevirtual 128, 3) := dk_182 0 128 (dk_at dksX1_count_7 3 rfl rfl)
theorem dX1_count_195 : decode cX1_count 195 = .ok (.ireturn, 1) := dk_172 (dk_at dksX1_count_7 6 rfl rfl)
theorem dX1_count_196 : decode cX1_count 196 = .ok (.aload_n 0, 1) := dk_42 (dk_at dksX1_count_7 7 rfl rfl)
theorem dX1_count_197 : decode cX1_count 197 = .ok (.getfield 26, 3) := dk_180 0 26 (dk_at dksX1_count_7 8 rfl rfl)
theorem dX1_count_200 : decode cX1_count 200 = .ok (.getfield 100, 3) := dk_180 0 100 (dk_at dksX1_count_7 11 rfl rfl)
theorem dX1_count_203 : decode cX1_count 203 = .ok (.ireturn, 1) := dk_172 (dk_at dksX1_count_7 14 rfl rfl)
theorem dX1_count_204 : decode cX1_count 204 = .ok (.aload_n 0, 1) := dk_42 (dk_at dksX1_count_7 15 rfl rfl)
theorem dX1_count_205 : decode cX1_count 205 = .ok (.getfield 40, 3) := dk_180 0 40 (dk_at dksX1_count_7 16 rfl rfl)
theorem dX1_count_208 : decode cX1_count 208 = .ok (.getfield 405, 3) := dk_180 1 149 (dk_at dksX1_count_7 19 rfl rfl)
theorem dX1_count_211 : decode cX1_count 211 = .ok (.ifCond .eq 7, 3) := dk_153 0 7 (dk_at dksX1_count_8 0 rfl rfl)
theorem dX1_count_214 : decode cX1_count 214 = .ok (.iconst 1, 1) := dk_4 (dk_at dksX1_count_8 3 rfl rfl)
theorem dX1_count_215 : decode cX1_count 215 = .ok (.goto 4, 3) := dk_167 0 4 (dk_at dksX1_count_8 4 rfl rfl)
theorem dX1_count_218 : decode cX1_count 218 = .ok (.iconst 0, 1) := dk_3 (dk_at dksX1_count_8 7 rfl rfl)
theorem dX1_count_219 : decode cX1_count 219 = .ok (.ireturn, 1) := dk_172 (dk_at dksX1_count_8 8 rfl rfl)
theorem dX1_count_220 : decode cX1_count 220 = .ok (.iconst (-1), 1) := dk_2 (dk_at dksX1_count_8 9 rfl rfl)
theorem dX1_count_221 : decode cX1_count 221 = .ok (.ireturn, 1) := dk_172 (dk_at dksX1_count_8 10 rfl rfl)
abbrev cX1_thief : ByteArray := prog_1_method_41_code
def yX1_thief : MethodName := ⟨RX1, "thief", "(III)I"⟩
def dkwX1_thief_1 : List UInt8 := [184, 1, 84, 154, 0, 11, 187, 1, 87, 89, 183, 1, 89, 191, 42, 27, 28, 29, 182, 1, 90, 172]
abbrev dktX1_thief_1 : List UInt8 := dkwX1_thief_1 ++ []
def dkwX1_thief_0 : List UInt8 := [27, 3, 42, 182, 0, 116, 180, 1, 73, 182, 0, 128, 4, 100, 184, 0, 137, 153, 0, 11, 28, 29]
abbrev dktX1_thief_0 : List UInt8 := dkwX1_thief_0 ++ dktX1_thief_1
theorem dksX1_thief_0 : cX1_thief.data.toList.drop 0 = dktX1_thief_0 := by decide +kernel
theorem dksX1_thief_1 : cX1_thief.data.toList.drop 22 = dktX1_thief_1 := dk_seg dksX1_thief_0 22 rfl rfl
theorem dX1_thief_0 : decode cX1_thief 0 = .ok (.iload_n 1, 1) := dk_27 (dk_at dksX1_thief_0 0 rfl rfl)
theorem dX1_thief_1 : decode cX1_thief 1 = .ok (.iconst 0, 1) := dk_3 (dk_at dksX1_thief_0 1 rfl rfl)
theorem dX1_thief_2 : decode cX1_thief 2 = .ok (.aload_n 0, 1) := dk_42 (dk_at dksX1_thief_0 2 rfl rfl)
theorem dX1_thief_3 : decode cX1_thief 3 = .ok (.invokevirtual 116, 3) := dk_182 0 116 (dk_at dksX1_thief_0 3 rfl rfl)
theorem dX1_thief_6 : decode cX1_thief 6 = .ok (.getfield 329, 3) := dk_180 1 73 (dk_at dksX1_thief_0 6 rfl rfl)
theorem dX1_thief_9 : decode cX1_thief 9 = .ok (.invokevirtual 128, 3) := dk_182 0 128 (dk_at dksX1_thief_0 9 rfl rfl)
theorem dX1_thief_12 : decode cX1_thief 12 = .ok (.iconst 1, 1) := dk_4 (dk_at dksX1_thief_0 12 rfl rfl)
theorem dX1_thief_13 : decode cX1_thief 13 = .ok (.isub, 1) := dk_100 (dk_at dksX1_thief_0 13 rfl rfl)
theorem dX1_thief_14 : decode cX1_thief 14 = .ok (.invokestatic 137, 3) := dk_184 0 137 (dk_at dksX1_thief_0 14 rfl rfl)
theorem dX1_thief_17 : decode cX1_thief 17 = .ok (.ifCond .eq 11, 3) := dk_153 0 11 (dk_at dksX1_thief_0 17 rfl rfl)
theorem dX1_thief_20 : decode cX1_thief 20 = .ok (.iload_n 2, 1) := dk_28 (dk_at dksX1_thief_0 20 rfl rfl)
theorem dX1_thief_21 : decode cX1_thief 21 = .ok (.iload_n 3, 1) := dk_29 (dk_at dksX1_thief_0 21 rfl rfl)
theorem dX1_thief_22 : decode cX1_thief 22 = .ok (.invokestatic 340, 3) := dk_184 1 84 (dk_at dksX1_thief_1 0 rfl rfl)
theorem dX1_thief_25 : decode cX1_thief 25 = .ok (.ifCond .ne 11, 3) := dk_154 0 11 (dk_at dksX1_thief_1 3 rfl rfl)
theorem dX1_thief_28 : decode cX1_thief 28 = .ok (.new 343, 3) := dk_187 1 87 (dk_at dksX1_thief_1 6 rfl rfl)
theorem dX1_thief_31 : decode cX1_thief 31 = .ok (.dup, 1) := dk_89 (dk_at dksX1_thief_1 9 rfl rfl)
theorem dX1_thief_32 : decode cX1_thief 32 = .ok (.invokespecial 345, 3) := dk_183 1 89 (dk_at dksX1_thief_1 10 rfl rfl)
theorem dX1_thief_35 : decode cX1_thief 35 = .ok (.athrow, 1) := dk_191 (dk_at dksX1_thief_1 13 rfl rfl)
theorem dX1_thief_36 : decode cX1_thief 36 = .ok (.aload_n 0, 1) := dk_42 (dk_at dksX1_thief_1 14 rfl rfl)
theorem dX1_thief_37 : decode cX1_thief 37 = .ok (.iload_n 1, 1) := dk_27 (dk_at dksX1_thief_1 15 rfl rfl)
theorem dX1_thief_38 : decode cX1_thief 38 = .ok (.iload_n 2, 1) := dk_28 (dk_at dksX1_thief_1 16 rfl rfl)
theorem dX1_thief_39 : decode cX1_thief 39 = .ok (.iload_n 3, 1) := dk_29 (dk_at dksX1_thief_1 17 rfl rfl)
theorem dX1_thief_40 : decode cX1_thief 40 = .ok (.invokevirtual 346, 3) := dk_182 1 90 (dk_at dksX1_thief_1 18 rfl rfl)
theorem dX1_thief_43 : decode cX1_thief 43 = .ok (.ireturn, 1) := dk_172 (dk_at dksX1_thief_1 21 rfl rfl)
theorem q124 : (Jvm.Cond.initialized "NameOrchard") ∈ lw_all := lw_g (lw_at lw_m1 1 rfl) rfl
theorem q179 : (Jvm.Cond.instantiable "NameOrchard" (12 : Nat)) ∈ lw_all := lw_g (lw_at lw_m1 56 rfl) rfl
theorem q181 : (Jvm.Cond.instanceMethod ({ cls := "NameOrchard", name := "<init>", desc := "()V" } : Jvm.MethodName)) ∈ lw_all := lw_g (lw_at lw_m1 58 rfl) rfl
theorem q182 : (Jvm.Cond.code ({ cls := "NameOrchard", name := "<init>", desc := "()V" } : Jvm.MethodName) prog_1_method_5_code (1 : Nat) (Option.none : Option Jvm.ClassFile.FieldType)) ∈ lw_all := lw_g (lw_at lw_m1 59 rfl) rfl
theorem q183 : (Jvm.Cond.methodLink "NameOrchard" (18 : Nat) ({ cls := "java/lang/Object", name := "<init>", desc := "()V" } : Jvm.MethodName)) ∈ lw_all := lw_g (lw_at lw_m1 60 rfl) rfl
theorem q186 : (Jvm.Cond.classLink "NameOrchard" (23 : Nat) "NameOrchard$Reader") ∈ lw_all := lw_g (lw_at lw_m1 63 rfl) rfl
theorem q188 : (Jvm.Cond.methodLinkNest "NameOrchard" (25 : Nat) ({ cls := "NameOrchard$Reader", name := "<init>", desc := "()V" } : Jvm.MethodName) "NameOrchard") ∈ lw_tbl := lw_at lw_m1 65 rfl
theorem q232 : (Jvm.Cond.fieldLink "NameOrchard" (100 : Nat) "NameOrchard$Reader" "taped" "I") ∈ lw_all := lw_g (lw_at lw_m1 109 rfl) rfl
theorem q268 : (Jvm.Cond.classLink "NameOrchard" (30 : Nat) "NameOrchard$Boughs") ∈ lw_all := lw_g (lw_at lw_m1 145 rfl) rfl
theorem q270 : (Jvm.Cond.methodLinkNest "NameOrchard" (32 : Nat) ({ cls := "NameOrchard$Boughs", name := "<init>", desc := "()V" } : Jvm.MethodName) "NameOrchard") ∈ lw_tbl := lw_at lw_m1 147 rfl
theorem q276 : (Jvm.Cond.fieldLink "NameOrchard" (122 : Nat) "NameOrchard$Boughs" "orchard" "LNameOrchard$Orchard;") ∈ lw_all := lw_g (lw_at lw_m1 153 rfl) rfl
theorem q279 : (Jvm.Cond.fieldLink "NameOrchard" (256 : Nat) "NameOrchard$Boughs" "hang" "I") ∈ lw_all := lw_g (lw_at lw_m1 156 rfl) rfl
theorem q282 : (Jvm.Cond.fieldLink "NameOrchard" (174 : Nat) "NameOrchard$Boughs" "loose" "I") ∈ lw_all := lw_g (lw_at lw_m1 159 rfl) rfl
theorem q284 : (Jvm.Cond.fieldLink "NameOrchard" (172 : Nat) "NameOrchard$Boughs" "sounds" "[I") ∈ lw_all := lw_g (lw_at lw_m1 161 rfl) rfl
theorem q287 : (Jvm.Cond.fieldLink "NameOrchard" (184 : Nat) "NameOrchard$Boughs" "day" "I") ∈ lw_all := lw_g (lw_at lw_m1 164 rfl) rfl
theorem q290 : (Jvm.Cond.fieldLink "NameOrchard" (270 : Nat) "NameOrchard$Boughs" "had" "I") ∈ lw_all := lw_g (lw_at lw_m1 167 rfl) rfl
theorem q292 : (Jvm.Cond.fieldLink "NameOrchard" (405 : Nat) "NameOrchard$Boughs" "isPicked" "Z") ∈ lw_all := lw_g (lw_at lw_m1 169 rfl) rfl
theorem q308 : (Jvm.Cond.classLink "NameOrchard" (33 : Nat) "NameOrchard$Orchard") ∈ lw_all := lw_g (lw_at lw_m1 185 rfl) rfl
theorem q310 : (Jvm.Cond.methodLinkNest "NameOrchard" (35 : Nat) ({ cls := "NameOrchard$Orchard", name := "<init>", desc := "()V" } : Jvm.MethodName) "NameOrchard") ∈ lw_tbl := lw_at lw_m1 187 rfl
theorem q357 : (Jvm.Cond.fieldLink "NameOrchard" (125 : Nat) "NameOrchard$Orchard" "apples" "Ljava/util/ArrayList;") ∈ lw_all := lw_g (lw_at lw_m1 234 rfl) rfl
theorem q360 : (Jvm.Cond.fieldLink "NameOrchard" (132 : Nat) "NameOrchard$Orchard" "sounds" "Ljava/util/ArrayList;") ∈ lw_all := lw_g (lw_at lw_m1 237 rfl) rfl
theorem q367 : (Jvm.Cond.fieldLink "NameOrchard" (143 : Nat) "NameOrchard$Orchard" "people" "Ljava/util/ArrayList;") ∈ lw_all := lw_g (lw_at lw_m2 4 rfl) rfl
theorem q371 : (Jvm.Cond.fieldLink "NameOrchard" (314 : Nat) "NameOrchard$Orchard" "strangers" "Ljava/util/ArrayList;") ∈ lw_all := lw_g (lw_at lw_m2 8 rfl) rfl
theorem q374 : (Jvm.Cond.fieldLink "NameOrchard" (329 : Nat) "NameOrchard$Orchard" "pages" "Ljava/util/ArrayList;") ∈ lw_all := lw_g (lw_at lw_m2 11 rfl) rfl
theorem q378 : (Jvm.Cond.fieldLink "NameOrchard" (352 : Nat) "NameOrchard$Orchard" "banns" "Ljava/util/ArrayList;") ∈ lw_all := lw_g (lw_at lw_m2 15 rfl) rfl
theorem q411 : (Jvm.Cond.methodLink "NameOrchard" (36 : Nat) ({ cls := "NameOrchard$Boughs", name := "begins", desc := "(LNameOrchard$Orchard;)LNameOrchard$Boughs;" } : Jvm.MethodName)) ∈ lw_all := lw_g (lw_at lw_m2 48 rfl) rfl
theorem q434 : (Jvm.Cond.classLink "NameOrchard" (47 : Nat) "java/util/ArrayList") ∈ lw_all := lw_g (lw_at lw_m2 71 rfl) rfl
theorem q435 : (Jvm.Cond.methodLink "NameOrchard" (49 : Nat) ({ cls := "java/util/ArrayList", name := "<init>", desc := "(I)V" } : Jvm.MethodName)) ∈ lw_all := lw_g (lw_at lw_m2 72 rfl) rfl
theorem q436 : (Jvm.Cond.methodLink "NameOrchard" (63 : Nat) ({ cls := "java/util/ArrayList", name := "<init>", desc := "()V" } : Jvm.MethodName)) ∈ lw_all := lw_g (lw_at lw_m2 73 rfl) rfl
theorem q441 : (Jvm.Cond.classLink "NameOrchard" (67 : Nat) "NameOrchard$Reach") ∈ lw_all := lw_g (lw_at lw_m2 78 rfl) rfl
theorem q443 : (Jvm.Cond.methodLinkNest "NameOrchard" (69 : Nat) ({ cls := "NameOrchard$Reach", name := "<init>", desc := "(LNameOrchard;)V" } : Jvm.MethodName) "NameOrchard") ∈ lw_tbl := lw_at lw_m2 80 rfl
theorem q461 : (Jvm.Cond.classLink "NameOrchard" (76 : Nat) "NameOrchard$Crops") ∈ lw_all := lw_g (lw_at lw_m2 98 rfl) rfl
theorem q463 : (Jvm.Cond.methodLinkNest "NameOrchard" (78 : Nat) ({ cls := "NameOrchard$Crops", name := "<init>", desc := "(LNameOrchard;)V" } : Jvm.MethodName) "NameOrchard") ∈ lw_tbl := lw_at lw_m2 100 rfl
theorem q473 : (Jvm.Cond.fieldLink "NameOrchard" (276 : Nat) "NameOrchard$Crops" "first" "I") ∈ lw_all := lw_g (lw_at lw_m2 110 rfl) rfl
theorem q484 : (Jvm.Cond.classLink "NameOrchard" (83 : Nat) "NameOrchard$Weeks") ∈ lw_all := lw_g (lw_at lw_m2 121 rfl) rfl
theorem q486 : (Jvm.Cond.methodLinkNest "NameOrchard" (85 : Nat) ({ cls := "NameOrchard$Weeks", name := "<init>", desc := "(LNameOrchard;)V" } : Jvm.MethodName) "NameOrchard") ∈ lw_tbl := lw_at lw_m2 123 rfl
theorem q495 : (Jvm.Cond.fieldLink "NameOrchard" (362 : Nat) "NameOrchard$Weeks" "best" "[I") ∈ lw_all := lw_g (lw_at lw_m2 132 rfl) rfl
theorem q497 : (Jvm.Cond.fieldLink "NameOrchard" (359 : Nat) "NameOrchard$Weeks" "least" "I") ∈ lw_all := lw_g (lw_at lw_m2 134 rfl) rfl
theorem q516 : (Jvm.Cond.classLink "NameOrchard" (90 : Nat) "NameOrchard$Mark") ∈ lw_all := lw_g (lw_at lw_m2 153 rfl) rfl
theorem q518 : (Jvm.Cond.fieldLink "NameOrchard" (26 : Nat) "NameOrchard" "reader" "LNameOrchard$Reader;") ∈ lw_all := lw_g (lw_at lw_m2 155 rfl) rfl
theorem q521 : (Jvm.Cond.fieldLink "NameOrchard" (40 : Nat) "NameOrchard" "boughs" "LNameOrchard$Boughs;") ∈ lw_all := lw_g (lw_at lw_m2 158 rfl) rfl
theorem q522 : (Jvm.Cond.fieldLink "NameOrchard" (44 : Nat) "NameOrchard" "trial" "LNameOrchard$Boughs;") ∈ lw_all := lw_g (lw_at lw_m2 159 rfl) rfl
theorem q523 : (Jvm.Cond.fieldLink "NameOrchard" (52 : Nat) "NameOrchard" "days" "Ljava/util/ArrayList;") ∈ lw_all := lw_g (lw_at lw_m2 160 rfl) rfl
theorem q524 : (Jvm.Cond.fieldLink "NameOrchard" (56 : Nat) "NameOrchard" "lies" "[I") ∈ lw_all := lw_g (lw_at lw_m2 161 rfl) rfl
theorem q525 : (Jvm.Cond.fieldLink "NameOrchard" (60 : Nat) "NameOrchard" "told" "Ljava/util/ArrayList;") ∈ lw_all := lw_g (lw_at lw_m2 162 rfl) rfl
theorem q526 : (Jvm.Cond.fieldLink "NameOrchard" (64 : Nat) "NameOrchard" "behind" "Ljava/util/ArrayList;") ∈ lw_all := lw_g (lw_at lw_m2 163 rfl) rfl
theorem q528 : (Jvm.Cond.fieldLink "NameOrchard" (72 : Nat) "NameOrchard" "reach" "LNameOrchard$Reach;") ∈ lw_all := lw_g (lw_at lw_m2 165 rfl) rfl
theorem q529 : (Jvm.Cond.fieldLink "NameOrchard" (79 : Nat) "NameOrchard" "crops" "LNameOrchard$Crops;") ∈ lw_all := lw_g (lw_at lw_m2 166 rfl) rfl
theorem q530 : (Jvm.Cond.fieldLink "NameOrchard" (86 : Nat) "NameOrchard" "weeks" "LNameOrchard$Weeks;") ∈ lw_all := lw_g (lw_at lw_m2 167 rfl) rfl
theorem q531 : (Jvm.Cond.fieldLink "NameOrchard" (365 : Nat) "NameOrchard" "g" "J") ∈ lw_all := lw_g (lw_at lw_m2 168 rfl) rfl
theorem q532 : (Jvm.Cond.fieldLink "NameOrchard" (92 : Nat) "NameOrchard" "marks" "[LNameOrchard$Mark;") ∈ lw_all := lw_g (lw_at lw_m2 169 rfl) rfl
theorem q533 : (Jvm.Cond.laysFinal "NameOrchard" "NameOrchard" "reader" "LNameOrchard$Reader;") ∈ lw_all := lw_g (lw_at lw_m2 170 rfl) rfl
theorem q534 : (Jvm.Cond.soleField "NameOrchard" "reader") ∈ lw_all := lw_g (lw_at lw_m2 171 rfl) rfl
theorem q535 : (Jvm.Cond.lays "NameOrchard" "NameOrchard" "boughs" "LNameOrchard$Boughs;") ∈ lw_all := lw_g (lw_at lw_m2 172 rfl) rfl
theorem q536 : (Jvm.Cond.soleField "NameOrchard" "boughs") ∈ lw_all := lw_g (lw_at lw_m2 173 rfl) rfl
theorem q537 : (Jvm.Cond.laysFinal "NameOrchard" "NameOrchard" "trial" "LNameOrchard$Boughs;") ∈ lw_all := lw_g (lw_at lw_m2 174 rfl) rfl
theorem q538 : (Jvm.Cond.soleField "NameOrchard" "trial") ∈ lw_all := lw_g (lw_at lw_m2 175 rfl) rfl
theorem q539 : (Jvm.Cond.lays "NameOrchard" "NameOrchard" "days" "Ljava/util/ArrayList;") ∈ lw_all := lw_g (lw_at lw_m2 176 rfl) rfl
theorem q540 : (Jvm.Cond.soleField "NameOrchard" "days") ∈ lw_all := lw_g (lw_at lw_m2 177 rfl) rfl
theorem q541 : (Jvm.Cond.lays "NameOrchard" "NameOrchard" "lies" "[I") ∈ lw_all := lw_g (lw_at lw_m2 178 rfl) rfl
theorem q542 : (Jvm.Cond.soleField "NameOrchard" "lies") ∈ lw_all := lw_g (lw_at lw_m2 179 rfl) rfl
theorem q543 : (Jvm.Cond.lays "NameOrchard" "NameOrchard" "told" "Ljava/util/ArrayList;") ∈ lw_all := lw_g (lw_at lw_m2 180 rfl) rfl
theorem q544 : (Jvm.Cond.soleField "NameOrchard" "told") ∈ lw_all := lw_g (lw_at lw_m2 181 rfl) rfl
theorem q545 : (Jvm.Cond.laysFinal "NameOrchard" "NameOrchard" "behind" "Ljava/util/ArrayList;") ∈ lw_all := lw_g (lw_at lw_m2 182 rfl) rfl
theorem q546 : (Jvm.Cond.soleField "NameOrchard" "behind") ∈ lw_all := lw_g (lw_at lw_m2 183 rfl) rfl
theorem q547 : (Jvm.Cond.laysFinal "NameOrchard" "NameOrchard" "reach" "LNameOrchard$Reach;") ∈ lw_all := lw_g (lw_at lw_m2 184 rfl) rfl
theorem q548 : (Jvm.Cond.soleField "NameOrchard" "reach") ∈ lw_all := lw_g (lw_at lw_m2 185 rfl) rfl
theorem q549 : (Jvm.Cond.laysFinal "NameOrchard" "NameOrchard" "crops" "LNameOrchard$Crops;") ∈ lw_all := lw_g (lw_at lw_m2 186 rfl) rfl
theorem q550 : (Jvm.Cond.soleField "NameOrchard" "crops") ∈ lw_all := lw_g (lw_at lw_m2 187 rfl) rfl
theorem q551 : (Jvm.Cond.laysFinal "NameOrchard" "NameOrchard" "weeks" "LNameOrchard$Weeks;") ∈ lw_all := lw_g (lw_at lw_m2 188 rfl) rfl
theorem q552 : (Jvm.Cond.soleField "NameOrchard" "weeks") ∈ lw_all := lw_g (lw_at lw_m2 189 rfl) rfl
theorem q553 : (Jvm.Cond.lays "NameOrchard" "NameOrchard" "g" "J") ∈ lw_all := lw_g (lw_at lw_m2 190 rfl) rfl
theorem q554 : (Jvm.Cond.soleField "NameOrchard" "g") ∈ lw_all := lw_g (lw_at lw_m2 191 rfl) rfl
theorem q555 : (Jvm.Cond.laysFinal "NameOrchard" "NameOrchard" "marks" "[LNameOrchard$Mark;") ∈ lw_all := lw_g (lw_at lw_m2 192 rfl) rfl
theorem q556 : (Jvm.Cond.soleField "NameOrchard" "marks") ∈ lw_all := lw_g (lw_at lw_m2 193 rfl) rfl
theorem q557 : (Jvm.Cond.superclass "NameOrchard" "java/lang/Object") ∈ lw_all := lw_g (lw_at lw_m2 194 rfl) rfl
theorem q559 : (Jvm.Cond.instanceMethod ({ cls := "NameOrchard", name := "feed", desc := "(JJJ)I" } : Jvm.MethodName)) ∈ lw_all := lw_g (lw_at lw_m2 196 rfl) rfl
theorem q560 : (Jvm.Cond.selects "NameOrchard" ({ cls := "NameOrchard", name := "feed", desc := "(JJJ)I" } : Jvm.MethodName) ({ cls := "NameOrchard", name := "feed", desc := "(JJJ)I" } : Jvm.MethodName)) ∈ lw_all := lw_g (lw_at lw_m2 197 rfl) rfl
theorem q561 : (Jvm.Cond.code ({ cls := "NameOrchard", name := "feed", desc := "(JJJ)I" } : Jvm.MethodName) prog_1_method_6_code (7 : Nat) (Option.some Jvm.ClassFile.FieldType.int)) ∈ lw_all := lw_g (lw_at lw_m2 198 rfl) rfl
theorem q562 : (Jvm.Cond.methodLink "NameOrchard" (96 : Nat) ({ cls := "NameOrchard$Reader", name := "feed", desc := "(J)V" } : Jvm.MethodName)) ∈ lw_all := lw_g (lw_at lw_m2 199 rfl) rfl
theorem q568 : (Jvm.Cond.static ({ cls := "NameOrchard", name := "within", desc := "(III)Z" } : Jvm.MethodName)) ∈ lw_all := lw_g (lw_at lw_m2 205 rfl) rfl
theorem q569 : (Jvm.Cond.code ({ cls := "NameOrchard", name := "within", desc := "(III)Z" } : Jvm.MethodName) prog_1_method_1_code (3 : Nat) (Option.some Jvm.ClassFile.FieldType.boolean)) ∈ lw_all := lw_g (lw_at lw_m2 206 rfl) rfl
theorem q571 : (Jvm.Cond.instanceMethod ({ cls := "NameOrchard", name := "orchard", desc := "()I" } : Jvm.MethodName)) ∈ lw_all := lw_g (lw_at lw_m2 208 rfl) rfl
theorem q572 : (Jvm.Cond.selects "NameOrchard" ({ cls := "NameOrchard", name := "orchard", desc := "()I" } : Jvm.MethodName) ({ cls := "NameOrchard", name := "orchard", desc := "()I" } : Jvm.MethodName)) ∈ lw_all := lw_g (lw_at lw_m2 209 rfl) rfl
theorem q573 : (Jvm.Cond.codeWith ({ cls := "NameOrchard", name := "orchard", desc := "()I" } : Jvm.MethodName) prog_1_method_7_code (2 : Nat) (Option.some Jvm.ClassFile.FieldType.int) [((0 : Nat), (81 : Nat), (82 : Nat), (111 : Nat))]) ∈ lw_all := lw_g (lw_at lw_m2 210 rfl) rfl
theorem q574 : (Jvm.Cond.classLink "NameOrchard" (111 : Nat) "NameOrchard$Wrong") ∈ lw_all := lw_g (lw_at lw_m2 211 rfl) rfl
theorem q575 : (Jvm.Cond.methodLink "NameOrchard" (104 : Nat) ({ cls := "NameOrchard$Reader", name := "orchard", desc := "()LNameOrchard$Orchard;" } : Jvm.MethodName)) ∈ lw_all := lw_g (lw_at lw_m2 212 rfl) rfl
theorem q767 : (Jvm.Cond.fieldLink "NameOrchard" (113 : Nat) "NameOrchard$Wrong" "fault" "I") ∈ lw_all := lw_g (lw_at lw_m3 164 rfl) rfl
theorem q823 : (Jvm.Cond.static ({ cls := "NameOrchard", name := "made", desc := "(IIIIII)LNameOrchard$Apple;" } : Jvm.MethodName)) ∈ lw_all := lw_g (lw_at lw_m3 220 rfl) rfl
theorem q824 : (Jvm.Cond.code ({ cls := "NameOrchard", name := "made", desc := "(IIIIII)LNameOrchard$Apple;" } : Jvm.MethodName) prog_1_method_4_code (6 : Nat) (Option.some (Jvm.ClassFile.FieldType.object "NameOrchard$Apple"))) ∈ lw_all := lw_g (lw_at lw_m3 221 rfl) rfl
theorem q825 : (Jvm.Cond.classLink "NameOrchard" (3 : Nat) "NameOrchard$Alias") ∈ lw_all := lw_g (lw_at lw_m3 222 rfl) rfl
theorem q827 : (Jvm.Cond.methodLink "NameOrchard" (5 : Nat) ({ cls := "NameOrchard$Alias", name := "<init>", desc := "(IIIII)V" } : Jvm.MethodName)) ∈ lw_all := lw_g (lw_at lw_m3 224 rfl) rfl
theorem q837 : (Jvm.Cond.fieldLink "NameOrchard" (332 : Nat) "NameOrchard$Apple" "sound" "I") ∈ lw_all := lw_g (lw_at lw_m3 234 rfl) rfl
theorem q839 : (Jvm.Cond.fieldLink "NameOrchard" (157 : Nat) "NameOrchard$Apple" "place" "I") ∈ lw_all := lw_g (lw_at lw_m3 236 rfl) rfl
theorem q842 : (Jvm.Cond.fieldLink "NameOrchard" (160 : Nat) "NameOrchard$Apple" "row" "I") ∈ lw_all := lw_g (lw_at lw_m3 239 rfl) rfl
theorem q846 : (Jvm.Cond.fieldLink "NameOrchard" (163 : Nat) "NameOrchard$Apple" "ripe" "I") ∈ lw_all := lw_g (lw_at lw_m4 3 rfl) rfl
theorem q850 : (Jvm.Cond.fieldLink "NameOrchard" (166 : Nat) "NameOrchard$Apple" "worth" "I") ∈ lw_all := lw_g (lw_at lw_m4 7 rfl) rfl
theorem q853 : (Jvm.Cond.fieldLink "NameOrchard" (181 : Nat) "NameOrchard$Apple" "twin" "I") ∈ lw_all := lw_g (lw_at lw_m4 10 rfl) rfl
theorem q868 : (Jvm.Cond.classLink "NameOrchard" (9 : Nat) "NameOrchard$Welsh") ∈ lw_all := lw_g (lw_at lw_m4 25 rfl) rfl
theorem q870 : (Jvm.Cond.methodLink "NameOrchard" (11 : Nat) ({ cls := "NameOrchard$Welsh", name := "<init>", desc := "(IIIII)V" } : Jvm.MethodName)) ∈ lw_all := lw_g (lw_at lw_m4 27 rfl) rfl
theorem q881 : (Jvm.Cond.classLink "NameOrchard" (12 : Nat) "NameOrchard$Deaf") ∈ lw_all := lw_g (lw_at lw_m4 38 rfl) rfl
theorem q883 : (Jvm.Cond.methodLink "NameOrchard" (14 : Nat) ({ cls := "NameOrchard$Deaf", name := "<init>", desc := "(IIIII)V" } : Jvm.MethodName)) ∈ lw_all := lw_g (lw_at lw_m4 40 rfl) rfl
theorem q894 : (Jvm.Cond.classLink "NameOrchard" (15 : Nat) "NameOrchard$Apple") ∈ lw_all := lw_g (lw_at lw_m4 51 rfl) rfl
theorem q896 : (Jvm.Cond.methodLink "NameOrchard" (17 : Nat) ({ cls := "NameOrchard$Apple", name := "<init>", desc := "(IIIII)V" } : Jvm.MethodName)) ∈ lw_all := lw_g (lw_at lw_m4 53 rfl) rfl
theorem q934 : (Jvm.Cond.selects "NameOrchard" ({ cls := "java/lang/Object", name := "getClass", desc := "()Ljava/lang/Class;" } : Jvm.MethodName) ({ cls := "java/lang/Object", name := "getClass", desc := "()Ljava/lang/Class;" } : Jvm.MethodName)) ∈ lw_all := lw_g (lw_at lw_m4 91 rfl) rfl
theorem q1087 : (Jvm.Cond.static ({ cls := "NameOrchard", name := "has", desc := "(II)Z" } : Jvm.MethodName)) ∈ lw_all := lw_g (lw_at lw_m5 4 rfl) rfl
theorem q1088 : (Jvm.Cond.code ({ cls := "NameOrchard", name := "has", desc := "(II)Z" } : Jvm.MethodName) prog_1_method_2_code (2 : Nat) (Option.some Jvm.ClassFile.FieldType.boolean)) ∈ lw_all := lw_g (lw_at lw_m5 5 rfl) rfl
theorem q1247 : (Jvm.Cond.methodLink "NameOrchard" (108 : Nat) ({ cls := "java/util/ArrayList", name := "clear", desc := "()V" } : Jvm.MethodName)) ∈ lw_all := lw_g (lw_at lw_m5 164 rfl) rfl
theorem q1252 : (Jvm.Cond.instanceMethod ({ cls := "NameOrchard", name := "days", desc := "()I" } : Jvm.MethodName)) ∈ lw_all := lw_g (lw_at lw_m5 169 rfl) rfl
theorem q1253 : (Jvm.Cond.selects "NameOrchard" ({ cls := "NameOrchard", name := "days", desc := "()I" } : Jvm.MethodName) ({ cls := "NameOrchard", name := "days", desc := "()I" } : Jvm.MethodName)) ∈ lw_all := lw_g (lw_at lw_m5 170 rfl) rfl
theorem q1254 : (Jvm.Cond.codeWith ({ cls := "NameOrchard", name := "days", desc := "()I" } : Jvm.MethodName) prog_1_method_8_code (2 : Nat) (Option.some Jvm.ClassFile.FieldType.int) [((0 : Nat), (16 : Nat), (17 : Nat), (111 : Nat))]) ∈ lw_all := lw_g (lw_at lw_m5 171 rfl) rfl
theorem q1255 : (Jvm.Cond.methodLink "NameOrchard" (116 : Nat) ({ cls := "NameOrchard", name := "now", desc := "()LNameOrchard$Orchard;" } : Jvm.MethodName)) ∈ lw_all := lw_g (lw_at lw_m5 172 rfl) rfl
theorem q1256 : (Jvm.Cond.privateMethod ({ cls := "NameOrchard", name := "now", desc := "()LNameOrchard$Orchard;" } : Jvm.MethodName)) ∈ lw_tbl := lw_at lw_m5 173 rfl
theorem q1257 : (Jvm.Cond.instanceMethod ({ cls := "NameOrchard", name := "now", desc := "()LNameOrchard$Orchard;" } : Jvm.MethodName)) ∈ lw_all := lw_g (lw_at lw_m5 174 rfl) rfl
theorem q1258 : (Jvm.Cond.code ({ cls := "NameOrchard", name := "now", desc := "()LNameOrchard$Orchard;" } : Jvm.MethodName) prog_1_method_9_code (1 : Nat) (Option.some (Jvm.ClassFile.FieldType.object "NameOrchard$Orchard"))) ∈ lw_all := lw_g (lw_at lw_m5 175 rfl) rfl
theorem q1259 : (Jvm.Cond.methodLink "NameOrchard" (119 : Nat) ({ cls := "NameOrchard$Reader", name := "days", desc := "(LNameOrchard$Orchard;)Ljava/util/ArrayList;" } : Jvm.MethodName)) ∈ lw_all := lw_g (lw_at lw_m5 176 rfl) rfl
theorem q1307 : (Jvm.Cond.instanceMethod ({ cls := "NameOrchard", name := "apple", desc := "(II)I" } : Jvm.MethodName)) ∈ lw_all := lw_g (lw_at lw_m5 224 rfl) rfl
theorem q1308 : (Jvm.Cond.selects "NameOrchard" ({ cls := "NameOrchard", name := "apple", desc := "(II)I" } : Jvm.MethodName) ({ cls := "NameOrchard", name := "apple", desc := "(II)I" } : Jvm.MethodName)) ∈ lw_all := lw_g (lw_at lw_m5 225 rfl) rfl
theorem q1309 : (Jvm.Cond.code ({ cls := "NameOrchard", name := "apple", desc := "(II)I" } : Jvm.MethodName) prog_1_method_15_code (4 : Nat) (Option.some Jvm.ClassFile.FieldType.int)) ∈ lw_all := lw_g (lw_at lw_m5 226 rfl) rfl
theorem q1310 : (Jvm.Cond.methodLink "NameOrchard" (146 : Nat) ({ cls := "NameOrchard", name := "isApple", desc := "(I)Z" } : Jvm.MethodName)) ∈ lw_all := lw_g (lw_at lw_m5 227 rfl) rfl
theorem q1311 : (Jvm.Cond.privateMethod ({ cls := "NameOrchard", name := "isApple", desc := "(I)Z" } : Jvm.MethodName)) ∈ lw_tbl := lw_at lw_m5 228 rfl
theorem q1312 : (Jvm.Cond.instanceMethod ({ cls := "NameOrchard", name := "isApple", desc := "(I)Z" } : Jvm.MethodName)) ∈ lw_all := lw_g (lw_at lw_m5 229 rfl) rfl
theorem q1313 : (Jvm.Cond.code ({ cls := "NameOrchard", name := "isApple", desc := "(I)Z" } : Jvm.MethodName) prog_1_method_12_code (2 : Nat) (Option.some Jvm.ClassFile.FieldType.boolean)) ∈ lw_all := lw_g (lw_at lw_m5 230 rfl) rfl
theorem q1314 : (Jvm.Cond.methodLink "NameOrchard" (135 : Nat) ({ cls := "NameOrchard", name := "apples", desc := "()I" } : Jvm.MethodName)) ∈ lw_all := lw_g (lw_at lw_m5 231 rfl) rfl
theorem q1315 : (Jvm.Cond.privateMethod ({ cls := "NameOrchard", name := "apples", desc := "()I" } : Jvm.MethodName)) ∈ lw_tbl := lw_at lw_m5 232 rfl
theorem q1316 : (Jvm.Cond.instanceMethod ({ cls := "NameOrchard", name := "apples", desc := "()I" } : Jvm.MethodName)) ∈ lw_all := lw_g (lw_at lw_m5 233 rfl) rfl
theorem q1317 : (Jvm.Cond.code ({ cls := "NameOrchard", name := "apples", desc := "()I" } : Jvm.MethodName) prog_1_method_10_code (1 : Nat) (Option.some Jvm.ClassFile.FieldType.int)) ∈ lw_all := lw_g (lw_at lw_m5 234 rfl) rfl
theorem q1318 : (Jvm.Cond.methodLink "NameOrchard" (128 : Nat) ({ cls := "java/util/ArrayList", name := "size", desc := "()I" } : Jvm.MethodName)) ∈ lw_all := lw_g (lw_at lw_m5 235 rfl) rfl
theorem q1319 : (Jvm.Cond.methodLink "NameOrchard" (137 : Nat) ({ cls := "NameOrchard", name := "within", desc := "(III)Z" } : Jvm.MethodName)) ∈ lw_all := lw_g (lw_at lw_m5 236 rfl) rfl
theorem q1320 : (Jvm.Cond.methodLink "NameOrchard" (150 : Nat) ({ cls := "java/util/ArrayList", name := "get", desc := "(I)Ljava/lang/Object;" } : Jvm.MethodName)) ∈ lw_all := lw_g (lw_at lw_m5 237 rfl) rfl
theorem q1321 : (Jvm.Cond.methodLink "NameOrchard" (154 : Nat) ({ cls := "NameOrchard$Apple", name := "kind", desc := "()I" } : Jvm.MethodName)) ∈ lw_all := lw_g (lw_at lw_m5 238 rfl) rfl
theorem q1335 : (Jvm.Cond.methodLink "NameOrchard" (169 : Nat) ({ cls := "NameOrchard$Boughs", name := "hangs", desc := "(I)Z" } : Jvm.MethodName)) ∈ lw_all := lw_g (lw_at lw_m6 12 rfl) rfl
theorem q1340 : (Jvm.Cond.methodLink "NameOrchard" (177 : Nat) ({ cls := "NameOrchard", name := "has", desc := "(II)Z" } : Jvm.MethodName)) ∈ lw_all := lw_g (lw_at lw_m6 17 rfl) rfl
theorem q1341 : (Jvm.Cond.methodLink "NameOrchard" (187 : Nat) ({ cls := "NameOrchard$Orchard", name := "value", desc := "(II)I" } : Jvm.MethodName)) ∈ lw_all := lw_g (lw_at lw_m6 18 rfl) rfl
theorem q1404 : (Jvm.Cond.instanceMethod ({ cls := "NameOrchard", name := "near", desc := "(III)I" } : Jvm.MethodName)) ∈ lw_all := lw_g (lw_at lw_m6 81 rfl) rfl
theorem q1405 : (Jvm.Cond.selects "NameOrchard" ({ cls := "NameOrchard", name := "near", desc := "(III)I" } : Jvm.MethodName) ({ cls := "NameOrchard", name := "near", desc := "(III)I" } : Jvm.MethodName)) ∈ lw_all := lw_g (lw_at lw_m6 82 rfl) rfl
theorem q1406 : (Jvm.Cond.code ({ cls := "NameOrchard", name := "near", desc := "(III)I" } : Jvm.MethodName) prog_1_method_16_code (4 : Nat) (Option.some Jvm.ClassFile.FieldType.int)) ∈ lw_all := lw_g (lw_at lw_m6 83 rfl) rfl
theorem q1407 : (Jvm.Cond.methodLink "NameOrchard" (191 : Nat) ({ cls := "NameOrchard", name := "isSound", desc := "(I)Z" } : Jvm.MethodName)) ∈ lw_all := lw_g (lw_at lw_m6 84 rfl) rfl
theorem q1408 : (Jvm.Cond.privateMethod ({ cls := "NameOrchard", name := "isSound", desc := "(I)Z" } : Jvm.MethodName)) ∈ lw_tbl := lw_at lw_m6 85 rfl
theorem q1409 : (Jvm.Cond.instanceMethod ({ cls := "NameOrchard", name := "isSound", desc := "(I)Z" } : Jvm.MethodName)) ∈ lw_all := lw_g (lw_at lw_m6 86 rfl) rfl
theorem q1410 : (Jvm.Cond.code ({ cls := "NameOrchard", name := "isSound", desc := "(I)Z" } : Jvm.MethodName) prog_1_method_13_code (2 : Nat) (Option.some Jvm.ClassFile.FieldType.boolean)) ∈ lw_all := lw_g (lw_at lw_m6 87 rfl) rfl
theorem q1411 : (Jvm.Cond.methodLink "NameOrchard" (141 : Nat) ({ cls := "NameOrchard", name := "sounds", desc := "()I" } : Jvm.MethodName)) ∈ lw_all := lw_g (lw_at lw_m6 88 rfl) rfl
theorem q1412 : (Jvm.Cond.privateMethod ({ cls := "NameOrchard", name := "sounds", desc := "()I" } : Jvm.MethodName)) ∈ lw_tbl := lw_at lw_m6 89 rfl
theorem q1413 : (Jvm.Cond.instanceMethod ({ cls := "NameOrchard", name := "sounds", desc := "()I" } : Jvm.MethodName)) ∈ lw_all := lw_g (lw_at lw_m6 90 rfl) rfl
theorem q1414 : (Jvm.Cond.code ({ cls := "NameOrchard", name := "sounds", desc := "()I" } : Jvm.MethodName) prog_1_method_11_code (1 : Nat) (Option.some Jvm.ClassFile.FieldType.int)) ∈ lw_all := lw_g (lw_at lw_m6 91 rfl) rfl
theorem q1415 : (Jvm.Cond.methodLink "NameOrchard" (194 : Nat) ({ cls := "NameOrchard$Orchard", name := "edits", desc := "(II)I" } : Jvm.MethodName)) ∈ lw_all := lw_g (lw_at lw_m6 92 rfl) rfl
theorem q1424 : (Jvm.Cond.classLink "NameOrchard" (197 : Nat) "NameOrchard$Sound") ∈ lw_all := lw_g (lw_at lw_m6 101 rfl) rfl
theorem q1425 : (Jvm.Cond.methodLink "NameOrchard" (199 : Nat) ({ cls := "NameOrchard$Sound", name := "start", desc := "(LNameOrchard$Sound;)I" } : Jvm.MethodName)) ∈ lw_all := lw_g (lw_at lw_m6 102 rfl) rfl
theorem q1429 : (Jvm.Cond.methodLink "NameOrchard" (203 : Nat) ({ cls := "NameOrchard$Orchard", name := "rhyme", desc := "(II)I" } : Jvm.MethodName)) ∈ lw_all := lw_g (lw_at lw_m6 106 rfl) rfl
theorem q1437 : (Jvm.Cond.methodLink "NameOrchard" (206 : Nat) ({ cls := "NameOrchard$Orchard", name := "isNear", desc := "(II)Z" } : Jvm.MethodName)) ∈ lw_all := lw_g (lw_at lw_m6 114 rfl) rfl
theorem q1449 : (Jvm.Cond.instanceMethod ({ cls := "NameOrchard", name := "says", desc := "(II)I" } : Jvm.MethodName)) ∈ lw_all := lw_g (lw_at lw_m6 126 rfl) rfl
theorem q1450 : (Jvm.Cond.selects "NameOrchard" ({ cls := "NameOrchard", name := "says", desc := "(II)I" } : Jvm.MethodName) ({ cls := "NameOrchard", name := "says", desc := "(II)I" } : Jvm.MethodName)) ∈ lw_all := lw_g (lw_at lw_m6 127 rfl) rfl
theorem q1451 : (Jvm.Cond.code ({ cls := "NameOrchard", name := "says", desc := "(II)I" } : Jvm.MethodName) prog_1_method_17_code (3 : Nat) (Option.some Jvm.ClassFile.FieldType.int)) ∈ lw_all := lw_g (lw_at lw_m6 128 rfl) rfl
theorem q1452 : (Jvm.Cond.methodLink "NameOrchard" (209 : Nat) ({ cls := "NameOrchard", name := "isPerson", desc := "(I)Z" } : Jvm.MethodName)) ∈ lw_all := lw_g (lw_at lw_m6 129 rfl) rfl
theorem q1453 : (Jvm.Cond.privateMethod ({ cls := "NameOrchard", name := "isPerson", desc := "(I)Z" } : Jvm.MethodName)) ∈ lw_tbl := lw_at lw_m6 130 rfl
theorem q1454 : (Jvm.Cond.instanceMethod ({ cls := "NameOrchard", name := "isPerson", desc := "(I)Z" } : Jvm.MethodName)) ∈ lw_all := lw_g (lw_at lw_m6 131 rfl) rfl
theorem q1455 : (Jvm.Cond.code ({ cls := "NameOrchard", name := "isPerson", desc := "(I)Z" } : Jvm.MethodName) prog_1_method_14_code (2 : Nat) (Option.some Jvm.ClassFile.FieldType.boolean)) ∈ lw_all := lw_g (lw_at lw_m6 132 rfl) rfl
theorem q1456 : (Jvm.Cond.methodLink "NameOrchard" (212 : Nat) ({ cls := "NameOrchard$Orchard", name := "says", desc := "(II)Z" } : Jvm.MethodName)) ∈ lw_all := lw_g (lw_at lw_m6 133 rfl) rfl
theorem q1466 : (Jvm.Cond.instanceMethod ({ cls := "NameOrchard", name := "falls", desc := "(II)I" } : Jvm.MethodName)) ∈ lw_all := lw_g (lw_at lw_m6 143 rfl) rfl
theorem q1467 : (Jvm.Cond.selects "NameOrchard" ({ cls := "NameOrchard", name := "falls", desc := "(II)I" } : Jvm.MethodName) ({ cls := "NameOrchard", name := "falls", desc := "(II)I" } : Jvm.MethodName)) ∈ lw_all := lw_g (lw_at lw_m6 144 rfl) rfl
theorem q1468 : (Jvm.Cond.code ({ cls := "NameOrchard", name := "falls", desc := "(II)I" } : Jvm.MethodName) prog_1_method_19_code (3 : Nat) (Option.some Jvm.ClassFile.FieldType.int)) ∈ lw_all := lw_g (lw_at lw_m6 145 rfl) rfl
theorem q1469 : (Jvm.Cond.methodLink "NameOrchard" (215 : Nat) ({ cls := "NameOrchard", name := "mayCall", desc := "(II)Z" } : Jvm.MethodName)) ∈ lw_all := lw_g (lw_at lw_m6 146 rfl) rfl
theorem q1470 : (Jvm.Cond.privateMethod ({ cls := "NameOrchard", name := "mayCall", desc := "(II)Z" } : Jvm.MethodName)) ∈ lw_tbl := lw_at lw_m6 147 rfl
theorem q1471 : (Jvm.Cond.instanceMethod ({ cls := "NameOrchard", name := "mayCall", desc := "(II)Z" } : Jvm.MethodName)) ∈ lw_all := lw_g (lw_at lw_m6 148 rfl) rfl
theorem q1472 : (Jvm.Cond.code ({ cls := "NameOrchard", name := "mayCall", desc := "(II)Z" } : Jvm.MethodName) prog_1_method_18_code (3 : Nat) (Option.some Jvm.ClassFile.FieldType.boolean)) ∈ lw_all := lw_g (lw_at lw_m6 149 rfl) rfl
theorem q1473 : (Jvm.Cond.methodLink "NameOrchard" (218 : Nat) ({ cls := "NameOrchard$Boughs", name := "copies", desc := "(LNameOrchard$Boughs;)LNameOrchard$Boughs;" } : Jvm.MethodName)) ∈ lw_all := lw_g (lw_at lw_m6 150 rfl) rfl
theorem q1478 : (Jvm.Cond.methodLink "NameOrchard" (222 : Nat) ({ cls := "NameOrchard$Boughs", name := "calledBy", desc := "(II)I" } : Jvm.MethodName)) ∈ lw_all := lw_g (lw_at lw_m6 155 rfl) rfl
theorem q1532 : (Jvm.Cond.instanceMethod ({ cls := "NameOrchard", name := "call", desc := "(II)I" } : Jvm.MethodName)) ∈ lw_all := lw_g (lw_at lw_m6 209 rfl) rfl
theorem q1533 : (Jvm.Cond.selects "NameOrchard" ({ cls := "NameOrchard", name := "call", desc := "(II)I" } : Jvm.MethodName) ({ cls := "NameOrchard", name := "call", desc := "(II)I" } : Jvm.MethodName)) ∈ lw_all := lw_g (lw_at lw_m6 210 rfl) rfl
theorem q1534 : (Jvm.Cond.code ({ cls := "NameOrchard", name := "call", desc := "(II)I" } : Jvm.MethodName) prog_1_method_21_code (3 : Nat) (Option.some Jvm.ClassFile.FieldType.int)) ∈ lw_all := lw_g (lw_at lw_m6 211 rfl) rfl
theorem q1535 : (Jvm.Cond.methodLink "NameOrchard" (236 : Nat) ({ cls := "NameOrchard", name := "keeps", desc := "()V" } : Jvm.MethodName)) ∈ lw_all := lw_g (lw_at lw_m6 212 rfl) rfl
theorem q1536 : (Jvm.Cond.privateMethod ({ cls := "NameOrchard", name := "keeps", desc := "()V" } : Jvm.MethodName)) ∈ lw_tbl := lw_at lw_m6 213 rfl
theorem q1537 : (Jvm.Cond.instanceMethod ({ cls := "NameOrchard", name := "keeps", desc := "()V" } : Jvm.MethodName)) ∈ lw_all := lw_g (lw_at lw_m6 214 rfl) rfl
theorem q1538 : (Jvm.Cond.code ({ cls := "NameOrchard", name := "keeps", desc := "()V" } : Jvm.MethodName) prog_1_method_20_code (1 : Nat) (Option.none : Option Jvm.ClassFile.FieldType)) ∈ lw_all := lw_g (lw_at lw_m6 215 rfl) rfl
theorem q1539 : (Jvm.Cond.methodLink "NameOrchard" (225 : Nat) ({ cls := "java/util/ArrayList", name := "remove", desc := "(I)Ljava/lang/Object;" } : Jvm.MethodName)) ∈ lw_all := lw_g (lw_at lw_m6 216 rfl) rfl
theorem q1548 : (Jvm.Cond.methodLink "NameOrchard" (228 : Nat) ({ cls := "NameOrchard$Boughs", name := "copied", desc := "()LNameOrchard$Boughs;" } : Jvm.MethodName)) ∈ lw_all := lw_g (lw_at lw_m6 225 rfl) rfl
theorem q1555 : (Jvm.Cond.methodLink "NameOrchard" (232 : Nat) ({ cls := "java/util/ArrayList", name := "add", desc := "(Ljava/lang/Object;)Z" } : Jvm.MethodName)) ∈ lw_all := lw_g (lw_at lw_m6 232 rfl) rfl
theorem q1557 : (Jvm.Cond.instanceMethod ({ cls := "NameOrchard", name := "pick", desc := "(I)I" } : Jvm.MethodName)) ∈ lw_all := lw_g (lw_at lw_m6 234 rfl) rfl
theorem q1558 : (Jvm.Cond.selects "NameOrchard" ({ cls := "NameOrchard", name := "pick", desc := "(I)I" } : Jvm.MethodName) ({ cls := "NameOrchard", name := "pick", desc := "(I)I" } : Jvm.MethodName)) ∈ lw_all := lw_g (lw_at lw_m6 235 rfl) rfl
theorem q1559 : (Jvm.Cond.code ({ cls := "NameOrchard", name := "pick", desc := "(I)I" } : Jvm.MethodName) prog_1_method_22_code (2 : Nat) (Option.some Jvm.ClassFile.FieldType.int)) ∈ lw_all := lw_g (lw_at lw_m6 236 rfl) rfl
theorem q1560 : (Jvm.Cond.methodLink "NameOrchard" (239 : Nat) ({ cls := "NameOrchard$Boughs", name := "mayPick", desc := "(I)Z" } : Jvm.MethodName)) ∈ lw_all := lw_g (lw_at lw_m6 237 rfl) rfl
theorem q1564 : (Jvm.Cond.methodLink "NameOrchard" (242 : Nat) ({ cls := "NameOrchard$Boughs", name := "picks", desc := "(I)I" } : Jvm.MethodName)) ∈ lw_all := lw_g (lw_at lw_m7 1 rfl) rfl
theorem q1569 : (Jvm.Cond.instanceMethod ({ cls := "NameOrchard", name := "christen", desc := "(II)Z" } : Jvm.MethodName)) ∈ lw_all := lw_g (lw_at lw_m7 6 rfl) rfl
theorem q1570 : (Jvm.Cond.selects "NameOrchard" ({ cls := "NameOrchard", name := "christen", desc := "(II)Z" } : Jvm.MethodName) ({ cls := "NameOrchard", name := "christen", desc := "(II)Z" } : Jvm.MethodName)) ∈ lw_all := lw_g (lw_at lw_m7 7 rfl) rfl
theorem q1571 : (Jvm.Cond.code ({ cls := "NameOrchard", name := "christen", desc := "(II)Z" } : Jvm.MethodName) prog_1_method_23_code (3 : Nat) (Option.some Jvm.ClassFile.FieldType.boolean)) ∈ lw_all := lw_g (lw_at lw_m7 8 rfl) rfl
theorem q1572 : (Jvm.Cond.methodLink "NameOrchard" (246 : Nat) ({ cls := "NameOrchard$Boughs", name := "mayChristen", desc := "(II)Z" } : Jvm.MethodName)) ∈ lw_all := lw_g (lw_at lw_m7 9 rfl) rfl
theorem q1581 : (Jvm.Cond.instanceMethod ({ cls := "NameOrchard", name := "pass", desc := "(I)I" } : Jvm.MethodName)) ∈ lw_all := lw_g (lw_at lw_m7 18 rfl) rfl
theorem q1582 : (Jvm.Cond.selects "NameOrchard" ({ cls := "NameOrchard", name := "pass", desc := "(I)I" } : Jvm.MethodName) ({ cls := "NameOrchard", name := "pass", desc := "(I)I" } : Jvm.MethodName)) ∈ lw_all := lw_g (lw_at lw_m7 19 rfl) rfl
theorem q1583 : (Jvm.Cond.code ({ cls := "NameOrchard", name := "pass", desc := "(I)I" } : Jvm.MethodName) prog_1_method_24_code (3 : Nat) (Option.some Jvm.ClassFile.FieldType.int)) ∈ lw_all := lw_g (lw_at lw_m7 20 rfl) rfl
theorem q1584 : (Jvm.Cond.methodLink "NameOrchard" (249 : Nat) ({ cls := "NameOrchard$Boughs", name := "passes", desc := "()V" } : Jvm.MethodName)) ∈ lw_all := lw_g (lw_at lw_m7 21 rfl) rfl
theorem q1589 : (Jvm.Cond.instanceMethod ({ cls := "NameOrchard", name := "undo", desc := "()Z" } : Jvm.MethodName)) ∈ lw_all := lw_g (lw_at lw_m7 26 rfl) rfl
theorem q1590 : (Jvm.Cond.selects "NameOrchard" ({ cls := "NameOrchard", name := "undo", desc := "()Z" } : Jvm.MethodName) ({ cls := "NameOrchard", name := "undo", desc := "()Z" } : Jvm.MethodName)) ∈ lw_all := lw_g (lw_at lw_m7 27 rfl) rfl
theorem q1591 : (Jvm.Cond.code ({ cls := "NameOrchard", name := "undo", desc := "()Z" } : Jvm.MethodName) prog_1_method_25_code (1 : Nat) (Option.some Jvm.ClassFile.FieldType.boolean)) ∈ lw_all := lw_g (lw_at lw_m7 28 rfl) rfl
theorem q1592 : (Jvm.Cond.methodLink "NameOrchard" (252 : Nat) ({ cls := "java/util/ArrayList", name := "isEmpty", desc := "()Z" } : Jvm.MethodName)) ∈ lw_all := lw_g (lw_at lw_m7 29 rfl) rfl
theorem q1597 : (Jvm.Cond.instanceMethod ({ cls := "NameOrchard", name := "judged", desc := "(I)I" } : Jvm.MethodName)) ∈ lw_all := lw_g (lw_at lw_m7 34 rfl) rfl
theorem q1598 : (Jvm.Cond.selects "NameOrchard" ({ cls := "NameOrchard", name := "judged", desc := "(I)I" } : Jvm.MethodName) ({ cls := "NameOrchard", name := "judged", desc := "(I)I" } : Jvm.MethodName)) ∈ lw_all := lw_g (lw_at lw_m7 35 rfl) rfl
theorem q1599 : (Jvm.Cond.code ({ cls := "NameOrchard", name := "judged", desc := "(I)I" } : Jvm.MethodName) prog_1_method_26_code (7 : Nat) (Option.some Jvm.ClassFile.FieldType.int)) ∈ lw_all := lw_g (lw_at lw_m7 36 rfl) rfl
theorem q1600 : (Jvm.Cond.classLink "NameOrchard" (259 : Nat) "NameOrchard$Line") ∈ lw_all := lw_g (lw_at lw_m7 37 rfl) rfl
theorem q1601 : (Jvm.Cond.methodLink "NameOrchard" (261 : Nat) ({ cls := "NameOrchard$Line", name := "isDone", desc := "(LNameOrchard$Boughs;)Z" } : Jvm.MethodName)) ∈ lw_all := lw_g (lw_at lw_m7 38 rfl) rfl
theorem q1618 : (Jvm.Cond.classLink "NameOrchard" (265 : Nat) "NameOrchard$Picks") ∈ lw_all := lw_g (lw_at lw_m7 55 rfl) rfl
theorem q1619 : (Jvm.Cond.methodLink "NameOrchard" (267 : Nat) ({ cls := "NameOrchard$Boughs", name := "green", desc := "(I)I" } : Jvm.MethodName)) ∈ lw_all := lw_g (lw_at lw_m7 56 rfl) rfl
theorem q1624 : (Jvm.Cond.instanceMethod ({ cls := "NameOrchard", name := "crop", desc := "(II)I" } : Jvm.MethodName)) ∈ lw_all := lw_g (lw_at lw_m7 61 rfl) rfl
theorem q1625 : (Jvm.Cond.selects "NameOrchard" ({ cls := "NameOrchard", name := "crop", desc := "(II)I" } : Jvm.MethodName) ({ cls := "NameOrchard", name := "crop", desc := "(II)I" } : Jvm.MethodName)) ∈ lw_all := lw_g (lw_at lw_m7 62 rfl) rfl
theorem q1626 : (Jvm.Cond.code ({ cls := "NameOrchard", name := "crop", desc := "(II)I" } : Jvm.MethodName) prog_1_method_27_code (4 : Nat) (Option.some Jvm.ClassFile.FieldType.int)) ∈ lw_all := lw_g (lw_at lw_m7 63 rfl) rfl
theorem q1627 : (Jvm.Cond.methodLink "NameOrchard" (273 : Nat) ({ cls := "NameOrchard$Crops", name := "lays", desc := "()V" } : Jvm.MethodName)) ∈ lw_all := lw_g (lw_at lw_m7 64 rfl) rfl
theorem q1654 : (Jvm.Cond.methodLink "NameOrchard" (279 : Nat) ({ cls := "NameOrchard$Crops", name := "most", desc := "(LNameOrchard$Boughs;I)I" } : Jvm.MethodName)) ∈ lw_all := lw_g (lw_at lw_m7 91 rfl) rfl
theorem q1668 : (Jvm.Cond.instanceMethod ({ cls := "NameOrchard", name := "fetch", desc := "()I" } : Jvm.MethodName)) ∈ lw_all := lw_g (lw_at lw_m7 105 rfl) rfl
theorem q1669 : (Jvm.Cond.selects "NameOrchard" ({ cls := "NameOrchard", name := "fetch", desc := "()I" } : Jvm.MethodName) ({ cls := "NameOrchard", name := "fetch", desc := "()I" } : Jvm.MethodName)) ∈ lw_all := lw_g (lw_at lw_m7 106 rfl) rfl
theorem q1670 : (Jvm.Cond.code ({ cls := "NameOrchard", name := "fetch", desc := "()I" } : Jvm.MethodName) prog_1_method_28_code (2 : Nat) (Option.some Jvm.ClassFile.FieldType.int)) ∈ lw_all := lw_g (lw_at lw_m7 107 rfl) rfl
theorem q1671 : (Jvm.Cond.methodLink "NameOrchard" (283 : Nat) ({ cls := "NameOrchard$Crops", name := "isFetched", desc := "(LNameOrchard$Boughs;I)Z" } : Jvm.MethodName)) ∈ lw_all := lw_g (lw_at lw_m7 108 rfl) rfl
theorem q1683 : (Jvm.Cond.instanceMethod ({ cls := "NameOrchard", name := "lies", desc := "(IZ)Z" } : Jvm.MethodName)) ∈ lw_all := lw_g (lw_at lw_m7 120 rfl) rfl
theorem q1684 : (Jvm.Cond.selects "NameOrchard" ({ cls := "NameOrchard", name := "lies", desc := "(IZ)Z" } : Jvm.MethodName) ({ cls := "NameOrchard", name := "lies", desc := "(IZ)Z" } : Jvm.MethodName)) ∈ lw_all := lw_g (lw_at lw_m7 121 rfl) rfl
theorem q1685 : (Jvm.Cond.code ({ cls := "NameOrchard", name := "lies", desc := "(IZ)Z" } : Jvm.MethodName) prog_1_method_29_code (3 : Nat) (Option.some Jvm.ClassFile.FieldType.boolean)) ∈ lw_all := lw_g (lw_at lw_m7 122 rfl) rfl
theorem q1687 : (Jvm.Cond.instanceMethod ({ cls := "NameOrchard", name := "called", desc := "(I)I" } : Jvm.MethodName)) ∈ lw_all := lw_g (lw_at lw_m7 124 rfl) rfl
theorem q1688 : (Jvm.Cond.selects "NameOrchard" ({ cls := "NameOrchard", name := "called", desc := "(I)I" } : Jvm.MethodName) ({ cls := "NameOrchard", name := "called", desc := "(I)I" } : Jvm.MethodName)) ∈ lw_all := lw_g (lw_at lw_m7 125 rfl) rfl
theorem q1689 : (Jvm.Cond.code ({ cls := "NameOrchard", name := "called", desc := "(I)I" } : Jvm.MethodName) prog_1_method_31_code (11 : Nat) (Option.some Jvm.ClassFile.FieldType.int)) ∈ lw_all := lw_g (lw_at lw_m7 126 rfl) rfl
theorem q1690 : (Jvm.Cond.methodLink "NameOrchard" (287 : Nat) ({ cls := "NameOrchard$Reach", name := "lays", desc := "()V" } : Jvm.MethodName)) ∈ lw_all := lw_g (lw_at lw_m7 127 rfl) rfl
theorem q1691 : (Jvm.Cond.methodLink "NameOrchard" (288 : Nat) ({ cls := "NameOrchard", name := "lying", desc := "(I)I" } : Jvm.MethodName)) ∈ lw_all := lw_g (lw_at lw_m7 128 rfl) rfl
theorem q1692 : (Jvm.Cond.privateMethod ({ cls := "NameOrchard", name := "lying", desc := "(I)I" } : Jvm.MethodName)) ∈ lw_tbl := lw_at lw_m7 129 rfl
theorem q1693 : (Jvm.Cond.instanceMethod ({ cls := "NameOrchard", name := "lying", desc := "(I)I" } : Jvm.MethodName)) ∈ lw_all := lw_g (lw_at lw_m7 130 rfl) rfl
theorem q1694 : (Jvm.Cond.code ({ cls := "NameOrchard", name := "lying", desc := "(I)I" } : Jvm.MethodName) prog_1_method_30_code (4 : Nat) (Option.some Jvm.ClassFile.FieldType.int)) ∈ lw_all := lw_g (lw_at lw_m7 131 rfl) rfl
theorem q1695 : (Jvm.Cond.methodLink "NameOrchard" (291 : Nat) ({ cls := "NameOrchard$Reach", name := "all", desc := "()I" } : Jvm.MethodName)) ∈ lw_all := lw_g (lw_at lw_m7 132 rfl) rfl
theorem q1696 : (Jvm.Cond.methodLink "NameOrchard" (294 : Nat) ({ cls := "NameOrchard$Reach", name := "may", desc := "(I)Z" } : Jvm.MethodName)) ∈ lw_all := lw_g (lw_at lw_m7 133 rfl) rfl
theorem q1697 : (Jvm.Cond.methodLink "NameOrchard" (297 : Nat) ({ cls := "NameOrchard$Reach", name := "falls", desc := "(LNameOrchard$Boughs;I)I" } : Jvm.MethodName)) ∈ lw_all := lw_g (lw_at lw_m7 134 rfl) rfl
theorem q1698 : (Jvm.Cond.methodLink "NameOrchard" (300 : Nat) ({ cls := "NameOrchard", name := "parting", desc := "([III)I" } : Jvm.MethodName)) ∈ lw_all := lw_g (lw_at lw_m7 135 rfl) rfl
theorem q1699 : (Jvm.Cond.static ({ cls := "NameOrchard", name := "parting", desc := "([III)I" } : Jvm.MethodName)) ∈ lw_all := lw_g (lw_at lw_m7 136 rfl) rfl
theorem q1700 : (Jvm.Cond.code ({ cls := "NameOrchard", name := "parting", desc := "([III)I" } : Jvm.MethodName) prog_1_method_32_code (7 : Nat) (Option.some Jvm.ClassFile.FieldType.int)) ∈ lw_all := lw_g (lw_at lw_m7 137 rfl) rfl
theorem q1701 : (Jvm.Cond.methodLink "NameOrchard" (304 : Nat) ({ cls := "java/lang/Math", name := "min", desc := "(II)I" } : Jvm.MethodName)) ∈ lw_all := lw_g (lw_at lw_m7 138 rfl) rfl
theorem q1703 : (Jvm.Cond.instanceMethod ({ cls := "NameOrchard", name := "tell", desc := "(IIZ)Z" } : Jvm.MethodName)) ∈ lw_all := lw_g (lw_at lw_m7 140 rfl) rfl
theorem q1704 : (Jvm.Cond.selects "NameOrchard" ({ cls := "NameOrchard", name := "tell", desc := "(IIZ)Z" } : Jvm.MethodName) ({ cls := "NameOrchard", name := "tell", desc := "(IIZ)Z" } : Jvm.MethodName)) ∈ lw_all := lw_g (lw_at lw_m7 141 rfl) rfl
theorem q1705 : (Jvm.Cond.code ({ cls := "NameOrchard", name := "tell", desc := "(IIZ)Z" } : Jvm.MethodName) prog_1_method_33_code (4 : Nat) (Option.some Jvm.ClassFile.FieldType.boolean)) ∈ lw_all := lw_g (lw_at lw_m7 142 rfl) rfl
theorem q1707 : (Jvm.Cond.instanceMethod ({ cls := "NameOrchard", name := "laws", desc := "(I)I" } : Jvm.MethodName)) ∈ lw_all := lw_g (lw_at lw_m7 144 rfl) rfl
theorem q1708 : (Jvm.Cond.selects "NameOrchard" ({ cls := "NameOrchard", name := "laws", desc := "(I)I" } : Jvm.MethodName) ({ cls := "NameOrchard", name := "laws", desc := "(I)I" } : Jvm.MethodName)) ∈ lw_all := lw_g (lw_at lw_m7 145 rfl) rfl
theorem q1709 : (Jvm.Cond.code ({ cls := "NameOrchard", name := "laws", desc := "(I)I" } : Jvm.MethodName) prog_1_method_35_code (7 : Nat) (Option.some Jvm.ClassFile.FieldType.int)) ∈ lw_all := lw_g (lw_at lw_m7 146 rfl) rfl
theorem q1710 : (Jvm.Cond.methodLink "NameOrchard" (310 : Nat) ({ cls := "NameOrchard", name := "isLaw", desc := "(II)Z" } : Jvm.MethodName)) ∈ lw_all := lw_g (lw_at lw_m7 147 rfl) rfl
theorem q1711 : (Jvm.Cond.privateMethod ({ cls := "NameOrchard", name := "isLaw", desc := "(II)Z" } : Jvm.MethodName)) ∈ lw_tbl := lw_at lw_m7 148 rfl
theorem q1712 : (Jvm.Cond.instanceMethod ({ cls := "NameOrchard", name := "isLaw", desc := "(II)Z" } : Jvm.MethodName)) ∈ lw_all := lw_g (lw_at lw_m7 149 rfl) rfl
theorem q1713 : (Jvm.Cond.code ({ cls := "NameOrchard", name := "isLaw", desc := "(II)Z" } : Jvm.MethodName) prog_1_method_34_code (6 : Nat) (Option.some Jvm.ClassFile.FieldType.boolean)) ∈ lw_all := lw_g (lw_at lw_m7 150 rfl) rfl
theorem q1714 : (Jvm.Cond.classLink "NameOrchard" (309 : Nat) "[I") ∈ lw_all := lw_g (lw_at lw_m7 151 rfl) rfl
theorem q1716 : (Jvm.Cond.instanceMethod ({ cls := "NameOrchard", name := "loss", desc := "(I)I" } : Jvm.MethodName)) ∈ lw_all := lw_g (lw_at lw_m7 153 rfl) rfl
theorem q1717 : (Jvm.Cond.selects "NameOrchard" ({ cls := "NameOrchard", name := "loss", desc := "(I)I" } : Jvm.MethodName) ({ cls := "NameOrchard", name := "loss", desc := "(I)I" } : Jvm.MethodName)) ∈ lw_all := lw_g (lw_at lw_m7 154 rfl) rfl
theorem q1718 : (Jvm.Cond.code ({ cls := "NameOrchard", name := "loss", desc := "(I)I" } : Jvm.MethodName) prog_1_method_37_code (2 : Nat) (Option.some Jvm.ClassFile.FieldType.int)) ∈ lw_all := lw_g (lw_at lw_m7 155 rfl) rfl
theorem q1719 : (Jvm.Cond.methodLink "NameOrchard" (322 : Nat) ({ cls := "NameOrchard", name := "lossOf", desc := "(III)I" } : Jvm.MethodName)) ∈ lw_all := lw_g (lw_at lw_m7 156 rfl) rfl
theorem q1720 : (Jvm.Cond.privateMethod ({ cls := "NameOrchard", name := "lossOf", desc := "(III)I" } : Jvm.MethodName)) ∈ lw_tbl := lw_at lw_m7 157 rfl
theorem q1721 : (Jvm.Cond.instanceMethod ({ cls := "NameOrchard", name := "lossOf", desc := "(III)I" } : Jvm.MethodName)) ∈ lw_all := lw_g (lw_at lw_m7 158 rfl) rfl
theorem q1722 : (Jvm.Cond.code ({ cls := "NameOrchard", name := "lossOf", desc := "(III)I" } : Jvm.MethodName) prog_1_method_36_code (11 : Nat) (Option.some Jvm.ClassFile.FieldType.int)) ∈ lw_all := lw_g (lw_at lw_m7 159 rfl) rfl
theorem q1723 : (Jvm.Cond.constant "NameOrchard" (313 : Nat) (1000000 : Int32)) ∈ lw_all := lw_g (lw_at lw_m7 160 rfl) rfl
theorem q1724 : (Jvm.Cond.methodLink "NameOrchard" (317 : Nat) ({ cls := "NameOrchard$Orchard", name := "hears", desc := "(III)Z" } : Jvm.MethodName)) ∈ lw_all := lw_g (lw_at lw_m7 161 rfl) rfl
theorem q1725 : (Jvm.Cond.constantLong "NameOrchard" (320 : Nat) (1000 : Int64)) ∈ lw_all := lw_g (lw_at lw_m7 162 rfl) rfl
theorem q1727 : (Jvm.Cond.instanceMethod ({ cls := "NameOrchard", name := "best", desc := "(II)I" } : Jvm.MethodName)) ∈ lw_all := lw_g (lw_at lw_m7 164 rfl) rfl
theorem q1728 : (Jvm.Cond.selects "NameOrchard" ({ cls := "NameOrchard", name := "best", desc := "(II)I" } : Jvm.MethodName) ({ cls := "NameOrchard", name := "best", desc := "(II)I" } : Jvm.MethodName)) ∈ lw_all := lw_g (lw_at lw_m7 165 rfl) rfl
theorem q1729 : (Jvm.Cond.code ({ cls := "NameOrchard", name := "best", desc := "(II)I" } : Jvm.MethodName) prog_1_method_38_code (7 : Nat) (Option.some Jvm.ClassFile.FieldType.int)) ∈ lw_all := lw_g (lw_at lw_m7 166 rfl) rfl
theorem q1730 : (Jvm.Cond.methodLink "NameOrchard" (326 : Nat) ({ cls := "NameOrchard$Boughs", name := "isFree", desc := "(II)Z" } : Jvm.MethodName)) ∈ lw_all := lw_g (lw_at lw_m7 167 rfl) rfl
theorem q1732 : (Jvm.Cond.instanceMethod ({ cls := "NameOrchard", name := "hide", desc := "(II)I" } : Jvm.MethodName)) ∈ lw_all := lw_g (lw_at lw_m7 169 rfl) rfl
theorem q1733 : (Jvm.Cond.selects "NameOrchard" ({ cls := "NameOrchard", name := "hide", desc := "(II)I" } : Jvm.MethodName) ({ cls := "NameOrchard", name := "hide", desc := "(II)I" } : Jvm.MethodName)) ∈ lw_all := lw_g (lw_at lw_m7 170 rfl) rfl
theorem q1734 : (Jvm.Cond.code ({ cls := "NameOrchard", name := "hide", desc := "(II)I" } : Jvm.MethodName) prog_1_method_42_code (8 : Nat) (Option.some Jvm.ClassFile.FieldType.int)) ∈ lw_all := lw_g (lw_at lw_m7 171 rfl) rfl
theorem q1735 : (Jvm.Cond.methodLink "NameOrchard" (340 : Nat) ({ cls := "NameOrchard", name := "areLane", desc := "(II)Z" } : Jvm.MethodName)) ∈ lw_all := lw_g (lw_at lw_m7 172 rfl) rfl
theorem q1736 : (Jvm.Cond.static ({ cls := "NameOrchard", name := "areLane", desc := "(II)Z" } : Jvm.MethodName)) ∈ lw_all := lw_g (lw_at lw_m7 173 rfl) rfl
theorem q1737 : (Jvm.Cond.code ({ cls := "NameOrchard", name := "areLane", desc := "(II)Z" } : Jvm.MethodName) prog_1_method_39_code (2 : Nat) (Option.some Jvm.ClassFile.FieldType.boolean)) ∈ lw_all := lw_g (lw_at lw_m7 174 rfl) rfl
theorem q1738 : (Jvm.Cond.methodLink "NameOrchard" (346 : Nat) ({ cls := "NameOrchard", name := "stolen", desc := "(III)I" } : Jvm.MethodName)) ∈ lw_all := lw_g (lw_at lw_m7 175 rfl) rfl
theorem q1739 : (Jvm.Cond.privateMethod ({ cls := "NameOrchard", name := "stolen", desc := "(III)I" } : Jvm.MethodName)) ∈ lw_tbl := lw_at lw_m7 176 rfl
theorem q1740 : (Jvm.Cond.instanceMethod ({ cls := "NameOrchard", name := "stolen", desc := "(III)I" } : Jvm.MethodName)) ∈ lw_all := lw_g (lw_at lw_m7 177 rfl) rfl
theorem q1741 : (Jvm.Cond.code ({ cls := "NameOrchard", name := "stolen", desc := "(III)I" } : Jvm.MethodName) prog_1_method_40_code (7 : Nat) (Option.some Jvm.ClassFile.FieldType.int)) ∈ lw_all := lw_g (lw_at lw_m7 178 rfl) rfl
theorem q1742 : (Jvm.Cond.methodLink "NameOrchard" (335 : Nat) ({ cls := "NameOrchard$Boughs", name := "calledBy", desc := "(III)I" } : Jvm.MethodName)) ∈ lw_all := lw_g (lw_at lw_m7 179 rfl) rfl
theorem q1743 : (Jvm.Cond.methodLink "NameOrchard" (337 : Nat) ({ cls := "NameOrchard$Boughs", name := "worths", desc := "(I)I" } : Jvm.MethodName)) ∈ lw_all := lw_g (lw_at lw_m7 180 rfl) rfl
theorem q1747 : (Jvm.Cond.methodLink "NameOrchard" (349 : Nat) ({ cls := "java/lang/Math", name := "max", desc := "(II)I" } : Jvm.MethodName)) ∈ lw_all := lw_g (lw_at lw_m7 184 rfl) rfl
theorem q1749 : (Jvm.Cond.instanceMethod ({ cls := "NameOrchard", name := "banns", desc := "(III)I" } : Jvm.MethodName)) ∈ lw_all := lw_g (lw_at lw_m7 186 rfl) rfl
theorem q1750 : (Jvm.Cond.selects "NameOrchard" ({ cls := "NameOrchard", name := "banns", desc := "(III)I" } : Jvm.MethodName) ({ cls := "NameOrchard", name := "banns", desc := "(III)I" } : Jvm.MethodName)) ∈ lw_all := lw_g (lw_at lw_m7 187 rfl) rfl
theorem q1751 : (Jvm.Cond.code ({ cls := "NameOrchard", name := "banns", desc := "(III)I" } : Jvm.MethodName) prog_1_method_43_code (4 : Nat) (Option.some Jvm.ClassFile.FieldType.int)) ∈ lw_all := lw_g (lw_at lw_m7 188 rfl) rfl
theorem q1752 : (Jvm.Cond.methodLink "NameOrchard" (355 : Nat) ({ cls := "NameOrchard$Weeks", name := "finds", desc := "(II)V" } : Jvm.MethodName)) ∈ lw_all := lw_g (lw_at lw_m7 189 rfl) rfl
theorem q1769 : (Jvm.Cond.instanceMethod ({ cls := "NameOrchard", name := "years", desc := "(III)I" } : Jvm.MethodName)) ∈ lw_all := lw_g (lw_at lw_m7 206 rfl) rfl
theorem q1770 : (Jvm.Cond.selects "NameOrchard" ({ cls := "NameOrchard", name := "years", desc := "(III)I" } : Jvm.MethodName) ({ cls := "NameOrchard", name := "years", desc := "(III)I" } : Jvm.MethodName)) ∈ lw_all := lw_g (lw_at lw_m7 207 rfl) rfl
theorem q1771 : (Jvm.Cond.code ({ cls := "NameOrchard", name := "years", desc := "(III)I" } : Jvm.MethodName) prog_1_method_46_code (6 : Nat) (Option.some Jvm.ClassFile.FieldType.int)) ∈ lw_all := lw_g (lw_at lw_m7 208 rfl) rfl
theorem q1772 : (Jvm.Cond.methodLink "NameOrchard" (380 : Nat) ({ cls := "NameOrchard", name := "drawnDay", desc := "()I" } : Jvm.MethodName)) ∈ lw_all := lw_g (lw_at lw_m7 209 rfl) rfl
theorem q1773 : (Jvm.Cond.privateMethod ({ cls := "NameOrchard", name := "drawnDay", desc := "()I" } : Jvm.MethodName)) ∈ lw_tbl := lw_at lw_m7 210 rfl
theorem q1774 : (Jvm.Cond.instanceMethod ({ cls := "NameOrchard", name := "drawnDay", desc := "()I" } : Jvm.MethodName)) ∈ lw_all := lw_g (lw_at lw_m7 211 rfl) rfl
theorem q1775 : (Jvm.Cond.code ({ cls := "NameOrchard", name := "drawnDay", desc := "()I" } : Jvm.MethodName) prog_1_method_45_code (4 : Nat) (Option.some Jvm.ClassFile.FieldType.int)) ∈ lw_all := lw_g (lw_at lw_m7 212 rfl) rfl
theorem q1776 : (Jvm.Cond.methodLink "NameOrchard" (377 : Nat) ({ cls := "NameOrchard", name := "draw", desc := "(I)I" } : Jvm.MethodName)) ∈ lw_all := lw_g (lw_at lw_m7 213 rfl) rfl
theorem q1777 : (Jvm.Cond.privateMethod ({ cls := "NameOrchard", name := "draw", desc := "(I)I" } : Jvm.MethodName)) ∈ lw_tbl := lw_at lw_m7 214 rfl
theorem q1778 : (Jvm.Cond.instanceMethod ({ cls := "NameOrchard", name := "draw", desc := "(I)I" } : Jvm.MethodName)) ∈ lw_all := lw_g (lw_at lw_m7 215 rfl) rfl
theorem q1779 : (Jvm.Cond.code ({ cls := "NameOrchard", name := "draw", desc := "(I)I" } : Jvm.MethodName) prog_1_method_44_code (2 : Nat) (Option.some Jvm.ClassFile.FieldType.int)) ∈ lw_all := lw_g (lw_at lw_m7 216 rfl) rfl
theorem q1780 : (Jvm.Cond.constantLong "NameOrchard" (369 : Nat) (1103515245 : Int64)) ∈ lw_all := lw_g (lw_at lw_m7 217 rfl) rfl
theorem q1781 : (Jvm.Cond.constantLong "NameOrchard" (371 : Nat) (12345 : Int64)) ∈ lw_all := lw_g (lw_at lw_m7 218 rfl) rfl
theorem q1782 : (Jvm.Cond.constantLong "NameOrchard" (373 : Nat) (2147483648 : Int64)) ∈ lw_all := lw_g (lw_at lw_m7 219 rfl) rfl
theorem q1783 : (Jvm.Cond.constantLong "NameOrchard" (375 : Nat) (65536 : Int64)) ∈ lw_all := lw_g (lw_at lw_m7 220 rfl) rfl
theorem q1784 : (Jvm.Cond.methodLink "NameOrchard" (383 : Nat) ({ cls := "NameOrchard", name := "bits", desc := "(I)I" } : Jvm.MethodName)) ∈ lw_all := lw_g (lw_at lw_m7 221 rfl) rfl
theorem q1785 : (Jvm.Cond.static ({ cls := "NameOrchard", name := "bits", desc := "(I)I" } : Jvm.MethodName)) ∈ lw_all := lw_g (lw_at lw_m7 222 rfl) rfl
theorem q1786 : (Jvm.Cond.code ({ cls := "NameOrchard", name := "bits", desc := "(I)I" } : Jvm.MethodName) prog_1_method_3_code (3 : Nat) (Option.some Jvm.ClassFile.FieldType.int)) ∈ lw_all := lw_g (lw_at lw_m7 223 rfl) rfl
theorem q1788 : (Jvm.Cond.instanceMethod ({ cls := "NameOrchard", name := "mark", desc := "(IZ)Z" } : Jvm.MethodName)) ∈ lw_all := lw_g (lw_at lw_m7 225 rfl) rfl
theorem q1789 : (Jvm.Cond.selects "NameOrchard" ({ cls := "NameOrchard", name := "mark", desc := "(IZ)Z" } : Jvm.MethodName) ({ cls := "NameOrchard", name := "mark", desc := "(IZ)Z" } : Jvm.MethodName)) ∈ lw_all := lw_g (lw_at lw_m7 226 rfl) rfl
theorem q1790 : (Jvm.Cond.code ({ cls := "NameOrchard", name := "mark", desc := "(IZ)Z" } : Jvm.MethodName) prog_1_method_49_code (3 : Nat) (Option.some Jvm.ClassFile.FieldType.boolean)) ∈ lw_all := lw_g (lw_at lw_m7 227 rfl) rfl
theorem q1792 : (Jvm.Cond.methodLink "NameOrchard" (392 : Nat) ({ cls := "NameOrchard", name := "copied", desc := "([I)[I" } : Jvm.MethodName)) ∈ lw_all := lw_g (lw_at lw_m7 229 rfl) rfl
theorem q1793 : (Jvm.Cond.static ({ cls := "NameOrchard", name := "copied", desc := "([I)[I" } : Jvm.MethodName)) ∈ lw_all := lw_g (lw_at lw_m7 230 rfl) rfl
theorem q1794 : (Jvm.Cond.code ({ cls := "NameOrchard", name := "copied", desc := "([I)[I" } : Jvm.MethodName) prog_1_method_48_code (2 : Nat) (Option.some (Jvm.ClassFile.FieldType.array Jvm.ClassFile.FieldType.int))) ∈ lw_all := lw_g (lw_at lw_m7 231 rfl) rfl
theorem q1795 : (Jvm.Cond.methodLink "NameOrchard" (386 : Nat) ({ cls := "java/lang/System", name := "arraycopy", desc := "(Ljava/lang/Object;ILjava/lang/Object;II)V" } : Jvm.MethodName)) ∈ lw_all := lw_g (lw_at lw_m7 232 rfl) rfl
theorem q1796 : (Jvm.Cond.methodLink "NameOrchard" (395 : Nat) ({ cls := "NameOrchard", name := "copied", desc := "(Ljava/util/ArrayList;)Ljava/util/ArrayList;" } : Jvm.MethodName)) ∈ lw_all := lw_g (lw_at lw_m7 233 rfl) rfl
theorem q1797 : (Jvm.Cond.static ({ cls := "NameOrchard", name := "copied", desc := "(Ljava/util/ArrayList;)Ljava/util/ArrayList;" } : Jvm.MethodName)) ∈ lw_all := lw_g (lw_at lw_m7 234 rfl) rfl
theorem q1798 : (Jvm.Cond.code ({ cls := "NameOrchard", name := "copied", desc := "(Ljava/util/ArrayList;)Ljava/util/ArrayList;" } : Jvm.MethodName) prog_1_method_47_code (3 : Nat) (Option.some (Jvm.ClassFile.FieldType.object "java/util/ArrayList"))) ∈ lw_all := lw_g (lw_at lw_m7 235 rfl) rfl
theorem q1799 : (Jvm.Cond.methodLink "NameOrchard" (398 : Nat) ({ cls := "NameOrchard$Mark", name := "<init>", desc := "(LNameOrchard$Boughs;Ljava/util/ArrayList;[ILjava/util/ArrayList;)V" } : Jvm.MethodName)) ∈ lw_all := lw_g (lw_at lw_m7 236 rfl) rfl
theorem q1804 : (Jvm.Cond.fieldLinkNest "NameOrchard" (401 : Nat) "NameOrchard$Mark" "boughs" "LNameOrchard$Boughs;" "NameOrchard") ∈ lw_tbl := lw_at lw_m8 1 rfl
theorem q1806 : (Jvm.Cond.fieldLinkNest "NameOrchard" (402 : Nat) "NameOrchard$Mark" "days" "Ljava/util/ArrayList;" "NameOrchard") ∈ lw_tbl := lw_at lw_m8 3 rfl
theorem q1808 : (Jvm.Cond.fieldLinkNest "NameOrchard" (403 : Nat) "NameOrchard$Mark" "lies" "[I" "NameOrchard") ∈ lw_tbl := lw_at lw_m8 5 rfl
theorem q1810 : (Jvm.Cond.fieldLinkNest "NameOrchard" (404 : Nat) "NameOrchard$Mark" "told" "Ljava/util/ArrayList;" "NameOrchard") ∈ lw_tbl := lw_at lw_m8 7 rfl
theorem q1821 : (Jvm.Cond.instanceMethod ({ cls := "NameOrchard", name := "count", desc := "(I)I" } : Jvm.MethodName)) ∈ lw_all := lw_g (lw_at lw_m8 18 rfl) rfl
theorem q1822 : (Jvm.Cond.selects "NameOrchard" ({ cls := "NameOrchard", name := "count", desc := "(I)I" } : Jvm.MethodName) ({ cls := "NameOrchard", name := "count", desc := "(I)I" } : Jvm.MethodName)) ∈ lw_all := lw_g (lw_at lw_m8 19 rfl) rfl
theorem q1823 : (Jvm.Cond.code ({ cls := "NameOrchard", name := "count", desc := "(I)I" } : Jvm.MethodName) prog_1_method_50_code (2 : Nat) (Option.some Jvm.ClassFile.FieldType.int)) ∈ lw_all := lw_g (lw_at lw_m8 20 rfl) rfl
theorem q1829 : (Jvm.Cond.instanceMethod ({ cls := "NameOrchard", name := "thief", desc := "(III)I" } : Jvm.MethodName)) ∈ lw_all := lw_g (lw_at lw_m8 26 rfl) rfl
theorem q1830 : (Jvm.Cond.selects "NameOrchard" ({ cls := "NameOrchard", name := "thief", desc := "(III)I" } : Jvm.MethodName) ({ cls := "NameOrchard", name := "thief", desc := "(III)I" } : Jvm.MethodName)) ∈ lw_all := lw_g (lw_at lw_m8 27 rfl) rfl
theorem q1831 : (Jvm.Cond.code ({ cls := "NameOrchard", name := "thief", desc := "(III)I" } : Jvm.MethodName) prog_1_method_41_code (4 : Nat) (Option.some Jvm.ClassFile.FieldType.int)) ∈ lw_all := lw_g (lw_at lw_m8 28 rfl) rfl
theorem q1832 : (Jvm.Cond.classLink "NameOrchard" (343 : Nat) "java/util/NoSuchElementException") ∈ lw_all := lw_g (lw_at lw_m8 29 rfl) rfl
theorem q1843 : (Jvm.Cond.methodLink "NameOrchard" (345 : Nat) ({ cls := "java/util/NoSuchElementException", name := "<init>", desc := "()V" } : Jvm.MethodName)) ∈ lw_all := lw_g (lw_at lw_m8 40 rfl) rfl
theorem q2604 : (Jvm.Cond.castable "NameOrchard" "java/lang/Object") ∈ lw_tbl := lw_at lw_m11 81 rfl
theorem in_X1 : ∀ w ∈ wsX10, w ∈ lw_all := lw_in wsX10 [533, 535, 537, 539, 541, 543, 545, 547, 549, 551, 553, 555] (by decide +kernel) (by decide +kernel)
