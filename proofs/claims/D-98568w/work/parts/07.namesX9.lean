/-! NameOrchardModel -/
set_option maxRecDepth 100000
def RX9 : String := "NameOrchardModel"
def TX9 : u_T := fun k => match k with
  | 0 => ("NameOrchardModel", "thrown", "I", false)
  | 1 => ("NameOrchardModel", "taped", "I", false)
  | 2 => ("NameOrchardModel", "tape", "[I", true)
  | 3 => ("NameOrchardModel", "size", "I", false)
  | 4 => ("NameOrchardModel", "place", "I", false)
  | 5 => ("NameOrchardModel", "begin", "I", false)
  | 6 => ("NameOrchardModel", "token", "I", false)
  | 7 => ("NameOrchardModel", "word", "J", false)
  | 8 => ("NameOrchardModel", "told", "I", false)
  | 9 => ("NameOrchardModel", "wrong", "I", false)
  | 10 => ("NameOrchardModel", "orchard", "[I", true)
  | 11 => ("NameOrchardModel", "soundName", "[J", true)
  | 12 => ("NameOrchardModel", "personName", "[J", true)
  | 13 => ("NameOrchardModel", "soundTold", "[I", true)
  | 14 => ("NameOrchardModel", "sort", "[I", true)
  | 15 => ("NameOrchardModel", "place0", "[I", true)
  | 16 => ("NameOrchardModel", "rowAt", "[I", true)
  | 17 => ("NameOrchardModel", "ripe", "[I", true)
  | 18 => ("NameOrchardModel", "worthTold", "[I", true)
  | 19 => ("NameOrchardModel", "twin", "[I", true)
  | 20 => ("NameOrchardModel", "lane", "[I", true)
  | 21 => ("NameOrchardModel", "loud", "[I", true)
  | 22 => ("NameOrchardModel", "mute", "[I", true)
  | 23 => ("NameOrchardModel", "strangerOf", "[I", true)
  | 24 => ("NameOrchardModel", "strangerBy", "[I", true)
  | 25 => ("NameOrchardModel", "pageOf", "[I", true)
  | 26 => ("NameOrchardModel", "pageMany", "[I", true)
  | 27 => ("NameOrchardModel", "bannA", "[I", true)
  | 28 => ("NameOrchardModel", "bannB", "[I", true)
  | 29 => ("NameOrchardModel", "lineFrom", "[I", true)
  | 30 => ("NameOrchardModel", "lineTo", "[I", true)
  | 31 => ("NameOrchardModel", "codes", "[I", true)
  | 32 => ("NameOrchardModel", "code", "I", false)
  | 33 => ("NameOrchardModel", "lawLine", "I", false)
  | 34 => ("NameOrchardModel", "opened", "[I", true)
  | 35 => ("NameOrchardModel", "compared", "[Z", true)
  | 36 => ("NameOrchardModel", "kept", "[I", true)
  | 37 => ("NameOrchardModel", "keptBy", "[I", true)
  | 38 => ("NameOrchardModel", "ahead", "[I", true)
  | 39 => ("NameOrchardModel", "against", "[I", true)
  | 40 => ("NameOrchardModel", "sum", "[I", true)
  | 41 => ("NameOrchardModel", "sumBy", "[I", true)
  | 42 => ("NameOrchardModel", "term", "[I", true)
  | 43 => ("NameOrchardModel", "termBy", "[I", true)
  | 44 => ("NameOrchardModel", "byNot", "[I", true)
  | 45 => ("NameOrchardModel", "valueOf", "[I", true)
  | 46 => ("NameOrchardModel", "given", "I", false)
  | 47 => ("NameOrchardModel", "edits", "[I", true)
  | 48 => ("NameOrchardModel", "startOf", "[I", true)
  | 49 => ("NameOrchardModel", "rhymeOf", "[I", true)
  | 50 => ("NameOrchardModel", "isNear", "[Z", true)
  | 51 => ("NameOrchardModel", "lettersA", "[I", true)
  | 52 => ("NameOrchardModel", "lettersB", "[I", true)
  | 53 => ("NameOrchardModel", "changes", "[I", true)
  | 54 => ("NameOrchardModel", "lines", "[I", true)
  | 55 => ("NameOrchardModel", "lineWhat", "[I", true)
  | 56 => ("NameOrchardModel", "lineWho", "[I", true)
  | 57 => ("NameOrchardModel", "lineOf", "[I", true)
  | 58 => ("NameOrchardModel", "liesKnown", "[I", true)
  | 59 => ("NameOrchardModel", "liesThere", "[I", true)
  | 60 => ("NameOrchardModel", "tolds", "[I", true)
  | 61 => ("NameOrchardModel", "toldCall", "[I", true)
  | 62 => ("NameOrchardModel", "toldSound", "[I", true)
  | 63 => ("NameOrchardModel", "toldNear", "[Z", true)
  | 64 => ("NameOrchardModel", "s", "[I", true)
  | 65 => ("NameOrchardModel", "aside", "[I", true)
  | 66 => ("NameOrchardModel", "marked", "[I", true)
  | 67 => ("NameOrchardModel", "undone", "[I", true)
  | 68 => ("NameOrchardModel", "isLaid", "[Z", true)
  | 69 => ("NameOrchardModel", "done", "I", false)
  | 70 => ("NameOrchardModel", "wholly", "I", false)
  | 71 => ("NameOrchardModel", "echo", "I", false)
  | 72 => ("NameOrchardModel", "looseThen", "I", false)
  | 73 => ("NameOrchardModel", "isGreen", "Z", false)
  | 74 => ("NameOrchardModel", "heardBy", "[I", true)
  | 75 => ("NameOrchardModel", "halfBy", "[I", true)
  | 76 => ("NameOrchardModel", "callAs", "[I", true)
  | 77 => ("NameOrchardModel", "callMany", "I", false)
  | 78 => ("NameOrchardModel", "valueIn", "[I", true)
  | 79 => ("NameOrchardModel", "firstCall", "I", false)
  | 80 => ("NameOrchardModel", "stateOf", "[I", true)
  | 81 => ("NameOrchardModel", "met", "[I", true)
  | 82 => ("NameOrchardModel", "fallIn", "[I", true)
  | 83 => ("NameOrchardModel", "order", "[I", true)
  | 84 => ("NameOrchardModel", "bestOrder", "[I", true)
  | 85 => ("NameOrchardModel", "bestLost", "I", false)
  | _ => ("NameOrchardModel", "g", "J", false)
def tyX9 : Nat → FieldType := fun k => match k with
  | 0 => .int
  | 1 => .int
  | 2 => .array .int
  | 3 => .int
  | 4 => .int
  | 5 => .int
  | 6 => .int
  | 7 => .long
  | 8 => .int
  | 9 => .int
  | 10 => .array .int
  | 11 => .array .long
  | 12 => .array .long
  | 13 => .array .int
  | 14 => .array .int
  | 15 => .array .int
  | 16 => .array .int
  | 17 => .array .int
  | 18 => .array .int
  | 19 => .array .int
  | 20 => .array .int
  | 21 => .array .int
  | 22 => .array .int
  | 23 => .array .int
  | 24 => .array .int
  | 25 => .array .int
  | 26 => .array .int
  | 27 => .array .int
  | 28 => .array .int
  | 29 => .array .int
  | 30 => .array .int
  | 31 => .array .int
  | 32 => .int
  | 33 => .int
  | 34 => .array .int
  | 35 => .array .boolean
  | 36 => .array .int
  | 37 => .array .int
  | 38 => .array .int
  | 39 => .array .int
  | 40 => .array .int
  | 41 => .array .int
  | 42 => .array .int
  | 43 => .array .int
  | 44 => .array .int
  | 45 => .array .int
  | 46 => .int
  | 47 => .array .int
  | 48 => .array .int
  | 49 => .array .int
  | 50 => .array .boolean
  | 51 => .array .int
  | 52 => .array .int
  | 53 => .array .int
  | 54 => .array .int
  | 55 => .array .int
  | 56 => .array .int
  | 57 => .array .int
  | 58 => .array .int
  | 59 => .array .int
  | 60 => .array .int
  | 61 => .array .int
  | 62 => .array .int
  | 63 => .array .boolean
  | 64 => .array .int
  | 65 => .array .int
  | 66 => .array .int
  | 67 => .array .int
  | 68 => .array .boolean
  | 69 => .int
  | 70 => .int
  | 71 => .int
  | 72 => .int
  | 73 => .boolean
  | 74 => .array .int
  | 75 => .array .int
  | 76 => .array .int
  | 77 => .int
  | 78 => .array .int
  | 79 => .int
  | 80 => .array .int
  | 81 => .array .int
  | 82 => .array .int
  | 83 => .array .int
  | 84 => .array .int
  | 85 => .int
  | _ => .long
abbrev wsX90 : List Cond := u_ws RX9 TX9 87
set_option maxRecDepth 100000 in
theorem nmX9 : ∀ a, a < 87 → ∀ b, b < 87 → a ≠ b → (TX9 a).2.1 ≠ (TX9 b).2.1 := by decide +kernel
set_option maxRecDepth 100000 in
theorem tyX9_ok : ∀ k, k < 87 → parseFieldDescriptor (TX9 k).2.2.1 = some (tyX9 k) := by decide +kernel
abbrev cX9_init : ByteArray := prog_35_method_1_code
def yX9_init : MethodName := ⟨RX9, "<init>", "()V"⟩
def dkwX9_init_22 : List UInt8 := [42, 7, 188, 10, 181, 0, 206, 42, 7, 188, 10, 181, 0, 209, 177]
abbrev dktX9_init_22 : List UInt8 := dkwX9_init_22 ++ []
def dkwX9_init_21 : List UInt8 := [42, 18, 195, 188, 10, 181, 0, 196, 42, 18, 199, 188, 10, 181, 0, 200, 42, 16, 10, 188, 10, 181, 0, 203]
abbrev dktX9_init_21 : List UInt8 := dkwX9_init_21 ++ dktX9_init_22
def dkwX9_init_20 : List UInt8 := [42, 16, 80, 188, 10, 181, 0, 186, 42, 16, 80, 188, 10, 181, 0, 189, 42, 16, 30, 188, 10, 181, 0, 192]
abbrev dktX9_init_20 : List UInt8 := dkwX9_init_20 ++ dktX9_init_21
def dkwX9_init_19 : List UInt8 := [42, 17, 0, 240, 188, 10, 181, 0, 177, 42, 7, 188, 4, 181, 0, 180, 42, 16, 80, 188, 10, 181, 0, 183]
abbrev dktX9_init_19 : List UInt8 := dkwX9_init_19 ++ dktX9_init_20
def dkwX9_init_18 : List UInt8 := [42, 16, 15, 188, 10, 181, 0, 168, 42, 16, 15, 188, 10, 181, 0, 171, 42, 16, 60, 188, 10, 181, 0, 174]
abbrev dktX9_init_18 : List UInt8 := dkwX9_init_18 ++ dktX9_init_19
def dkwX9_init_17 : List UInt8 := [42, 16, 60, 188, 10, 181, 0, 159, 42, 16, 60, 188, 10, 181, 0, 162, 42, 16, 60, 188, 4, 181, 0, 165]
abbrev dktX9_init_17 : List UInt8 := dkwX9_init_17 ++ dktX9_init_18
def dkwX9_init_16 : List UInt8 := [181, 0, 147, 42, 8, 188, 10, 181, 0, 150, 42, 8, 188, 10, 181, 0, 153, 42, 8, 188, 10, 181, 0, 156]
abbrev dktX9_init_16 : List UInt8 := dkwX9_init_16 ++ dktX9_init_17
def dkwX9_init_15 : List UInt8 := [17, 0, 240, 188, 10, 181, 0, 141, 42, 17, 0, 240, 188, 10, 181, 0, 144, 42, 17, 0, 240, 188, 10]
abbrev dktX9_init_15 : List UInt8 := dkwX9_init_15 ++ dktX9_init_16
def dkwX9_init_14 : List UInt8 := [188, 10, 181, 0, 132, 42, 16, 81, 188, 10, 181, 0, 135, 42, 16, 6, 188, 10, 181, 0, 138, 42]
abbrev dktX9_init_14 : List UInt8 := dkwX9_init_14 ++ dktX9_init_15
def dkwX9_init_13 : List UInt8 := [181, 0, 123, 42, 17, 1, 0, 188, 4, 181, 0, 126, 42, 16, 8, 188, 10, 181, 0, 129, 42, 16, 8]
abbrev dktX9_init_13 : List UInt8 := dkwX9_init_13 ++ dktX9_init_14
def dkwX9_init_12 : List UInt8 := [17, 1, 0, 188, 10, 181, 0, 117, 42, 17, 1, 0, 188, 10, 181, 0, 120, 42, 17, 1, 0, 188, 10]
abbrev dktX9_init_12 : List UInt8 := dkwX9_init_12 ++ dktX9_init_13
def dkwX9_init_11 : List UInt8 := [188, 10, 181, 0, 108, 42, 16, 7, 188, 10, 181, 0, 111, 42, 16, 20, 188, 10, 181, 0, 114, 42]
abbrev dktX9_init_11 : List UInt8 := dkwX9_init_11 ++ dktX9_init_12
def dkwX9_init_10 : List UInt8 := [188, 10, 181, 0, 99, 42, 16, 7, 188, 10, 181, 0, 102, 42, 16, 7, 188, 10, 181, 0, 105, 42, 16, 7]
abbrev dktX9_init_10 : List UInt8 := dkwX9_init_10 ++ dktX9_init_11
def dkwX9_init_9 : List UInt8 := [188, 10, 181, 0, 90, 42, 16, 7, 188, 10, 181, 0, 93, 42, 16, 7, 188, 10, 181, 0, 96, 42, 16, 7]
abbrev dktX9_init_9 : List UInt8 := dkwX9_init_9 ++ dktX9_init_10
def dkwX9_init_8 : List UInt8 := [188, 10, 181, 0, 80, 42, 16, 7, 188, 4, 181, 0, 83, 42, 16, 7, 188, 10, 181, 0, 87, 42, 16, 7]
abbrev dktX9_init_8 : List UInt8 := dkwX9_init_8 ++ dktX9_init_9
def dkwX9_init_7 : List UInt8 := [188, 10, 181, 0, 71, 42, 7, 188, 10, 181, 0, 74, 42, 17, 7, 208, 188, 10, 181, 0, 77, 42, 16, 7]
abbrev dktX9_init_7 : List UInt8 := dkwX9_init_7 ++ dktX9_init_8
def dkwX9_init_6 : List UInt8 := [188, 10, 181, 0, 62, 42, 16, 8, 188, 10, 181, 0, 65, 42, 16, 8, 188, 10, 181, 0, 68, 42, 7]
abbrev dktX9_init_6 : List UInt8 := dkwX9_init_6 ++ dktX9_init_7
def dkwX9_init_5 : List UInt8 := [188, 10, 181, 0, 53, 42, 16, 12, 188, 10, 181, 0, 56, 42, 16, 80, 188, 10, 181, 0, 59, 42, 16, 8]
abbrev dktX9_init_5 : List UInt8 := dkwX9_init_5 ++ dktX9_init_6
def dkwX9_init_4 : List UInt8 := [188, 10, 181, 0, 44, 42, 16, 10, 188, 10, 181, 0, 47, 42, 16, 10, 188, 10, 181, 0, 50, 42, 16, 12]
abbrev dktX9_init_4 : List UInt8 := dkwX9_init_4 ++ dktX9_init_5
def dkwX9_init_3 : List UInt8 := [188, 10, 181, 0, 35, 42, 16, 20, 188, 10, 181, 0, 38, 42, 16, 20, 188, 10, 181, 0, 41, 42, 16, 10]
abbrev dktX9_init_3 : List UInt8 := dkwX9_init_3 ++ dktX9_init_4
def dkwX9_init_2 : List UInt8 := [188, 10, 181, 0, 26, 42, 16, 20, 188, 10, 181, 0, 29, 42, 16, 20, 188, 10, 181, 0, 32, 42, 16, 20]
abbrev dktX9_init_2 : List UInt8 := dkwX9_init_2 ++ dktX9_init_3
def dkwX9_init_1 : List UInt8 := [188, 11, 181, 0, 16, 42, 16, 10, 188, 11, 181, 0, 20, 42, 16, 20, 188, 10, 181, 0, 23, 42, 16, 20]
abbrev dktX9_init_1 : List UInt8 := dkwX9_init_1 ++ dktX9_init_2
def dkwX9_init_0 : List UInt8 := [42, 183, 0, 1, 42, 17, 3, 232, 188, 10, 181, 0, 7, 42, 16, 12, 188, 10, 181, 0, 13, 42, 16, 32]
abbrev dktX9_init_0 : List UInt8 := dkwX9_init_0 ++ dktX9_init_1
theorem dksX9_init_0 : cX9_init.data.toList.drop 0 = dktX9_init_0 := by decide +kernel
theorem dksX9_init_1 : cX9_init.data.toList.drop 24 = dktX9_init_1 := dk_seg dksX9_init_0 24 rfl rfl
theorem dksX9_init_2 : cX9_init.data.toList.drop 48 = dktX9_init_2 := dk_seg dksX9_init_1 24 rfl rfl
theorem dksX9_init_3 : cX9_init.data.toList.drop 72 = dktX9_init_3 := dk_seg dksX9_init_2 24 rfl rfl
theorem dksX9_init_4 : cX9_init.data.toList.drop 96 = dktX9_init_4 := dk_seg dksX9_init_3 24 rfl rfl
theorem dksX9_init_5 : cX9_init.data.toList.drop 120 = dktX9_init_5 := dk_seg dksX9_init_4 24 rfl rfl
theorem dksX9_init_6 : cX9_init.data.toList.drop 144 = dktX9_init_6 := dk_seg dksX9_init_5 24 rfl rfl
theorem dksX9_init_7 : cX9_init.data.toList.drop 167 = dktX9_init_7 := dk_seg dksX9_init_6 23 rfl rfl
theorem dksX9_init_8 : cX9_init.data.toList.drop 191 = dktX9_init_8 := dk_seg dksX9_init_7 24 rfl rfl
theorem dksX9_init_9 : cX9_init.data.toList.drop 215 = dktX9_init_9 := dk_seg dksX9_init_8 24 rfl rfl
theorem dksX9_init_10 : cX9_init.data.toList.drop 239 = dktX9_init_10 := dk_seg dksX9_init_9 24 rfl rfl
theorem dksX9_init_11 : cX9_init.data.toList.drop 263 = dktX9_init_11 := dk_seg dksX9_init_10 24 rfl rfl
theorem dksX9_init_12 : cX9_init.data.toList.drop 285 = dktX9_init_12 := dk_seg dksX9_init_11 22 rfl rfl
theorem dksX9_init_13 : cX9_init.data.toList.drop 308 = dktX9_init_13 := dk_seg dksX9_init_12 23 rfl rfl
theorem dksX9_init_14 : cX9_init.data.toList.drop 331 = dktX9_init_14 := dk_seg dksX9_init_13 23 rfl rfl
theorem dksX9_init_15 : cX9_init.data.toList.drop 353 = dktX9_init_15 := dk_seg dksX9_init_14 22 rfl rfl
theorem dksX9_init_16 : cX9_init.data.toList.drop 376 = dktX9_init_16 := dk_seg dksX9_init_15 23 rfl rfl
theorem dksX9_init_17 : cX9_init.data.toList.drop 400 = dktX9_init_17 := dk_seg dksX9_init_16 24 rfl rfl
theorem dksX9_init_18 : cX9_init.data.toList.drop 424 = dktX9_init_18 := dk_seg dksX9_init_17 24 rfl rfl
theorem dksX9_init_19 : cX9_init.data.toList.drop 448 = dktX9_init_19 := dk_seg dksX9_init_18 24 rfl rfl
theorem dksX9_init_20 : cX9_init.data.toList.drop 472 = dktX9_init_20 := dk_seg dksX9_init_19 24 rfl rfl
theorem dksX9_init_21 : cX9_init.data.toList.drop 496 = dktX9_init_21 := dk_seg dksX9_init_20 24 rfl rfl
theorem dksX9_init_22 : cX9_init.data.toList.drop 520 = dktX9_init_22 := dk_seg dksX9_init_21 24 rfl rfl
theorem dX9_init_0 : decode cX9_init 0 = .ok (.aload_n 0, 1) := dk_42 (dk_at dksX9_init_0 0 rfl rfl)
theorem dX9_init_1 : decode cX9_init 1 = .ok (.invokespecial 1, 3) := dk_183 0 1 (dk_at dksX9_init_0 1 rfl rfl)
theorem dX9_init_4 : decode cX9_init 4 = .ok (.aload_n 0, 1) := dk_42 (dk_at dksX9_init_0 4 rfl rfl)
theorem dX9_init_5 : decode cX9_init 5 = .ok (.sipush 1000, 3) := dk_17 3 232 (dk_at dksX9_init_0 5 rfl rfl)
theorem dX9_init_8 : decode cX9_init 8 = .ok (.newarray .int, 2) := dk_188_10 (dk_at dksX9_init_0 8 rfl rfl)
theorem dX9_init_10 : decode cX9_init 10 = .ok (.putfield 7, 3) := dk_181 0 7 (dk_at dksX9_init_0 10 rfl rfl)
theorem dX9_init_13 : decode cX9_init 13 = .ok (.aload_n 0, 1) := dk_42 (dk_at dksX9_init_0 13 rfl rfl)
theorem dX9_init_14 : decode cX9_init 14 = .ok (.bipush 12, 2) := dk_16 12 (dk_at dksX9_init_0 14 rfl rfl)
theorem dX9_init_16 : decode cX9_init 16 = .ok (.newarray .int, 2) := dk_188_10 (dk_at dksX9_init_0 16 rfl rfl)
theorem dX9_init_18 : decode cX9_init 18 = .ok (.putfield 13, 3) := dk_181 0 13 (dk_at dksX9_init_0 18 rfl rfl)
theorem dX9_init_21 : decode cX9_init 21 = .ok (.aload_n 0, 1) := dk_42 (dk_at dksX9_init_0 21 rfl rfl)
theorem dX9_init_22 : decode cX9_init 22 = .ok (.bipush 32, 2) := dk_16 32 (dk_at dksX9_init_0 22 rfl rfl)
theorem dX9_init_24 : decode cX9_init 24 = .ok (.newarray .long, 2) := dk_188_11 (dk_at dksX9_init_1 0 rfl rfl)
theorem dX9_init_26 : decode cX9_init 26 = .ok (.putfield 16, 3) := dk_181 0 16 (dk_at dksX9_init_1 2 rfl rfl)
theorem dX9_init_29 : decode cX9_init 29 = .ok (.aload_n 0, 1) := dk_42 (dk_at dksX9_init_1 5 rfl rfl)
theorem dX9_init_30 : decode cX9_init 30 = .ok (.bipush 10, 2) := dk_16 10 (dk_at dksX9_init_1 6 rfl rfl)
theorem dX9_init_32 : decode cX9_init 32 = .ok (.newarray .long, 2) := dk_188_11 (dk_at dksX9_init_1 8 rfl rfl)
theorem dX9_init_34 : decode cX9_init 34 = .ok (.putfield 20, 3) := dk_181 0 20 (dk_at dksX9_init_1 10 rfl rfl)
theorem dX9_init_37 : decode cX9_init 37 = .ok (.aload_n 0, 1) := dk_42 (dk_at dksX9_init_1 13 rfl rfl)
theorem dX9_init_38 : decode cX9_init 38 = .ok (.bipush 20, 2) := dk_16 20 (dk_at dksX9_init_1 14 rfl rfl)
theorem dX9_init_40 : decode cX9_init 40 = .ok (.newarray .int, 2) := dk_188_10 (dk_at dksX9_init_1 16 rfl rfl)
theorem dX9_init_42 : decode cX9_init 42 = .ok (.putfield 23, 3) := dk_181 0 23 (dk_at dksX9_init_1 18 rfl rfl)
theorem dX9_init_45 : decode cX9_init 45 = .ok (.aload_n 0, 1) := dk_42 (dk_at dksX9_init_1 21 rfl rfl)
theorem dX9_init_46 : decode cX9_init 46 = .ok (.bipush 20, 2) := dk_16 20 (dk_at dksX9_init_1 22 rfl rfl)
theorem dX9_init_48 : decode cX9_init 48 = .ok (.newarray .int, 2) := dk_188_10 (dk_at dksX9_init_2 0 rfl rfl)
theorem dX9_init_50 : decode cX9_init 50 = .ok (.putfield 26, 3) := dk_181 0 26 (dk_at dksX9_init_2 2 rfl rfl)
theorem dX9_init_53 : decode cX9_init 53 = .ok (.aload_n 0, 1) := dk_42 (dk_at dksX9_init_2 5 rfl rfl)
theorem dX9_init_54 : decode cX9_init 54 = .ok (.bipush 20, 2) := dk_16 20 (dk_at dksX9_init_2 6 rfl rfl)
theorem dX9_init_56 : decode cX9_init 56 = .ok (.newarray .int, 2) := dk_188_10 (dk_at dksX9_init_2 8 rfl rfl)
theorem dX9_init_58 : decode cX9_init 58 = .ok (.putfield 29, 3) := dk_181 0 29 (dk_at dksX9_init_2 10 rfl rfl)
theorem dX9_init_61 : decode cX9_init 61 = .ok (.aload_n 0, 1) := dk_42 (dk_at dksX9_init_2 13 rfl rfl)
theorem dX9_init_62 : decode cX9_init 62 = .ok (.bipush 20, 2) := dk_16 20 (dk_at dksX9_init_2 14 rfl rfl)
theorem dX9_init_64 : decode cX9_init 64 = .ok (.newarray .int, 2) := dk_188_10 (dk_at dksX9_init_2 16 rfl rfl)
theorem dX9_init_66 : decode cX9_init 66 = .ok (.putfield 32, 3) := dk_181 0 32 (dk_at dksX9_init_2 18 rfl rfl)
theorem dX9_init_69 : decode cX9_init 69 = .ok (.aload_n 0, 1) := dk_42 (dk_at dksX9_init_2 21 rfl rfl)
theorem dX9_init_70 : decode cX9_init 70 = .ok (.bipush 20, 2) := dk_16 20 (dk_at dksX9_init_2 22 rfl rfl)
theorem dX9_init_72 : decode cX9_init 72 = .ok (.newarray .int, 2) := dk_188_10 (dk_at dksX9_init_3 0 rfl rfl)
theorem dX9_init_74 : decode cX9_init 74 = .ok (.putfield 35, 3) := dk_181 0 35 (dk_at dksX9_init_3 2 rfl rfl)
theorem dX9_init_77 : decode cX9_init 77 = .ok (.aload_n 0, 1) := dk_42 (dk_at dksX9_init_3 5 rfl rfl)
theorem dX9_init_78 : decode cX9_init 78 = .ok (.bipush 20, 2) := dk_16 20 (dk_at dksX9_init_3 6 rfl rfl)
theorem dX9_init_80 : decode cX9_init 80 = .ok (.newarray .int, 2) := dk_188_10 (dk_at dksX9_init_3 8 rfl rfl)
theorem dX9_init_82 : decode cX9_init 82 = .ok (.putfield 38, 3) := dk_181 0 38 (dk_at dksX9_init_3 10 rfl rfl)
theorem dX9_init_85 : decode cX9_init 85 = .ok (.aload_n 0, 1) := dk_42 (dk_at dksX9_init_3 13 rfl rfl)
theorem dX9_init_86 : decode cX9_init 86 = .ok (.bipush 20, 2) := dk_16 20 (dk_at dksX9_init_3 14 rfl rfl)
theorem dX9_init_88 : decode cX9_init 88 = .ok (.newarray .int, 2) := dk_188_10 (dk_at dksX9_init_3 16 rfl rfl)
theorem dX9_init_90 : decode cX9_init 90 = .ok (.putfield 41, 3) := dk_181 0 41 (dk_at dksX9_init_3 18 rfl rfl)
theorem dX9_init_93 : decode cX9_init 93 = .ok (.aload_n 0, 1) := dk_42 (dk_at dksX9_init_3 21 rfl rfl)
theorem dX9_init_94 : decode cX9_init 94 = .ok (.bipush 10, 2) := dk_16 10 (dk_at dksX9_init_3 22 rfl rfl)
theorem dX9_init_96 : decode cX9_init 96 = .ok (.newarray .int, 2) := dk_188_10 (dk_at dksX9_init_4 0 rfl rfl)
theorem dX9_init_98 : decode cX9_init 98 = .ok (.putfield 44, 3) := dk_181 0 44 (dk_at dksX9_init_4 2 rfl rfl)
theorem dX9_init_101 : decode cX9_init 101 = .ok (.aload_n 0, 1) := dk_42 (dk_at dksX9_init_4 5 rfl rfl)
theorem dX9_init_102 : decode cX9_init 102 = .ok (.bipush 10, 2) := dk_16 10 (dk_at dksX9_init_4 6 rfl rfl)
theorem dX9_init_104 : decode cX9_init 104 = .ok (.newarray .int, 2) := dk_188_10 (dk_at dksX9_init_4 8 rfl rfl)
theorem dX9_init_106 : decode cX9_init 106 = .ok (.putfield 47, 3) := dk_181 0 47 (dk_at dksX9_init_4 10 rfl rfl)
theorem dX9_init_109 : decode cX9_init 109 = .ok (.aload_n 0, 1) := dk_42 (dk_at dksX9_init_4 13 rfl rfl)
theorem dX9_init_110 : decode cX9_init 110 = .ok (.bipush 10, 2) := dk_16 10 (dk_at dksX9_init_4 14 rfl rfl)
theorem dX9_init_112 : decode cX9_init 112 = .ok (.newarray .int, 2) := dk_188_10 (dk_at dksX9_init_4 16 rfl rfl)
theorem dX9_init_114 : decode cX9_init 114 = .ok (.putfield 50, 3) := dk_181 0 50 (dk_at dksX9_init_4 18 rfl rfl)
theorem dX9_init_117 : decode cX9_init 117 = .ok (.aload_n 0, 1) := dk_42 (dk_at dksX9_init_4 21 rfl rfl)
theorem dX9_init_118 : decode cX9_init 118 = .ok (.bipush 12, 2) := dk_16 12 (dk_at dksX9_init_4 22 rfl rfl)
theorem dX9_init_120 : decode cX9_init 120 = .ok (.newarray .int, 2) := dk_188_10 (dk_at dksX9_init_5 0 rfl rfl)
theorem dX9_init_122 : decode cX9_init 122 = .ok (.putfield 53, 3) := dk_181 0 53 (dk_at dksX9_init_5 2 rfl rfl)
theorem dX9_init_125 : decode cX9_init 125 = .ok (.aload_n 0, 1) := dk_42 (dk_at dksX9_init_5 5 rfl rfl)
theorem dX9_init_126 : decode cX9_init 126 = .ok (.bipush 12, 2) := dk_16 12 (dk_at dksX9_init_5 6 rfl rfl)
theorem dX9_init_128 : decode cX9_init 128 = .ok (.newarray .int, 2) := dk_188_10 (dk_at dksX9_init_5 8 rfl rfl)
theorem dX9_init_130 : decode cX9_init 130 = .ok (.putfield 56, 3) := dk_181 0 56 (dk_at dksX9_init_5 10 rfl rfl)
theorem dX9_init_133 : decode cX9_init 133 = .ok (.aload_n 0, 1) := dk_42 (dk_at dksX9_init_5 13 rfl rfl)
theorem dX9_init_134 : decode cX9_init 134 = .ok (.bipush 80, 2) := dk_16 80 (dk_at dksX9_init_5 14 rfl rfl)
theorem dX9_init_136 : decode cX9_init 136 = .ok (.newarray .int, 2) := dk_188_10 (dk_at dksX9_init_5 16 rfl rfl)
theorem dX9_init_138 : decode cX9_init 138 = .ok (.putfield 59, 3) := dk_181 0 59 (dk_at dksX9_init_5 18 rfl rfl)
theorem dX9_init_141 : decode cX9_init 141 = .ok (.aload_n 0, 1) := dk_42 (dk_at dksX9_init_5 21 rfl rfl)
theorem dX9_init_142 : decode cX9_init 142 = .ok (.bipush 8, 2) := dk_16 8 (dk_at dksX9_init_5 22 rfl rfl)
theorem dX9_init_144 : decode cX9_init 144 = .ok (.newarray .int, 2) := dk_188_10 (dk_at dksX9_init_6 0 rfl rfl)
theorem dX9_init_146 : decode cX9_init 146 = .ok (.putfield 62, 3) := dk_181 0 62 (dk_at dksX9_init_6 2 rfl rfl)
theorem dX9_init_149 : decode cX9_init 149 = .ok (.aload_n 0, 1) := dk_42 (dk_at dksX9_init_6 5 rfl rfl)
theorem dX9_init_150 : decode cX9_init 150 = .ok (.bipush 8, 2) := dk_16 8 (dk_at dksX9_init_6 6 rfl rfl)
theorem dX9_init_152 : decode cX9_init 152 = .ok (.newarray .int, 2) := dk_188_10 (dk_at dksX9_init_6 8 rfl rfl)
theorem dX9_init_154 : decode cX9_init 154 = .ok (.putfield 65, 3) := dk_181 0 65 (dk_at dksX9_init_6 10 rfl rfl)
theorem dX9_init_157 : decode cX9_init 157 = .ok (.aload_n 0, 1) := dk_42 (dk_at dksX9_init_6 13 rfl rfl)
theorem dX9_init_158 : decode cX9_init 158 = .ok (.bipush 8, 2) := dk_16 8 (dk_at dksX9_init_6 14 rfl rfl)
theorem dX9_init_160 : decode cX9_init 160 = .ok (.newarray .int, 2) := dk_188_10 (dk_at dksX9_init_6 16 rfl rfl)
theorem dX9_init_162 : decode cX9_init 162 = .ok (.putfield 68, 3) := dk_181 0 68 (dk_at dksX9_init_6 18 rfl rfl)
theorem dX9_init_165 : decode cX9_init 165 = .ok (.aload_n 0, 1) := dk_42 (dk_at dksX9_init_6 21 rfl rfl)
theorem dX9_init_166 : decode cX9_init 166 = .ok (.iconst 4, 1) := dk_7 (dk_at dksX9_init_6 22 rfl rfl)
theorem dX9_init_167 : decode cX9_init 167 = .ok (.newarray .int, 2) := dk_188_10 (dk_at dksX9_init_7 0 rfl rfl)
theorem dX9_init_169 : decode cX9_init 169 = .ok (.putfield 71, 3) := dk_181 0 71 (dk_at dksX9_init_7 2 rfl rfl)
theorem dX9_init_172 : decode cX9_init 172 = .ok (.aload_n 0, 1) := dk_42 (dk_at dksX9_init_7 5 rfl rfl)
theorem dX9_init_173 : decode cX9_init 173 = .ok (.iconst 4, 1) := dk_7 (dk_at dksX9_init_7 6 rfl rfl)
theorem dX9_init_174 : decode cX9_init 174 = .ok (.newarray .int, 2) := dk_188_10 (dk_at dksX9_init_7 7 rfl rfl)
theorem dX9_init_176 : decode cX9_init 176 = .ok (.putfield 74, 3) := dk_181 0 74 (dk_at dksX9_init_7 9 rfl rfl)
theorem dX9_init_179 : decode cX9_init 179 = .ok (.aload_n 0, 1) := dk_42 (dk_at dksX9_init_7 12 rfl rfl)
theorem dX9_init_180 : decode cX9_init 180 = .ok (.sipush 2000, 3) := dk_17 7 208 (dk_at dksX9_init_7 13 rfl rfl)
theorem dX9_init_183 : decode cX9_init 183 = .ok (.newarray .int, 2) := dk_188_10 (dk_at dksX9_init_7 16 rfl rfl)
theorem dX9_init_185 : decode cX9_init 185 = .ok (.putfield 77, 3) := dk_181 0 77 (dk_at dksX9_init_7 18 rfl rfl)
theorem dX9_init_188 : decode cX9_init 188 = .ok (.aload_n 0, 1) := dk_42 (dk_at dksX9_init_7 21 rfl rfl)
theorem dX9_init_189 : decode cX9_init 189 = .ok (.bipush 7, 2) := dk_16 7 (dk_at dksX9_init_7 22 rfl rfl)
theorem dX9_init_191 : decode cX9_init 191 = .ok (.newarray .int, 2) := dk_188_10 (dk_at dksX9_init_8 0 rfl rfl)
theorem dX9_init_193 : decode cX9_init 193 = .ok (.putfield 80, 3) := dk_181 0 80 (dk_at dksX9_init_8 2 rfl rfl)
theorem dX9_init_196 : decode cX9_init 196 = .ok (.aload_n 0, 1) := dk_42 (dk_at dksX9_init_8 5 rfl rfl)
theorem dX9_init_197 : decode cX9_init 197 = .ok (.bipush 7, 2) := dk_16 7 (dk_at dksX9_init_8 6 rfl rfl)
theorem dX9_init_199 : decode cX9_init 199 = .ok (.newarray .boolean, 2) := dk_188_4 (dk_at dksX9_init_8 8 rfl rfl)
theorem dX9_init_201 : decode cX9_init 201 = .ok (.putfield 83, 3) := dk_181 0 83 (dk_at dksX9_init_8 10 rfl rfl)
theorem dX9_init_204 : decode cX9_init 204 = .ok (.aload_n 0, 1) := dk_42 (dk_at dksX9_init_8 13 rfl rfl)
theorem dX9_init_205 : decode cX9_init 205 = .ok (.bipush 7, 2) := dk_16 7 (dk_at dksX9_init_8 14 rfl rfl)
theorem dX9_init_207 : decode cX9_init 207 = .ok (.newarray .int, 2) := dk_188_10 (dk_at dksX9_init_8 16 rfl rfl)
theorem dX9_init_209 : decode cX9_init 209 = .ok (.putfield 87, 3) := dk_181 0 87 (dk_at dksX9_init_8 18 rfl rfl)
theorem dX9_init_212 : decode cX9_init 212 = .ok (.aload_n 0, 1) := dk_42 (dk_at dksX9_init_8 21 rfl rfl)
theorem dX9_init_213 : decode cX9_init 213 = .ok (.bipush 7, 2) := dk_16 7 (dk_at dksX9_init_8 22 rfl rfl)
theorem dX9_init_215 : decode cX9_init 215 = .ok (.newarray .int, 2) := dk_188_10 (dk_at dksX9_init_9 0 rfl rfl)
theorem dX9_init_217 : decode cX9_init 217 = .ok (.putfield 90, 3) := dk_181 0 90 (dk_at dksX9_init_9 2 rfl rfl)
theorem dX9_init_220 : decode cX9_init 220 = .ok (.aload_n 0, 1) := dk_42 (dk_at dksX9_init_9 5 rfl rfl)
theorem dX9_init_221 : decode cX9_init 221 = .ok (.bipush 7, 2) := dk_16 7 (dk_at dksX9_init_9 6 rfl rfl)
theorem dX9_init_223 : decode cX9_init 223 = .ok (.newarray .int, 2) := dk_188_10 (dk_at dksX9_init_9 8 rfl rfl)
theorem dX9_init_225 : decode cX9_init 225 = .ok (.putfield 93, 3) := dk_181 0 93 (dk_at dksX9_init_9 10 rfl rfl)
theorem dX9_init_228 : decode cX9_init 228 = .ok (.aload_n 0, 1) := dk_42 (dk_at dksX9_init_9 13 rfl rfl)
theorem dX9_init_229 : decode cX9_init 229 = .ok (.bipush 7, 2) := dk_16 7 (dk_at dksX9_init_9 14 rfl rfl)
theorem dX9_init_231 : decode cX9_init 231 = .ok (.newarray .int, 2) := dk_188_10 (dk_at dksX9_init_9 16 rfl rfl)
theorem dX9_init_233 : decode cX9_init 233 = .ok (.putfield 96, 3) := dk_181 0 96 (dk_at dksX9_init_9 18 rfl rfl)
theorem dX9_init_236 : decode cX9_init 236 = .ok (.aload_n 0, 1) := dk_42 (dk_at dksX9_init_9 21 rfl rfl)
theorem dX9_init_237 : decode cX9_init 237 = .ok (.bipush 7, 2) := dk_16 7 (dk_at dksX9_init_9 22 rfl rfl)
theorem dX9_init_239 : decode cX9_init 239 = .ok (.newarray .int, 2) := dk_188_10 (dk_at dksX9_init_10 0 rfl rfl)
theorem dX9_init_241 : decode cX9_init 241 = .ok (.putfield 99, 3) := dk_181 0 99 (dk_at dksX9_init_10 2 rfl rfl)
theorem dX9_init_244 : decode cX9_init 244 = .ok (.aload_n 0, 1) := dk_42 (dk_at dksX9_init_10 5 rfl rfl)
theorem dX9_init_245 : decode cX9_init 245 = .ok (.bipush 7, 2) := dk_16 7 (dk_at dksX9_init_10 6 rfl rfl)
theorem dX9_init_247 : decode cX9_init 247 = .ok (.newarray .int, 2) := dk_188_10 (dk_at dksX9_init_10 8 rfl rfl)
theorem dX9_init_249 : decode cX9_init 249 = .ok (.putfield 102, 3) := dk_181 0 102 (dk_at dksX9_init_10 10 rfl rfl)
theorem dX9_init_252 : decode cX9_init 252 = .ok (.aload_n 0, 1) := dk_42 (dk_at dksX9_init_10 13 rfl rfl)
theorem dX9_init_253 : decode cX9_init 253 = .ok (.bipush 7, 2) := dk_16 7 (dk_at dksX9_init_10 14 rfl rfl)
theorem dX9_init_255 : decode cX9_init 255 = .ok (.newarray .int, 2) := dk_188_10 (dk_at dksX9_init_10 16 rfl rfl)
theorem dX9_init_257 : decode cX9_init 257 = .ok (.putfield 105, 3) := dk_181 0 105 (dk_at dksX9_init_10 18 rfl rfl)
theorem dX9_init_260 : decode cX9_init 260 = .ok (.aload_n 0, 1) := dk_42 (dk_at dksX9_init_10 21 rfl rfl)
theorem dX9_init_261 : decode cX9_init 261 = .ok (.bipush 7, 2) := dk_16 7 (dk_at dksX9_init_10 22 rfl rfl)
theorem dX9_init_263 : decode cX9_init 263 = .ok (.newarray .int, 2) := dk_188_10 (dk_at dksX9_init_11 0 rfl rfl)
theorem dX9_init_265 : decode cX9_init 265 = .ok (.putfield 108, 3) := dk_181 0 108 (dk_at dksX9_init_11 2 rfl rfl)
theorem dX9_init_268 : decode cX9_init 268 = .ok (.aload_n 0, 1) := dk_42 (dk_at dksX9_init_11 5 rfl rfl)
theorem dX9_init_269 : decode cX9_init 269 = .ok (.bipush 7, 2) := dk_16 7 (dk_at dksX9_init_11 6 rfl rfl)
theorem dX9_init_271 : decode cX9_init 271 = .ok (.newarray .int, 2) := dk_188_10 (dk_at dksX9_init_11 8 rfl rfl)
theorem dX9_init_273 : decode cX9_init 273 = .ok (.putfield 111, 3) := dk_181 0 111 (dk_at dksX9_init_11 10 rfl rfl)
theorem dX9_init_276 : decode cX9_init 276 = .ok (.aload_n 0, 1) := dk_42 (dk_at dksX9_init_11 13 rfl rfl)
theorem dX9_init_277 : decode cX9_init 277 = .ok (.bipush 20, 2) := dk_16 20 (dk_at dksX9_init_11 14 rfl rfl)
theorem dX9_init_279 : decode cX9_init 279 = .ok (.newarray .int, 2) := dk_188_10 (dk_at dksX9_init_11 16 rfl rfl)
theorem dX9_init_281 : decode cX9_init 281 = .ok (.putfield 114, 3) := dk_181 0 114 (dk_at dksX9_init_11 18 rfl rfl)
theorem dX9_init_284 : decode cX9_init 284 = .ok (.aload_n 0, 1) := dk_42 (dk_at dksX9_init_11 21 rfl rfl)
theorem dX9_init_285 : decode cX9_init 285 = .ok (.sipush 256, 3) := dk_17 1 0 (dk_at dksX9_init_12 0 rfl rfl)
theorem dX9_init_288 : decode cX9_init 288 = .ok (.newarray .int, 2) := dk_188_10 (dk_at dksX9_init_12 3 rfl rfl)
theorem dX9_init_290 : decode cX9_init 290 = .ok (.putfield 117, 3) := dk_181 0 117 (dk_at dksX9_init_12 5 rfl rfl)
theorem dX9_init_293 : decode cX9_init 293 = .ok (.aload_n 0, 1) := dk_42 (dk_at dksX9_init_12 8 rfl rfl)
theorem dX9_init_294 : decode cX9_init 294 = .ok (.sipush 256, 3) := dk_17 1 0 (dk_at dksX9_init_12 9 rfl rfl)
theorem dX9_init_297 : decode cX9_init 297 = .ok (.newarray .int, 2) := dk_188_10 (dk_at dksX9_init_12 12 rfl rfl)
theorem dX9_init_299 : decode cX9_init 299 = .ok (.putfield 120, 3) := dk_181 0 120 (dk_at dksX9_init_12 14 rfl rfl)
theorem dX9_init_302 : decode cX9_init 302 = .ok (.aload_n 0, 1) := dk_42 (dk_at dksX9_init_12 17 rfl rfl)
theorem dX9_init_303 : decode cX9_init 303 = .ok (.sipush 256, 3) := dk_17 1 0 (dk_at dksX9_init_12 18 rfl rfl)
theorem dX9_init_306 : decode cX9_init 306 = .ok (.newarray .int, 2) := dk_188_10 (dk_at dksX9_init_12 21 rfl rfl)
theorem dX9_init_308 : decode cX9_init 308 = .ok (.putfield 123, 3) := dk_181 0 123 (dk_at dksX9_init_13 0 rfl rfl)
theorem dX9_init_311 : decode cX9_init 311 = .ok (.aload_n 0, 1) := dk_42 (dk_at dksX9_init_13 3 rfl rfl)
theorem dX9_init_312 : decode cX9_init 312 = .ok (.sipush 256, 3) := dk_17 1 0 (dk_at dksX9_init_13 4 rfl rfl)
theorem dX9_init_315 : decode cX9_init 315 = .ok (.newarray .boolean, 2) := dk_188_4 (dk_at dksX9_init_13 7 rfl rfl)
theorem dX9_init_317 : decode cX9_init 317 = .ok (.putfield 126, 3) := dk_181 0 126 (dk_at dksX9_init_13 9 rfl rfl)
theorem dX9_init_320 : decode cX9_init 320 = .ok (.aload_n 0, 1) := dk_42 (dk_at dksX9_init_13 12 rfl rfl)
theorem dX9_init_321 : decode cX9_init 321 = .ok (.bipush 8, 2) := dk_16 8 (dk_at dksX9_init_13 13 rfl rfl)
theorem dX9_init_323 : decode cX9_init 323 = .ok (.newarray .int, 2) := dk_188_10 (dk_at dksX9_init_13 15 rfl rfl)
theorem dX9_init_325 : decode cX9_init 325 = .ok (.putfield 129, 3) := dk_181 0 129 (dk_at dksX9_init_13 17 rfl rfl)
theorem dX9_init_328 : decode cX9_init 328 = .ok (.aload_n 0, 1) := dk_42 (dk_at dksX9_init_13 20 rfl rfl)
theorem dX9_init_329 : decode cX9_init 329 = .ok (.bipush 8, 2) := dk_16 8 (dk_at dksX9_init_13 21 rfl rfl)
theorem dX9_init_331 : decode cX9_init 331 = .ok (.newarray .int, 2) := dk_188_10 (dk_at dksX9_init_14 0 rfl rfl)
theorem dX9_init_333 : decode cX9_init 333 = .ok (.putfield 132, 3) := dk_181 0 132 (dk_at dksX9_init_14 2 rfl rfl)
theorem dX9_init_336 : decode cX9_init 336 = .ok (.aload_n 0, 1) := dk_42 (dk_at dksX9_init_14 5 rfl rfl)
theorem dX9_init_337 : decode cX9_init 337 = .ok (.bipush 81, 2) := dk_16 81 (dk_at dksX9_init_14 6 rfl rfl)
theorem dX9_init_339 : decode cX9_init 339 = .ok (.newarray .int, 2) := dk_188_10 (dk_at dksX9_init_14 8 rfl rfl)
theorem dX9_init_341 : decode cX9_init 341 = .ok (.putfield 135, 3) := dk_181 0 135 (dk_at dksX9_init_14 10 rfl rfl)
theorem dX9_init_344 : decode cX9_init 344 = .ok (.aload_n 0, 1) := dk_42 (dk_at dksX9_init_14 13 rfl rfl)
theorem dX9_init_345 : decode cX9_init 345 = .ok (.bipush 6, 2) := dk_16 6 (dk_at dksX9_init_14 14 rfl rfl)
theorem dX9_init_347 : decode cX9_init 347 = .ok (.newarray .int, 2) := dk_188_10 (dk_at dksX9_init_14 16 rfl rfl)
theorem dX9_init_349 : decode cX9_init 349 = .ok (.putfield 138, 3) := dk_181 0 138 (dk_at dksX9_init_14 18 rfl rfl)
theorem dX9_init_352 : decode cX9_init 352 = .ok (.aload_n 0, 1) := dk_42 (dk_at dksX9_init_14 21 rfl rfl)
theorem dX9_init_353 : decode cX9_init 353 = .ok (.sipush 240, 3) := dk_17 0 240 (dk_at dksX9_init_15 0 rfl rfl)
theorem dX9_init_356 : decode cX9_init 356 = .ok (.newarray .int, 2) := dk_188_10 (dk_at dksX9_init_15 3 rfl rfl)
theorem dX9_init_358 : decode cX9_init 358 = .ok (.putfield 141, 3) := dk_181 0 141 (dk_at dksX9_init_15 5 rfl rfl)
theorem dX9_init_361 : decode cX9_init 361 = .ok (.aload_n 0, 1) := dk_42 (dk_at dksX9_init_15 8 rfl rfl)
theorem dX9_init_362 : decode cX9_init 362 = .ok (.sipush 240, 3) := dk_17 0 240 (dk_at dksX9_init_15 9 rfl rfl)
theorem dX9_init_365 : decode cX9_init 365 = .ok (.newarray .int, 2) := dk_188_10 (dk_at dksX9_init_15 12 rfl rfl)
theorem dX9_init_367 : decode cX9_init 367 = .ok (.putfield 144, 3) := dk_181 0 144 (dk_at dksX9_init_15 14 rfl rfl)
theorem dX9_init_370 : decode cX9_init 370 = .ok (.aload_n 0, 1) := dk_42 (dk_at dksX9_init_15 17 rfl rfl)
theorem dX9_init_371 : decode cX9_init 371 = .ok (.sipush 240, 3) := dk_17 0 240 (dk_at dksX9_init_15 18 rfl rfl)
theorem dX9_init_374 : decode cX9_init 374 = .ok (.newarray .int, 2) := dk_188_10 (dk_at dksX9_init_15 21 rfl rfl)
theorem dX9_init_376 : decode cX9_init 376 = .ok (.putfield 147, 3) := dk_181 0 147 (dk_at dksX9_init_16 0 rfl rfl)
theorem dX9_init_379 : decode cX9_init 379 = .ok (.aload_n 0, 1) := dk_42 (dk_at dksX9_init_16 3 rfl rfl)
theorem dX9_init_380 : decode cX9_init 380 = .ok (.iconst 5, 1) := dk_8 (dk_at dksX9_init_16 4 rfl rfl)
theorem dX9_init_381 : decode cX9_init 381 = .ok (.newarray .int, 2) := dk_188_10 (dk_at dksX9_init_16 5 rfl rfl)
theorem dX9_init_383 : decode cX9_init 383 = .ok (.putfield 150, 3) := dk_181 0 150 (dk_at dksX9_init_16 7 rfl rfl)
theorem dX9_init_386 : decode cX9_init 386 = .ok (.aload_n 0, 1) := dk_42 (dk_at dksX9_init_16 10 rfl rfl)
theorem dX9_init_387 : decode cX9_init 387 = .ok (.iconst 5, 1) := dk_8 (dk_at dksX9_init_16 11 rfl rfl)
theorem dX9_init_388 : decode cX9_init 388 = .ok (.newarray .int, 2) := dk_188_10 (dk_at dksX9_init_16 12 rfl rfl)
theorem dX9_init_390 : decode cX9_init 390 = .ok (.putfield 153, 3) := dk_181 0 153 (dk_at dksX9_init_16 14 rfl rfl)
theorem dX9_init_393 : decode cX9_init 393 = .ok (.aload_n 0, 1) := dk_42 (dk_at dksX9_init_16 17 rfl rfl)
theorem dX9_init_394 : decode cX9_init 394 = .ok (.iconst 5, 1) := dk_8 (dk_at dksX9_init_16 18 rfl rfl)
theorem dX9_init_395 : decode cX9_init 395 = .ok (.newarray .int, 2) := dk_188_10 (dk_at dksX9_init_16 19 rfl rfl)
theorem dX9_init_397 : decode cX9_init 397 = .ok (.putfield 156, 3) := dk_181 0 156 (dk_at dksX9_init_16 21 rfl rfl)
theorem dX9_init_400 : decode cX9_init 400 = .ok (.aload_n 0, 1) := dk_42 (dk_at dksX9_init_17 0 rfl rfl)
theorem dX9_init_401 : decode cX9_init 401 = .ok (.bipush 60, 2) := dk_16 60 (dk_at dksX9_init_17 1 rfl rfl)
theorem dX9_init_403 : decode cX9_init 403 = .ok (.newarray .int, 2) := dk_188_10 (dk_at dksX9_init_17 3 rfl rfl)
theorem dX9_init_405 : decode cX9_init 405 = .ok (.putfield 159, 3) := dk_181 0 159 (dk_at dksX9_init_17 5 rfl rfl)
theorem dX9_init_408 : decode cX9_init 408 = .ok (.aload_n 0, 1) := dk_42 (dk_at dksX9_init_17 8 rfl rfl)
theorem dX9_init_409 : decode cX9_init 409 = .ok (.bipush 60, 2) := dk_16 60 (dk_at dksX9_init_17 9 rfl rfl)
theorem dX9_init_411 : decode cX9_init 411 = .ok (.newarray .int, 2) := dk_188_10 (dk_at dksX9_init_17 11 rfl rfl)
theorem dX9_init_413 : decode cX9_init 413 = .ok (.putfield 162, 3) := dk_181 0 162 (dk_at dksX9_init_17 13 rfl rfl)
theorem dX9_init_416 : decode cX9_init 416 = .ok (.aload_n 0, 1) := dk_42 (dk_at dksX9_init_17 16 rfl rfl)
theorem dX9_init_417 : decode cX9_init 417 = .ok (.bipush 60, 2) := dk_16 60 (dk_at dksX9_init_17 17 rfl rfl)
theorem dX9_init_419 : decode cX9_init 419 = .ok (.newarray .boolean, 2) := dk_188_4 (dk_at dksX9_init_17 19 rfl rfl)
theorem dX9_init_421 : decode cX9_init 421 = .ok (.putfield 165, 3) := dk_181 0 165 (dk_at dksX9_init_17 21 rfl rfl)
theorem dX9_init_424 : decode cX9_init 424 = .ok (.aload_n 0, 1) := dk_42 (dk_at dksX9_init_18 0 rfl rfl)
theorem dX9_init_425 : decode cX9_init 425 = .ok (.bipush 15, 2) := dk_16 15 (dk_at dksX9_init_18 1 rfl rfl)
theorem dX9_init_427 : decode cX9_init 427 = .ok (.newarray .int, 2) := dk_188_10 (dk_at dksX9_init_18 3 rfl rfl)
theorem dX9_init_429 : decode cX9_init 429 = .ok (.putfield 168, 3) := dk_181 0 168 (dk_at dksX9_init_18 5 rfl rfl)
theorem dX9_init_432 : decode cX9_init 432 = .ok (.aload_n 0, 1) := dk_42 (dk_at dksX9_init_18 8 rfl rfl)
theorem dX9_init_433 : decode cX9_init 433 = .ok (.bipush 15, 2) := dk_16 15 (dk_at dksX9_init_18 9 rfl rfl)
theorem dX9_init_435 : decode cX9_init 435 = .ok (.newarray .int, 2) := dk_188_10 (dk_at dksX9_init_18 11 rfl rfl)
theorem dX9_init_437 : decode cX9_init 437 = .ok (.putfield 171, 3) := dk_181 0 171 (dk_at dksX9_init_18 13 rfl rfl)
theorem dX9_init_440 : decode cX9_init 440 = .ok (.aload_n 0, 1) := dk_42 (dk_at dksX9_init_18 16 rfl rfl)
theorem dX9_init_441 : decode cX9_init 441 = .ok (.bipush 60, 2) := dk_16 60 (dk_at dksX9_init_18 17 rfl rfl)
theorem dX9_init_443 : decode cX9_init 443 = .ok (.newarray .int, 2) := dk_188_10 (dk_at dksX9_init_18 19 rfl rfl)
theorem dX9_init_445 : decode cX9_init 445 = .ok (.putfield 174, 3) := dk_181 0 174 (dk_at dksX9_init_18 21 rfl rfl)
theorem dX9_init_448 : decode cX9_init 448 = .ok (.aload_n 0, 1) := dk_42 (dk_at dksX9_init_19 0 rfl rfl)
theorem dX9_init_449 : decode cX9_init 449 = .ok (.sipush 240, 3) := dk_17 0 240 (dk_at dksX9_init_19 1 rfl rfl)
theorem dX9_init_452 : decode cX9_init 452 = .ok (.newarray .int, 2) := dk_188_10 (dk_at dksX9_init_19 4 rfl rfl)
theorem dX9_init_454 : decode cX9_init 454 = .ok (.putfield 177, 3) := dk_181 0 177 (dk_at dksX9_init_19 6 rfl rfl)
theorem dX9_init_457 : decode cX9_init 457 = .ok (.aload_n 0, 1) := dk_42 (dk_at dksX9_init_19 9 rfl rfl)
theorem dX9_init_458 : decode cX9_init 458 = .ok (.iconst 4, 1) := dk_7 (dk_at dksX9_init_19 10 rfl rfl)
theorem dX9_init_459 : decode cX9_init 459 = .ok (.newarray .boolean, 2) := dk_188_4 (dk_at dksX9_init_19 11 rfl rfl)
theorem dX9_init_461 : decode cX9_init 461 = .ok (.putfield 180, 3) := dk_181 0 180 (dk_at dksX9_init_19 13 rfl rfl)
theorem dX9_init_464 : decode cX9_init 464 = .ok (.aload_n 0, 1) := dk_42 (dk_at dksX9_init_19 16 rfl rfl)
theorem dX9_init_465 : decode cX9_init 465 = .ok (.bipush 80, 2) := dk_16 80 (dk_at dksX9_init_19 17 rfl rfl)
theorem dX9_init_467 : decode cX9_init 467 = .ok (.newarray .int, 2) := dk_188_10 (dk_at dksX9_init_19 19 rfl rfl)
theorem dX9_init_469 : decode cX9_init 469 = .ok (.putfield 183, 3) := dk_181 0 183 (dk_at dksX9_init_19 21 rfl rfl)
theorem dX9_init_472 : decode cX9_init 472 = .ok (.aload_n 0, 1) := dk_42 (dk_at dksX9_init_20 0 rfl rfl)
theorem dX9_init_473 : decode cX9_init 473 = .ok (.bipush 80, 2) := dk_16 80 (dk_at dksX9_init_20 1 rfl rfl)
theorem dX9_init_475 : decode cX9_init 475 = .ok (.newarray .int, 2) := dk_188_10 (dk_at dksX9_init_20 3 rfl rfl)
theorem dX9_init_477 : decode cX9_init 477 = .ok (.putfield 186, 3) := dk_181 0 186 (dk_at dksX9_init_20 5 rfl rfl)
theorem dX9_init_480 : decode cX9_init 480 = .ok (.aload_n 0, 1) := dk_42 (dk_at dksX9_init_20 8 rfl rfl)
theorem dX9_init_481 : decode cX9_init 481 = .ok (.bipush 80, 2) := dk_16 80 (dk_at dksX9_init_20 9 rfl rfl)
theorem dX9_init_483 : decode cX9_init 483 = .ok (.newarray .int, 2) := dk_188_10 (dk_at dksX9_init_20 11 rfl rfl)
theorem dX9_init_485 : decode cX9_init 485 = .ok (.putfield 189, 3) := dk_181 0 189 (dk_at dksX9_init_20 13 rfl rfl)
theorem dX9_init_488 : decode cX9_init 488 = .ok (.aload_n 0, 1) := dk_42 (dk_at dksX9_init_20 16 rfl rfl)
theorem dX9_init_489 : decode cX9_init 489 = .ok (.bipush 30, 2) := dk_16 30 (dk_at dksX9_init_20 17 rfl rfl)
theorem dX9_init_491 : decode cX9_init 491 = .ok (.newarray .int, 2) := dk_188_10 (dk_at dksX9_init_20 19 rfl rfl)
theorem dX9_init_493 : decode cX9_init 493 = .ok (.putfield 192, 3) := dk_181 0 192 (dk_at dksX9_init_20 21 rfl rfl)
theorem dX9_init_496 : decode cX9_init 496 = .ok (.aload_n 0, 1) := dk_42 (dk_at dksX9_init_21 0 rfl rfl)
theorem dX9_init_497 : decode cX9_init 497 = .ok (.ldc 195, 2) := dk_18 195 (dk_at dksX9_init_21 1 rfl rfl)
theorem dX9_init_499 : decode cX9_init 499 = .ok (.newarray .int, 2) := dk_188_10 (dk_at dksX9_init_21 3 rfl rfl)
theorem dX9_init_501 : decode cX9_init 501 = .ok (.putfield 196, 3) := dk_181 0 196 (dk_at dksX9_init_21 5 rfl rfl)
theorem dX9_init_504 : decode cX9_init 504 = .ok (.aload_n 0, 1) := dk_42 (dk_at dksX9_init_21 8 rfl rfl)
theorem dX9_init_505 : decode cX9_init 505 = .ok (.ldc 199, 2) := dk_18 199 (dk_at dksX9_init_21 9 rfl rfl)
theorem dX9_init_507 : decode cX9_init 507 = .ok (.newarray .int, 2) := dk_188_10 (dk_at dksX9_init_21 11 rfl rfl)
theorem dX9_init_509 : decode cX9_init 509 = .ok (.putfield 200, 3) := dk_181 0 200 (dk_at dksX9_init_21 13 rfl rfl)
theorem dX9_init_512 : decode cX9_init 512 = .ok (.aload_n 0, 1) := dk_42 (dk_at dksX9_init_21 16 rfl rfl)
theorem dX9_init_513 : decode cX9_init 513 = .ok (.bipush 10, 2) := dk_16 10 (dk_at dksX9_init_21 17 rfl rfl)
theorem dX9_init_515 : decode cX9_init 515 = .ok (.newarray .int, 2) := dk_188_10 (dk_at dksX9_init_21 19 rfl rfl)
theorem dX9_init_517 : decode cX9_init 517 = .ok (.putfield 203, 3) := dk_181 0 203 (dk_at dksX9_init_21 21 rfl rfl)
theorem dX9_init_520 : decode cX9_init 520 = .ok (.aload_n 0, 1) := dk_42 (dk_at dksX9_init_22 0 rfl rfl)
theorem dX9_init_521 : decode cX9_init 521 = .ok (.iconst 4, 1) := dk_7 (dk_at dksX9_init_22 1 rfl rfl)
theorem dX9_init_522 : decode cX9_init 522 = .ok (.newarray .int, 2) := dk_188_10 (dk_at dksX9_init_22 2 rfl rfl)
theorem dX9_init_524 : decode cX9_init 524 = .ok (.putfield 206, 3) := dk_181 0 206 (dk_at dksX9_init_22 4 rfl rfl)
theorem dX9_init_527 : decode cX9_init 527 = .ok (.aload_n 0, 1) := dk_42 (dk_at dksX9_init_22 7 rfl rfl)
theorem dX9_init_528 : decode cX9_init 528 = .ok (.iconst 4, 1) := dk_7 (dk_at dksX9_init_22 8 rfl rfl)
theorem dX9_init_529 : decode cX9_init 529 = .ok (.newarray .int, 2) := dk_188_10 (dk_at dksX9_init_22 9 rfl rfl)
theorem dX9_init_531 : decode cX9_init 531 = .ok (.putfield 209, 3) := dk_181 0 209 (dk_at dksX9_init_22 11 rfl rfl)
theorem dX9_init_534 : decode cX9_init 534 = .ok (.return_, 1) := dk_177 (dk_at dksX9_init_22 14 rfl rfl)
abbrev cX9_thrown : ByteArray := prog_35_method_2_code
def yX9_thrown : MethodName := ⟨RX9, "thrown", "()I"⟩
theorem dX9_thrown_0 : decode cX9_thrown 0 = .ok (.aload_n 0, 1) := by decide +kernel
theorem dX9_thrown_1 : decode cX9_thrown 1 = .ok (.getfield 212, 3) := by decide +kernel
theorem dX9_thrown_4 : decode cX9_thrown 4 = .ok (.ireturn, 1) := by decide +kernel
abbrev cX9_feed : ByteArray := prog_35_method_7_code
def yX9_feed : MethodName := ⟨RX9, "feed", "(JJJ)I"⟩
def dkwX9_feed_5 : List UInt8 := [167, 255, 147, 42, 180, 0, 218, 172]
abbrev dktX9_feed_5 : List UInt8 := dkwX9_feed_5 ++ []
def dkwX9_feed_4 : List UInt8 := [42, 180, 0, 7, 42, 180, 0, 218, 21, 10, 79, 42, 89, 180, 0, 218, 4, 96, 181, 0, 218, 132, 7, 1]
abbrev dktX9_feed_4 : List UInt8 := dkwX9_feed_4 ++ dktX9_feed_5
def dkwX9_feed_3 : List UInt8 := [162, 0, 45, 21, 10, 16, 10, 159, 0, 17, 21, 10, 16, 32, 161, 0, 31, 21, 10, 16, 126, 163, 0, 24]
abbrev dktX9_feed_3 : List UInt8 := dkwX9_feed_3 ++ dktX9_feed_4
def dkwX9_feed_2 : List UInt8 := [21, 7, 16, 7, 126, 104, 100, 125, 20, 0, 216, 127, 136, 54, 10, 42, 180, 0, 218, 17, 3, 232]
abbrev dktX9_feed_2 : List UInt8 := dkwX9_feed_2 ++ dktX9_feed_3
def dkwX9_feed_1 : List UInt8 := [167, 0, 16, 21, 7, 16, 16, 162, 0, 7, 33, 167, 0, 5, 22, 5, 55, 8, 22, 8, 16, 56, 16, 8]
abbrev dktX9_feed_1 : List UInt8 := dkwX9_feed_1 ++ dktX9_feed_2
def dkwX9_feed_0 : List UInt8 := [42, 3, 181, 0, 212, 3, 54, 7, 21, 7, 16, 24, 162, 0, 108, 21, 7, 16, 8, 162, 0, 7, 31]
abbrev dktX9_feed_0 : List UInt8 := dkwX9_feed_0 ++ dktX9_feed_1
theorem dksX9_feed_0 : cX9_feed.data.toList.drop 0 = dktX9_feed_0 := by decide +kernel
theorem dksX9_feed_1 : cX9_feed.data.toList.drop 23 = dktX9_feed_1 := dk_seg dksX9_feed_0 23 rfl rfl
theorem dksX9_feed_2 : cX9_feed.data.toList.drop 47 = dktX9_feed_2 := dk_seg dksX9_feed_1 24 rfl rfl
theorem dksX9_feed_3 : cX9_feed.data.toList.drop 69 = dktX9_feed_3 := dk_seg dksX9_feed_2 22 rfl rfl
theorem dksX9_feed_4 : cX9_feed.data.toList.drop 93 = dktX9_feed_4 := dk_seg dksX9_feed_3 24 rfl rfl
theorem dksX9_feed_5 : cX9_feed.data.toList.drop 117 = dktX9_feed_5 := dk_seg dksX9_feed_4 24 rfl rfl
theorem dX9_feed_0 : decode cX9_feed 0 = .ok (.aload_n 0, 1) := dk_42 (dk_at dksX9_feed_0 0 rfl rfl)
theorem dX9_feed_1 : decode cX9_feed 1 = .ok (.iconst 0, 1) := dk_3 (dk_at dksX9_feed_0 1 rfl rfl)
theorem dX9_feed_2 : decode cX9_feed 2 = .ok (.putfield 212, 3) := dk_181 0 212 (dk_at dksX9_feed_0 2 rfl rfl)
theorem dX9_feed_5 : decode cX9_feed 5 = .ok (.iconst 0, 1) := dk_3 (dk_at dksX9_feed_0 5 rfl rfl)
theorem dX9_feed_6 : decode cX9_feed 6 = .ok (.istore 7, 2) := dk_54 7 (dk_at dksX9_feed_0 6 rfl rfl)
theorem dX9_feed_8 : decode cX9_feed 8 = .ok (.iload 7, 2) := dk_21 7 (dk_at dksX9_feed_0 8 rfl rfl)
theorem dX9_feed_10 : decode cX9_feed 10 = .ok (.bipush 24, 2) := dk_16 24 (dk_at dksX9_feed_0 10 rfl rfl)
theorem dX9_feed_12 : decode cX9_feed 12 = .ok (.if_icmp .ge 108, 3) := dk_162 0 108 (dk_at dksX9_feed_0 12 rfl rfl)
theorem dX9_feed_15 : decode cX9_feed 15 = .ok (.iload 7, 2) := dk_21 7 (dk_at dksX9_feed_0 15 rfl rfl)
theorem dX9_feed_17 : decode cX9_feed 17 = .ok (.bipush 8, 2) := dk_16 8 (dk_at dksX9_feed_0 17 rfl rfl)
theorem dX9_feed_19 : decode cX9_feed 19 = .ok (.if_icmp .ge 7, 3) := dk_162 0 7 (dk_at dksX9_feed_0 19 rfl rfl)
theorem dX9_feed_22 : decode cX9_feed 22 = .ok (.lload_n 1, 1) := dk_31 (dk_at dksX9_feed_0 22 rfl rfl)
theorem dX9_feed_23 : decode cX9_feed 23 = .ok (.goto 16, 3) := dk_167 0 16 (dk_at dksX9_feed_1 0 rfl rfl)
theorem dX9_feed_26 : decode cX9_feed 26 = .ok (.iload 7, 2) := dk_21 7 (dk_at dksX9_feed_1 3 rfl rfl)
theorem dX9_feed_28 : decode cX9_feed 28 = .ok (.bipush 16, 2) := dk_16 16 (dk_at dksX9_feed_1 5 rfl rfl)
theorem dX9_feed_30 : decode cX9_feed 30 = .ok (.if_icmp .ge 7, 3) := dk_162 0 7 (dk_at dksX9_feed_1 7 rfl rfl)
theorem dX9_feed_33 : decode cX9_feed 33 = .ok (.lload_n 3, 1) := dk_33 (dk_at dksX9_feed_1 10 rfl rfl)
theorem dX9_feed_34 : decode cX9_feed 34 = .ok (.goto 5, 3) := dk_167 0 5 (dk_at dksX9_feed_1 11 rfl rfl)
theorem dX9_feed_37 : decode cX9_feed 37 = .ok (.lload 5, 2) := dk_22 5 (dk_at dksX9_feed_1 14 rfl rfl)
theorem dX9_feed_39 : decode cX9_feed 39 = .ok (.lstore 8, 2) := dk_55 8 (dk_at dksX9_feed_1 16 rfl rfl)
theorem dX9_feed_41 : decode cX9_feed 41 = .ok (.lload 8, 2) := dk_22 8 (dk_at dksX9_feed_1 18 rfl rfl)
theorem dX9_feed_43 : decode cX9_feed 43 = .ok (.bipush 56, 2) := dk_16 56 (dk_at dksX9_feed_1 20 rfl rfl)
theorem dX9_feed_45 : decode cX9_feed 45 = .ok (.bipush 8, 2) := dk_16 8 (dk_at dksX9_feed_1 22 rfl rfl)
theorem dX9_feed_47 : decode cX9_feed 47 = .ok (.iload 7, 2) := dk_21 7 (dk_at dksX9_feed_2 0 rfl rfl)
theorem dX9_feed_49 : decode cX9_feed 49 = .ok (.bipush 7, 2) := dk_16 7 (dk_at dksX9_feed_2 2 rfl rfl)
theorem dX9_feed_51 : decode cX9_feed 51 = .ok (.iand, 1) := dk_126 (dk_at dksX9_feed_2 4 rfl rfl)
theorem dX9_feed_52 : decode cX9_feed 52 = .ok (.imul, 1) := dk_104 (dk_at dksX9_feed_2 5 rfl rfl)
theorem dX9_feed_53 : decode cX9_feed 53 = .ok (.isub, 1) := dk_100 (dk_at dksX9_feed_2 6 rfl rfl)
theorem dX9_feed_54 : decode cX9_feed 54 = .ok (.lushr, 1) := dk_125 (dk_at dksX9_feed_2 7 rfl rfl)
theorem dX9_feed_55 : decode cX9_feed 55 = .ok (.ldc2_w 216, 3) := dk_20 0 216 (dk_at dksX9_feed_2 8 rfl rfl)
theorem dX9_feed_58 : decode cX9_feed 58 = .ok (.land, 1) := dk_127 (dk_at dksX9_feed_2 11 rfl rfl)
theorem dX9_feed_59 : decode cX9_feed 59 = .ok (.l2i, 1) := dk_136 (dk_at dksX9_feed_2 12 rfl rfl)
theorem dX9_feed_60 : decode cX9_feed 60 = .ok (.istore 10, 2) := dk_54 10 (dk_at dksX9_feed_2 13 rfl rfl)
theorem dX9_feed_62 : decode cX9_feed 62 = .ok (.aload_n 0, 1) := dk_42 (dk_at dksX9_feed_2 15 rfl rfl)
theorem dX9_feed_63 : decode cX9_feed 63 = .ok (.getfield 218, 3) := dk_180 0 218 (dk_at dksX9_feed_2 16 rfl rfl)
theorem dX9_feed_66 : decode cX9_feed 66 = .ok (.sipush 1000, 3) := dk_17 3 232 (dk_at dksX9_feed_2 19 rfl rfl)
theorem dX9_feed_69 : decode cX9_feed 69 = .ok (.if_icmp .ge 45, 3) := dk_162 0 45 (dk_at dksX9_feed_3 0 rfl rfl)
theorem dX9_feed_72 : decode cX9_feed 72 = .ok (.iload 10, 2) := dk_21 10 (dk_at dksX9_feed_3 3 rfl rfl)
theorem dX9_feed_74 : decode cX9_feed 74 = .ok (.bipush 10, 2) := dk_16 10 (dk_at dksX9_feed_3 5 rfl rfl)
theorem dX9_feed_76 : decode cX9_feed 76 = .ok (.if_icmp .eq 17, 3) := dk_159 0 17 (dk_at dksX9_feed_3 7 rfl rfl)
theorem dX9_feed_79 : decode cX9_feed 79 = .ok (.iload 10, 2) := dk_21 10 (dk_at dksX9_feed_3 10 rfl rfl)
theorem dX9_feed_81 : decode cX9_feed 81 = .ok (.bipush 32, 2) := dk_16 32 (dk_at dksX9_feed_3 12 rfl rfl)
theorem dX9_feed_83 : decode cX9_feed 83 = .ok (.if_icmp .lt 31, 3) := dk_161 0 31 (dk_at dksX9_feed_3 14 rfl rfl)
theorem dX9_feed_86 : decode cX9_feed 86 = .ok (.iload 10, 2) := dk_21 10 (dk_at dksX9_feed_3 17 rfl rfl)
theorem dX9_feed_88 : decode cX9_feed 88 = .ok (.bipush 126, 2) := dk_16 126 (dk_at dksX9_feed_3 19 rfl rfl)
theorem dX9_feed_90 : decode cX9_feed 90 = .ok (.if_icmp .gt 24, 3) := dk_163 0 24 (dk_at dksX9_feed_3 21 rfl rfl)
theorem dX9_feed_93 : decode cX9_feed 93 = .ok (.aload_n 0, 1) := dk_42 (dk_at dksX9_feed_4 0 rfl rfl)
theorem dX9_feed_94 : decode cX9_feed 94 = .ok (.getfield 7, 3) := dk_180 0 7 (dk_at dksX9_feed_4 1 rfl rfl)
theorem dX9_feed_97 : decode cX9_feed 97 = .ok (.aload_n 0, 1) := dk_42 (dk_at dksX9_feed_4 4 rfl rfl)
theorem dX9_feed_98 : decode cX9_feed 98 = .ok (.getfield 218, 3) := dk_180 0 218 (dk_at dksX9_feed_4 5 rfl rfl)
theorem dX9_feed_101 : decode cX9_feed 101 = .ok (.iload 10, 2) := dk_21 10 (dk_at dksX9_feed_4 8 rfl rfl)
theorem dX9_feed_103 : decode cX9_feed 103 = .ok (.iastore, 1) := dk_79 (dk_at dksX9_feed_4 10 rfl rfl)
theorem dX9_feed_104 : decode cX9_feed 104 = .ok (.aload_n 0, 1) := dk_42 (dk_at dksX9_feed_4 11 rfl rfl)
theorem dX9_feed_105 : decode cX9_feed 105 = .ok (.dup, 1) := dk_89 (dk_at dksX9_feed_4 12 rfl rfl)
theorem dX9_feed_106 : decode cX9_feed 106 = .ok (.getfield 218, 3) := dk_180 0 218 (dk_at dksX9_feed_4 13 rfl rfl)
theorem dX9_feed_109 : decode cX9_feed 109 = .ok (.iconst 1, 1) := dk_4 (dk_at dksX9_feed_4 16 rfl rfl)
theorem dX9_feed_110 : decode cX9_feed 110 = .ok (.iadd, 1) := dk_96 (dk_at dksX9_feed_4 17 rfl rfl)
theorem dX9_feed_111 : decode cX9_feed 111 = .ok (.putfield 218, 3) := dk_181 0 218 (dk_at dksX9_feed_4 18 rfl rfl)
theorem dX9_feed_114 : decode cX9_feed 114 = .ok (.iinc 7 1, 3) := dk_132 7 1 (dk_at dksX9_feed_4 21 rfl rfl)
theorem dX9_feed_117 : decode cX9_feed 117 = .ok (.goto (-109), 3) := dk_167 255 147 (dk_at dksX9_feed_5 0 rfl rfl)
theorem dX9_feed_120 : decode cX9_feed 120 = .ok (.aload_n 0, 1) := dk_42 (dk_at dksX9_feed_5 3 rfl rfl)
theorem dX9_feed_121 : decode cX9_feed 121 = .ok (.getfield 218, 3) := dk_180 0 218 (dk_at dksX9_feed_5 4 rfl rfl)
theorem dX9_feed_124 : decode cX9_feed 124 = .ok (.ireturn, 1) := dk_172 (dk_at dksX9_feed_5 7 rfl rfl)
abbrev cX9_orchard : ByteArray := prog_35_method_54_code
def yX9_orchard : MethodName := ⟨RX9, "orchard", "()I"⟩
def dkwX9_orchard_3 : List UInt8 := [3, 84, 132, 1, 1, 167, 255, 241, 3, 172]
abbrev dktX9_orchard_3 : List UInt8 := dkwX9_orchard_3 ++ []
def dkwX9_orchard_2 : List UInt8 := [42, 180, 0, 156, 3, 3, 79, 42, 3, 181, 1, 209, 3, 60, 27, 7, 162, 0, 16, 42, 180, 0, 180, 27]
abbrev dktX9_orchard_2 : List UInt8 := dkwX9_orchard_2 ++ dktX9_orchard_3
def dkwX9_orchard_1 : List UInt8 := [182, 1, 206, 42, 180, 0, 138, 3, 3, 79, 42, 180, 0, 150, 3, 3, 79, 42, 180, 0, 153, 3, 3, 79]
abbrev dktX9_orchard_1 : List UInt8 := dkwX9_orchard_1 ++ dktX9_orchard_2
def dkwX9_orchard_0 : List UInt8 := [42, 3, 181, 0, 212, 42, 182, 1, 200, 154, 0, 8, 42, 180, 0, 248, 172, 42, 182, 1, 203, 42]
abbrev dktX9_orchard_0 : List UInt8 := dkwX9_orchard_0 ++ dktX9_orchard_1
theorem dksX9_orchard_0 : cX9_orchard.data.toList.drop 0 = dktX9_orchard_0 := by decide +kernel
theorem dksX9_orchard_1 : cX9_orchard.data.toList.drop 22 = dktX9_orchard_1 := dk_seg dksX9_orchard_0 22 rfl rfl
theorem dksX9_orchard_2 : cX9_orchard.data.toList.drop 46 = dktX9_orchard_2 := dk_seg dksX9_orchard_1 24 rfl rfl
theorem dksX9_orchard_3 : cX9_orchard.data.toList.drop 70 = dktX9_orchard_3 := dk_seg dksX9_orchard_2 24 rfl rfl
theorem dX9_orchard_0 : decode cX9_orchard 0 = .ok (.aload_n 0, 1) := dk_42 (dk_at dksX9_orchard_0 0 rfl rfl)
theorem dX9_orchard_1 : decode cX9_orchard 1 = .ok (.iconst 0, 1) := dk_3 (dk_at dksX9_orchard_0 1 rfl rfl)
theorem dX9_orchard_2 : decode cX9_orchard 2 = .ok (.putfield 212, 3) := dk_181 0 212 (dk_at dksX9_orchard_0 2 rfl rfl)
theorem dX9_orchard_5 : decode cX9_orchard 5 = .ok (.aload_n 0, 1) := dk_42 (dk_at dksX9_orchard_0 5 rfl rfl)
theorem dX9_orchard_6 : decode cX9_orchard 6 = .ok (.invokevirtual 456, 3) := dk_182 1 200 (dk_at dksX9_orchard_0 6 rfl rfl)
theorem dX9_orchard_9 : decode cX9_orchard 9 = .ok (.ifCond .ne 8, 3) := dk_154 0 8 (dk_at dksX9_orchard_0 9 rfl rfl)
theorem dX9_orchard_12 : decode cX9_orchard 12 = .ok (.aload_n 0, 1) := dk_42 (dk_at dksX9_orchard_0 12 rfl rfl)
theorem dX9_orchard_13 : decode cX9_orchard 13 = .ok (.getfield 248, 3) := dk_180 0 248 (dk_at dksX9_orchard_0 13 rfl rfl)
theorem dX9_orchard_16 : decode cX9_orchard 16 = .ok (.ireturn, 1) := dk_172 (dk_at dksX9_orchard_0 16 rfl rfl)
theorem dX9_orchard_17 : decode cX9_orchard 17 = .ok (.aload_n 0, 1) := dk_42 (dk_at dksX9_orchard_0 17 rfl rfl)
theorem dX9_orchard_18 : decode cX9_orchard 18 = .ok (.invokevirtual 459, 3) := dk_182 1 203 (dk_at dksX9_orchard_0 18 rfl rfl)
theorem dX9_orchard_21 : decode cX9_orchard 21 = .ok (.aload_n 0, 1) := dk_42 (dk_at dksX9_orchard_0 21 rfl rfl)
theorem dX9_orchard_22 : decode cX9_orchard 22 = .ok (.invokevirtual 462, 3) := dk_182 1 206 (dk_at dksX9_orchard_1 0 rfl rfl)
theorem dX9_orchard_25 : decode cX9_orchard 25 = .ok (.aload_n 0, 1) := dk_42 (dk_at dksX9_orchard_1 3 rfl rfl)
theorem dX9_orchard_26 : decode cX9_orchard 26 = .ok (.getfield 138, 3) := dk_180 0 138 (dk_at dksX9_orchard_1 4 rfl rfl)
theorem dX9_orchard_29 : decode cX9_orchard 29 = .ok (.iconst 0, 1) := dk_3 (dk_at dksX9_orchard_1 7 rfl rfl)
theorem dX9_orchard_30 : decode cX9_orchard 30 = .ok (.iconst 0, 1) := dk_3 (dk_at dksX9_orchard_1 8 rfl rfl)
theorem dX9_orchard_31 : decode cX9_orchard 31 = .ok (.iastore, 1) := dk_79 (dk_at dksX9_orchard_1 9 rfl rfl)
theorem dX9_orchard_32 : decode cX9_orchard 32 = .ok (.aload_n 0, 1) := dk_42 (dk_at dksX9_orchard_1 10 rfl rfl)
theorem dX9_orchard_33 : decode cX9_orchard 33 = .ok (.getfield 150, 3) := dk_180 0 150 (dk_at dksX9_orchard_1 11 rfl rfl)
theorem dX9_orchard_36 : decode cX9_orchard 36 = .ok (.iconst 0, 1) := dk_3 (dk_at dksX9_orchard_1 14 rfl rfl)
theorem dX9_orchard_37 : decode cX9_orchard 37 = .ok (.iconst 0, 1) := dk_3 (dk_at dksX9_orchard_1 15 rfl rfl)
theorem dX9_orchard_38 : decode cX9_orchard 38 = .ok (.iastore, 1) := dk_79 (dk_at dksX9_orchard_1 16 rfl rfl)
theorem dX9_orchard_39 : decode cX9_orchard 39 = .ok (.aload_n 0, 1) := dk_42 (dk_at dksX9_orchard_1 17 rfl rfl)
theorem dX9_orchard_40 : decode cX9_orchard 40 = .ok (.getfield 153, 3) := dk_180 0 153 (dk_at dksX9_orchard_1 18 rfl rfl)
theorem dX9_orchard_43 : decode cX9_orchard 43 = .ok (.iconst 0, 1) := dk_3 (dk_at dksX9_orchard_1 21 rfl rfl)
theorem dX9_orchard_44 : decode cX9_orchard 44 = .ok (.iconst 0, 1) := dk_3 (dk_at dksX9_orchard_1 22 rfl rfl)
theorem dX9_orchard_45 : decode cX9_orchard 45 = .ok (.iastore, 1) := dk_79 (dk_at dksX9_orchard_1 23 rfl rfl)
theorem dX9_orchard_46 : decode cX9_orchard 46 = .ok (.aload_n 0, 1) := dk_42 (dk_at dksX9_orchard_2 0 rfl rfl)
theorem dX9_orchard_47 : decode cX9_orchard 47 = .ok (.getfield 156, 3) := dk_180 0 156 (dk_at dksX9_orchard_2 1 rfl rfl)
theorem dX9_orchard_50 : decode cX9_orchard 50 = .ok (.iconst 0, 1) := dk_3 (dk_at dksX9_orchard_2 4 rfl rfl)
theorem dX9_orchard_51 : decode cX9_orchard 51 = .ok (.iconst 0, 1) := dk_3 (dk_at dksX9_orchard_2 5 rfl rfl)
theorem dX9_orchard_52 : decode cX9_orchard 52 = .ok (.iastore, 1) := dk_79 (dk_at dksX9_orchard_2 6 rfl rfl)
theorem dX9_orchard_53 : decode cX9_orchard 53 = .ok (.aload_n 0, 1) := dk_42 (dk_at dksX9_orchard_2 7 rfl rfl)
theorem dX9_orchard_54 : decode cX9_orchard 54 = .ok (.iconst 0, 1) := dk_3 (dk_at dksX9_orchard_2 8 rfl rfl)
theorem dX9_orchard_55 : decode cX9_orchard 55 = .ok (.putfield 465, 3) := dk_181 1 209 (dk_at dksX9_orchard_2 9 rfl rfl)
theorem dX9_orchard_58 : decode cX9_orchard 58 = .ok (.iconst 0, 1) := dk_3 (dk_at dksX9_orchard_2 12 rfl rfl)
theorem dX9_orchard_59 : decode cX9_orchard 59 = .ok (.istore_n 1, 1) := dk_60 (dk_at dksX9_orchard_2 13 rfl rfl)
theorem dX9_orchard_60 : decode cX9_orchard 60 = .ok (.iload_n 1, 1) := dk_27 (dk_at dksX9_orchard_2 14 rfl rfl)
theorem dX9_orchard_61 : decode cX9_orchard 61 = .ok (.iconst 4, 1) := dk_7 (dk_at dksX9_orchard_2 15 rfl rfl)
theorem dX9_orchard_62 : decode cX9_orchard 62 = .ok (.if_icmp .ge 16, 3) := dk_162 0 16 (dk_at dksX9_orchard_2 16 rfl rfl)
theorem dX9_orchard_65 : decode cX9_orchard 65 = .ok (.aload_n 0, 1) := dk_42 (dk_at dksX9_orchard_2 19 rfl rfl)
theorem dX9_orchard_66 : decode cX9_orchard 66 = .ok (.getfield 180, 3) := dk_180 0 180 (dk_at dksX9_orchard_2 20 rfl rfl)
theorem dX9_orchard_69 : decode cX9_orchard 69 = .ok (.iload_n 1, 1) := dk_27 (dk_at dksX9_orchard_2 23 rfl rfl)
theorem dX9_orchard_70 : decode cX9_orchard 70 = .ok (.iconst 0, 1) := dk_3 (dk_at dksX9_orchard_3 0 rfl rfl)
theorem dX9_orchard_71 : decode cX9_orchard 71 = .ok (.bastore, 1) := dk_84 (dk_at dksX9_orchard_3 1 rfl rfl)
theorem dX9_orchard_72 : decode cX9_orchard 72 = .ok (.iinc 1 1, 3) := dk_132 1 1 (dk_at dksX9_orchard_3 2 rfl rfl)
theorem dX9_orchard_75 : decode cX9_orchard 75 = .ok (.goto (-15), 3) := dk_167 255 241 (dk_at dksX9_orchard_3 5 rfl rfl)
theorem dX9_orchard_78 : decode cX9_orchard 78 = .ok (.iconst 0, 1) := dk_3 (dk_at dksX9_orchard_3 8 rfl rfl)
theorem dX9_orchard_79 : decode cX9_orchard 79 = .ok (.ireturn, 1) := dk_172 (dk_at dksX9_orchard_3 9 rfl rfl)
abbrev cX9_readsAll : ByteArray := prog_35_method_42_code
def yX9_readsAll : MethodName := ⟨RX9, "readsAll", "()Z"⟩
def dkwX9_readsAll_10 : List UInt8 := [167, 255, 82, 4, 172]
abbrev dktX9_readsAll_10 : List UInt8 := dkwX9_readsAll_10 ++ []
def dkwX9_readsAll_9 : List UInt8 := [153, 0, 11, 42, 4, 182, 1, 172, 167, 0, 8, 42, 4, 182, 1, 27, 60, 27, 154, 0, 5, 3, 172]
abbrev dktX9_readsAll_9 : List UInt8 := dkwX9_readsAll_9 ++ dktX9_readsAll_10
def dkwX9_readsAll_8 : List UInt8 := [20, 1, 74, 182, 1, 19, 153, 0, 11, 42, 3, 182, 1, 172, 167, 0, 26, 42, 20, 1, 76, 182, 1, 19]
abbrev dktX9_readsAll_8 : List UInt8 := dkwX9_readsAll_8 ++ dktX9_readsAll_9
def dkwX9_readsAll_7 : List UInt8 := [182, 1, 166, 167, 0, 61, 42, 20, 1, 72, 182, 1, 19, 153, 0, 10, 42, 182, 1, 169, 167, 0, 44, 42]
abbrev dktX9_readsAll_7 : List UInt8 := dkwX9_readsAll_7 ++ dktX9_readsAll_8
def dkwX9_readsAll_6 : List UInt8 := [182, 1, 19, 153, 0, 10, 42, 182, 1, 163, 167, 0, 78, 42, 20, 1, 70, 182, 1, 19, 153, 0, 10, 42]
abbrev dktX9_readsAll_6 : List UInt8 := dkwX9_readsAll_6 ++ dktX9_readsAll_7
def dkwX9_readsAll_5 : List UInt8 := [167, 0, 112, 42, 20, 1, 62, 182, 1, 19, 153, 0, 10, 42, 182, 1, 160, 167, 0, 95, 42, 20, 1, 68]
abbrev dktX9_readsAll_5 : List UInt8 := dkwX9_readsAll_5 ++ dktX9_readsAll_6
def dkwX9_readsAll_4 : List UInt8 := [153, 0, 10, 42, 182, 1, 154, 167, 0, 129, 42, 20, 1, 60, 182, 1, 19, 153, 0, 10, 42, 182, 1, 157]
abbrev dktX9_readsAll_4 : List UInt8 := dkwX9_readsAll_4 ++ dktX9_readsAll_5
def dkwX9_readsAll_3 : List UInt8 := [42, 20, 1, 50, 182, 1, 19, 153, 0, 10, 42, 182, 1, 151, 167, 0, 146, 42, 20, 1, 58, 182, 1, 19]
abbrev dktX9_readsAll_3 : List UInt8 := dkwX9_readsAll_3 ++ dktX9_readsAll_4
def dkwX9_readsAll_2 : List UInt8 := [132, 1, 1, 167, 255, 230, 42, 17, 3, 232, 181, 0, 251, 42, 182, 1, 148, 42, 180, 0, 237, 153, 0, 173]
abbrev dktX9_readsAll_2 : List UInt8 := dkwX9_readsAll_2 ++ dktX9_readsAll_3
def dkwX9_readsAll_1 : List UInt8 := [27, 7, 162, 0, 27, 42, 180, 0, 71, 27, 17, 3, 232, 79, 42, 180, 0, 74, 27, 17, 3, 232, 79]
abbrev dktX9_readsAll_1 : List UInt8 := dkwX9_readsAll_1 ++ dktX9_readsAll_2
def dkwX9_readsAll_0 : List UInt8 := [16, 6, 60, 27, 16, 12, 162, 0, 16, 42, 180, 0, 13, 27, 3, 79, 132, 1, 1, 167, 255, 240, 5, 60]
abbrev dktX9_readsAll_0 : List UInt8 := dkwX9_readsAll_0 ++ dktX9_readsAll_1
theorem dksX9_readsAll_0 : cX9_readsAll.data.toList.drop 0 = dktX9_readsAll_0 := by decide +kernel
theorem dksX9_readsAll_1 : cX9_readsAll.data.toList.drop 24 = dktX9_readsAll_1 := dk_seg dksX9_readsAll_0 24 rfl rfl
theorem dksX9_readsAll_2 : cX9_readsAll.data.toList.drop 47 = dktX9_readsAll_2 := dk_seg dksX9_readsAll_1 23 rfl rfl
theorem dksX9_readsAll_3 : cX9_readsAll.data.toList.drop 71 = dktX9_readsAll_3 := dk_seg dksX9_readsAll_2 24 rfl rfl
theorem dksX9_readsAll_4 : cX9_readsAll.data.toList.drop 95 = dktX9_readsAll_4 := dk_seg dksX9_readsAll_3 24 rfl rfl
theorem dksX9_readsAll_5 : cX9_readsAll.data.toList.drop 119 = dktX9_readsAll_5 := dk_seg dksX9_readsAll_4 24 rfl rfl
theorem dksX9_readsAll_6 : cX9_readsAll.data.toList.drop 143 = dktX9_readsAll_6 := dk_seg dksX9_readsAll_5 24 rfl rfl
theorem dksX9_readsAll_7 : cX9_readsAll.data.toList.drop 167 = dktX9_readsAll_7 := dk_seg dksX9_readsAll_6 24 rfl rfl
theorem dksX9_readsAll_8 : cX9_readsAll.data.toList.drop 191 = dktX9_readsAll_8 := dk_seg dksX9_readsAll_7 24 rfl rfl
theorem dksX9_readsAll_9 : cX9_readsAll.data.toList.drop 215 = dktX9_readsAll_9 := dk_seg dksX9_readsAll_8 24 rfl rfl
theorem dksX9_readsAll_10 : cX9_readsAll.data.toList.drop 238 = dktX9_readsAll_10 := dk_seg dksX9_readsAll_9 23 rfl rfl
theorem dX9_readsAll_0 : decode cX9_readsAll 0 = .ok (.bipush 6, 2) := dk_16 6 (dk_at dksX9_readsAll_0 0 rfl rfl)
theorem dX9_readsAll_2 : decode cX9_readsAll 2 = .ok (.istore_n 1, 1) := dk_60 (dk_at dksX9_readsAll_0 2 rfl rfl)
theorem dX9_readsAll_3 : decode cX9_readsAll 3 = .ok (.iload_n 1, 1) := dk_27 (dk_at dksX9_readsAll_0 3 rfl rfl)
theorem dX9_readsAll_4 : decode cX9_readsAll 4 = .ok (.bipush 12, 2) := dk_16 12 (dk_at dksX9_readsAll_0 4 rfl rfl)
theorem dX9_readsAll_6 : decode cX9_readsAll 6 = .ok (.if_icmp .ge 16, 3) := dk_162 0 16 (dk_at dksX9_readsAll_0 6 rfl rfl)
theorem dX9_readsAll_9 : decode cX9_readsAll 9 = .ok (.aload_n 0, 1) := dk_42 (dk_at dksX9_readsAll_0 9 rfl rfl)
theorem dX9_readsAll_10 : decode cX9_readsAll 10 = .ok (.getfield 13, 3) := dk_180 0 13 (dk_at dksX9_readsAll_0 10 rfl rfl)
theorem dX9_readsAll_13 : decode cX9_readsAll 13 = .ok (.iload_n 1, 1) := dk_27 (dk_at dksX9_readsAll_0 13 rfl rfl)
theorem dX9_readsAll_14 : decode cX9_readsAll 14 = .ok (.iconst 0, 1) := dk_3 (dk_at dksX9_readsAll_0 14 rfl rfl)
theorem dX9_readsAll_15 : decode cX9_readsAll 15 = .ok (.iastore, 1) := dk_79 (dk_at dksX9_readsAll_0 15 rfl rfl)
theorem dX9_readsAll_16 : decode cX9_readsAll 16 = .ok (.iinc 1 1, 3) := dk_132 1 1 (dk_at dksX9_readsAll_0 16 rfl rfl)
theorem dX9_readsAll_19 : decode cX9_readsAll 19 = .ok (.goto (-16), 3) := dk_167 255 240 (dk_at dksX9_readsAll_0 19 rfl rfl)
theorem dX9_readsAll_22 : decode cX9_readsAll 22 = .ok (.iconst 2, 1) := dk_5 (dk_at dksX9_readsAll_0 22 rfl rfl)
theorem dX9_readsAll_23 : decode cX9_readsAll 23 = .ok (.istore_n 1, 1) := dk_60 (dk_at dksX9_readsAll_0 23 rfl rfl)
theorem dX9_readsAll_24 : decode cX9_readsAll 24 = .ok (.iload_n 1, 1) := dk_27 (dk_at dksX9_readsAll_1 0 rfl rfl)
theorem dX9_readsAll_25 : decode cX9_readsAll 25 = .ok (.iconst 4, 1) := dk_7 (dk_at dksX9_readsAll_1 1 rfl rfl)
theorem dX9_readsAll_26 : decode cX9_readsAll 26 = .ok (.if_icmp .ge 27, 3) := dk_162 0 27 (dk_at dksX9_readsAll_1 2 rfl rfl)
theorem dX9_readsAll_29 : decode cX9_readsAll 29 = .ok (.aload_n 0, 1) := dk_42 (dk_at dksX9_readsAll_1 5 rfl rfl)
theorem dX9_readsAll_30 : decode cX9_readsAll 30 = .ok (.getfield 71, 3) := dk_180 0 71 (dk_at dksX9_readsAll_1 6 rfl rfl)
theorem dX9_readsAll_33 : decode cX9_readsAll 33 = .ok (.iload_n 1, 1) := dk_27 (dk_at dksX9_readsAll_1 9 rfl rfl)
theorem dX9_readsAll_34 : decode cX9_readsAll 34 = .ok (.sipush 1000, 3) := dk_17 3 232 (dk_at dksX9_readsAll_1 10 rfl rfl)
theorem dX9_readsAll_37 : decode cX9_readsAll 37 = .ok (.iastore, 1) := dk_79 (dk_at dksX9_readsAll_1 13 rfl rfl)
theorem dX9_readsAll_38 : decode cX9_readsAll 38 = .ok (.aload_n 0, 1) := dk_42 (dk_at dksX9_readsAll_1 14 rfl rfl)
theorem dX9_readsAll_39 : decode cX9_readsAll 39 = .ok (.getfield 74, 3) := dk_180 0 74 (dk_at dksX9_readsAll_1 15 rfl rfl)
theorem dX9_readsAll_42 : decode cX9_readsAll 42 = .ok (.iload_n 1, 1) := dk_27 (dk_at dksX9_readsAll_1 18 rfl rfl)
theorem dX9_readsAll_43 : decode cX9_readsAll 43 = .ok (.sipush 1000, 3) := dk_17 3 232 (dk_at dksX9_readsAll_1 19 rfl rfl)
theorem dX9_readsAll_46 : decode cX9_readsAll 46 = .ok (.iastore, 1) := dk_79 (dk_at dksX9_readsAll_1 22 rfl rfl)
theorem dX9_readsAll_47 : decode cX9_readsAll 47 = .ok (.iinc 1 1, 3) := dk_132 1 1 (dk_at dksX9_readsAll_2 0 rfl rfl)
theorem dX9_readsAll_50 : decode cX9_readsAll 50 = .ok (.goto (-26), 3) := dk_167 255 230 (dk_at dksX9_readsAll_2 3 rfl rfl)
theorem dX9_readsAll_53 : decode cX9_readsAll 53 = .ok (.aload_n 0, 1) := dk_42 (dk_at dksX9_readsAll_2 6 rfl rfl)
theorem dX9_readsAll_54 : decode cX9_readsAll 54 = .ok (.sipush 1000, 3) := dk_17 3 232 (dk_at dksX9_readsAll_2 7 rfl rfl)
theorem dX9_readsAll_57 : decode cX9_readsAll 57 = .ok (.putfield 251, 3) := dk_181 0 251 (dk_at dksX9_readsAll_2 10 rfl rfl)
theorem dX9_readsAll_60 : decode cX9_readsAll 60 = .ok (.aload_n 0, 1) := dk_42 (dk_at dksX9_readsAll_2 13 rfl rfl)
theorem dX9_readsAll_61 : decode cX9_readsAll 61 = .ok (.invokevirtual 404, 3) := dk_182 1 148 (dk_at dksX9_readsAll_2 14 rfl rfl)
theorem dX9_readsAll_64 : decode cX9_readsAll 64 = .ok (.aload_n 0, 1) := dk_42 (dk_at dksX9_readsAll_2 17 rfl rfl)
theorem dX9_readsAll_65 : decode cX9_readsAll 65 = .ok (.getfield 237, 3) := dk_180 0 237 (dk_at dksX9_readsAll_2 18 rfl rfl)
theorem dX9_readsAll_68 : decode cX9_readsAll 68 = .ok (.ifCond .eq 173, 3) := dk_153 0 173 (dk_at dksX9_readsAll_2 21 rfl rfl)
theorem dX9_readsAll_71 : decode cX9_readsAll 71 = .ok (.aload_n 0, 1) := dk_42 (dk_at dksX9_readsAll_3 0 rfl rfl)
theorem dX9_readsAll_72 : decode cX9_readsAll 72 = .ok (.ldc2_w 306, 3) := dk_20 1 50 (dk_at dksX9_readsAll_3 1 rfl rfl)
theorem dX9_readsAll_75 : decode cX9_readsAll 75 = .ok (.invokevirtual 275, 3) := dk_182 1 19 (dk_at dksX9_readsAll_3 4 rfl rfl)
theorem dX9_readsAll_78 : decode cX9_readsAll 78 = .ok (.ifCond .eq 10, 3) := dk_153 0 10 (dk_at dksX9_readsAll_3 7 rfl rfl)
theorem dX9_readsAll_81 : decode cX9_readsAll 81 = .ok (.aload_n 0, 1) := dk_42 (dk_at dksX9_readsAll_3 10 rfl rfl)
theorem dX9_readsAll_82 : decode cX9_readsAll 82 = .ok (.invokevirtual 407, 3) := dk_182 1 151 (dk_at dksX9_readsAll_3 11 rfl rfl)
theorem dX9_readsAll_85 : decode cX9_readsAll 85 = .ok (.goto 146, 3) := dk_167 0 146 (dk_at dksX9_readsAll_3 14 rfl rfl)
theorem dX9_readsAll_88 : decode cX9_readsAll 88 = .ok (.aload_n 0, 1) := dk_42 (dk_at dksX9_readsAll_3 17 rfl rfl)
theorem dX9_readsAll_89 : decode cX9_readsAll 89 = .ok (.ldc2_w 314, 3) := dk_20 1 58 (dk_at dksX9_readsAll_3 18 rfl rfl)
theorem dX9_readsAll_92 : decode cX9_readsAll 92 = .ok (.invokevirtual 275, 3) := dk_182 1 19 (dk_at dksX9_readsAll_3 21 rfl rfl)
theorem dX9_readsAll_95 : decode cX9_readsAll 95 = .ok (.ifCond .eq 10, 3) := dk_153 0 10 (dk_at dksX9_readsAll_4 0 rfl rfl)
theorem dX9_readsAll_98 : decode cX9_readsAll 98 = .ok (.aload_n 0, 1) := dk_42 (dk_at dksX9_readsAll_4 3 rfl rfl)
theorem dX9_readsAll_99 : decode cX9_readsAll 99 = .ok (.invokevirtual 410, 3) := dk_182 1 154 (dk_at dksX9_readsAll_4 4 rfl rfl)
theorem dX9_readsAll_102 : decode cX9_readsAll 102 = .ok (.goto 129, 3) := dk_167 0 129 (dk_at dksX9_readsAll_4 7 rfl rfl)
theorem dX9_readsAll_105 : decode cX9_readsAll 105 = .ok (.aload_n 0, 1) := dk_42 (dk_at dksX9_readsAll_4 10 rfl rfl)
theorem dX9_readsAll_106 : decode cX9_readsAll 106 = .ok (.ldc2_w 316, 3) := dk_20 1 60 (dk_at dksX9_readsAll_4 11 rfl rfl)
theorem dX9_readsAll_109 : decode cX9_readsAll 109 = .ok (.invokevirtual 275, 3) := dk_182 1 19 (dk_at dksX9_readsAll_4 14 rfl rfl)
theorem dX9_readsAll_112 : decode cX9_readsAll 112 = .ok (.ifCond .eq 10, 3) := dk_153 0 10 (dk_at dksX9_readsAll_4 17 rfl rfl)
theorem dX9_readsAll_115 : decode cX9_readsAll 115 = .ok (.aload_n 0, 1) := dk_42 (dk_at dksX9_readsAll_4 20 rfl rfl)
theorem dX9_readsAll_116 : decode cX9_readsAll 116 = .ok (.invokevirtual 413, 3) := dk_182 1 157 (dk_at dksX9_readsAll_4 21 rfl rfl)
theorem dX9_readsAll_119 : decode cX9_readsAll 119 = .ok (.goto 112, 3) := dk_167 0 112 (dk_at dksX9_readsAll_5 0 rfl rfl)
theorem dX9_readsAll_122 : decode cX9_readsAll 122 = .ok (.aload_n 0, 1) := dk_42 (dk_at dksX9_readsAll_5 3 rfl rfl)
theorem dX9_readsAll_123 : decode cX9_readsAll 123 = .ok (.ldc2_w 318, 3) := dk_20 1 62 (dk_at dksX9_readsAll_5 4 rfl rfl)
theorem dX9_readsAll_126 : decode cX9_readsAll 126 = .ok (.invokevirtual 275, 3) := dk_182 1 19 (dk_at dksX9_readsAll_5 7 rfl rfl)
theorem dX9_readsAll_129 : decode cX9_readsAll 129 = .ok (.ifCond .eq 10, 3) := dk_153 0 10 (dk_at dksX9_readsAll_5 10 rfl rfl)
theorem dX9_readsAll_132 : decode cX9_readsAll 132 = .ok (.aload_n 0, 1) := dk_42 (dk_at dksX9_readsAll_5 13 rfl rfl)
theorem dX9_readsAll_133 : decode cX9_readsAll 133 = .ok (.invokevirtual 416, 3) := dk_182 1 160 (dk_at dksX9_readsAll_5 14 rfl rfl)
theorem dX9_readsAll_136 : decode cX9_readsAll 136 = .ok (.goto 95, 3) := dk_167 0 95 (dk_at dksX9_readsAll_5 17 rfl rfl)
theorem dX9_readsAll_139 : decode cX9_readsAll 139 = .ok (.aload_n 0, 1) := dk_42 (dk_at dksX9_readsAll_5 20 rfl rfl)
theorem dX9_readsAll_140 : decode cX9_readsAll 140 = .ok (.ldc2_w 324, 3) := dk_20 1 68 (dk_at dksX9_readsAll_5 21 rfl rfl)
theorem dX9_readsAll_143 : decode cX9_readsAll 143 = .ok (.invokevirtual 275, 3) := dk_182 1 19 (dk_at dksX9_readsAll_6 0 rfl rfl)
theorem dX9_readsAll_146 : decode cX9_readsAll 146 = .ok (.ifCond .eq 10, 3) := dk_153 0 10 (dk_at dksX9_readsAll_6 3 rfl rfl)
theorem dX9_readsAll_149 : decode cX9_readsAll 149 = .ok (.aload_n 0, 1) := dk_42 (dk_at dksX9_readsAll_6 6 rfl rfl)
theorem dX9_readsAll_150 : decode cX9_readsAll 150 = .ok (.invokevirtual 419, 3) := dk_182 1 163 (dk_at dksX9_readsAll_6 7 rfl rfl)
theorem dX9_readsAll_153 : decode cX9_readsAll 153 = .ok (.goto 78, 3) := dk_167 0 78 (dk_at dksX9_readsAll_6 10 rfl rfl)
theorem dX9_readsAll_156 : decode cX9_readsAll 156 = .ok (.aload_n 0, 1) := dk_42 (dk_at dksX9_readsAll_6 13 rfl rfl)
theorem dX9_readsAll_157 : decode cX9_readsAll 157 = .ok (.ldc2_w 326, 3) := dk_20 1 70 (dk_at dksX9_readsAll_6 14 rfl rfl)
theorem dX9_readsAll_160 : decode cX9_readsAll 160 = .ok (.invokevirtual 275, 3) := dk_182 1 19 (dk_at dksX9_readsAll_6 17 rfl rfl)
theorem dX9_readsAll_163 : decode cX9_readsAll 163 = .ok (.ifCond .eq 10, 3) := dk_153 0 10 (dk_at dksX9_readsAll_6 20 rfl rfl)
theorem dX9_readsAll_166 : decode cX9_readsAll 166 = .ok (.aload_n 0, 1) := dk_42 (dk_at dksX9_readsAll_6 23 rfl rfl)
theorem dX9_readsAll_167 : decode cX9_readsAll 167 = .ok (.invokevirtual 422, 3) := dk_182 1 166 (dk_at dksX9_readsAll_7 0 rfl rfl)
theorem dX9_readsAll_170 : decode cX9_readsAll 170 = .ok (.goto 61, 3) := dk_167 0 61 (dk_at dksX9_readsAll_7 3 rfl rfl)
theorem dX9_readsAll_173 : decode cX9_readsAll 173 = .ok (.aload_n 0, 1) := dk_42 (dk_at dksX9_readsAll_7 6 rfl rfl)
theorem dX9_readsAll_174 : decode cX9_readsAll 174 = .ok (.ldc2_w 328, 3) := dk_20 1 72 (dk_at dksX9_readsAll_7 7 rfl rfl)
theorem dX9_readsAll_177 : decode cX9_readsAll 177 = .ok (.invokevirtual 275, 3) := dk_182 1 19 (dk_at dksX9_readsAll_7 10 rfl rfl)
theorem dX9_readsAll_180 : decode cX9_readsAll 180 = .ok (.ifCond .eq 10, 3) := dk_153 0 10 (dk_at dksX9_readsAll_7 13 rfl rfl)
theorem dX9_readsAll_183 : decode cX9_readsAll 183 = .ok (.aload_n 0, 1) := dk_42 (dk_at dksX9_readsAll_7 16 rfl rfl)
theorem dX9_readsAll_184 : decode cX9_readsAll 184 = .ok (.invokevirtual 425, 3) := dk_182 1 169 (dk_at dksX9_readsAll_7 17 rfl rfl)
theorem dX9_readsAll_187 : decode cX9_readsAll 187 = .ok (.goto 44, 3) := dk_167 0 44 (dk_at dksX9_readsAll_7 20 rfl rfl)
theorem dX9_readsAll_190 : decode cX9_readsAll 190 = .ok (.aload_n 0, 1) := dk_42 (dk_at dksX9_readsAll_7 23 rfl rfl)
theorem dX9_readsAll_191 : decode cX9_readsAll 191 = .ok (.ldc2_w 330, 3) := dk_20 1 74 (dk_at dksX9_readsAll_8 0 rfl rfl)
theorem dX9_readsAll_194 : decode cX9_readsAll 194 = .ok (.invokevirtual 275, 3) := dk_182 1 19 (dk_at dksX9_readsAll_8 3 rfl rfl)
theorem dX9_readsAll_197 : decode cX9_readsAll 197 = .ok (.ifCond .eq 11, 3) := dk_153 0 11 (dk_at dksX9_readsAll_8 6 rfl rfl)
theorem dX9_readsAll_200 : decode cX9_readsAll 200 = .ok (.aload_n 0, 1) := dk_42 (dk_at dksX9_readsAll_8 9 rfl rfl)
theorem dX9_readsAll_201 : decode cX9_readsAll 201 = .ok (.iconst 0, 1) := dk_3 (dk_at dksX9_readsAll_8 10 rfl rfl)
theorem dX9_readsAll_202 : decode cX9_readsAll 202 = .ok (.invokevirtual 428, 3) := dk_182 1 172 (dk_at dksX9_readsAll_8 11 rfl rfl)
theorem dX9_readsAll_205 : decode cX9_readsAll 205 = .ok (.goto 26, 3) := dk_167 0 26 (dk_at dksX9_readsAll_8 14 rfl rfl)
theorem dX9_readsAll_208 : decode cX9_readsAll 208 = .ok (.aload_n 0, 1) := dk_42 (dk_at dksX9_readsAll_8 17 rfl rfl)
theorem dX9_readsAll_209 : decode cX9_readsAll 209 = .ok (.ldc2_w 332, 3) := dk_20 1 76 (dk_at dksX9_readsAll_8 18 rfl rfl)
theorem dX9_readsAll_212 : decode cX9_readsAll 212 = .ok (.invokevirtual 275, 3) := dk_182 1 19 (dk_at dksX9_readsAll_8 21 rfl rfl)
theorem dX9_readsAll_215 : decode cX9_readsAll 215 = .ok (.ifCond .eq 11, 3) := dk_153 0 11 (dk_at dksX9_readsAll_9 0 rfl rfl)
theorem dX9_readsAll_218 : decode cX9_readsAll 218 = .ok (.aload_n 0, 1) := dk_42 (dk_at dksX9_readsAll_9 3 rfl rfl)
theorem dX9_readsAll_219 : decode cX9_readsAll 219 = .ok (.iconst 1, 1) := dk_4 (dk_at dksX9_readsAll_9 4 rfl rfl)
theorem dX9_readsAll_220 : decode cX9_readsAll 220 = .ok (.invokevirtual 428, 3) := dk_182 1 172 (dk_at dksX9_readsAll_9 5 rfl rfl)
theorem dX9_readsAll_223 : decode cX9_readsAll 223 = .ok (.goto 8, 3) := dk_167 0 8 (dk_at dksX9_readsAll_9 8 rfl rfl)
theorem dX9_readsAll_226 : decode cX9_readsAll 226 = .ok (.aload_n 0, 1) := dk_42 (dk_at dksX9_readsAll_9 11 rfl rfl)
theorem dX9_readsAll_227 : decode cX9_readsAll 227 = .ok (.iconst 1, 1) := dk_4 (dk_at dksX9_readsAll_9 12 rfl rfl)
theorem dX9_readsAll_228 : decode cX9_readsAll 228 = .ok (.invokevirtual 283, 3) := dk_182 1 27 (dk_at dksX9_readsAll_9 13 rfl rfl)
theorem dX9_readsAll_231 : decode cX9_readsAll 231 = .ok (.istore_n 1, 1) := dk_60 (dk_at dksX9_readsAll_9 16 rfl rfl)
theorem dX9_readsAll_232 : decode cX9_readsAll 232 = .ok (.iload_n 1, 1) := dk_27 (dk_at dksX9_readsAll_9 17 rfl rfl)
theorem dX9_readsAll_233 : decode cX9_readsAll 233 = .ok (.ifCond .ne 5, 3) := dk_154 0 5 (dk_at dksX9_readsAll_9 18 rfl rfl)
theorem dX9_readsAll_236 : decode cX9_readsAll 236 = .ok (.iconst 0, 1) := dk_3 (dk_at dksX9_readsAll_9 21 rfl rfl)
theorem dX9_readsAll_237 : decode cX9_readsAll 237 = .ok (.ireturn, 1) := dk_172 (dk_at dksX9_readsAll_9 22 rfl rfl)
theorem dX9_readsAll_238 : decode cX9_readsAll 238 = .ok (.goto (-174), 3) := dk_167 255 82 (dk_at dksX9_readsAll_10 0 rfl rfl)
theorem dX9_readsAll_241 : decode cX9_readsAll 241 = .ok (.iconst 1, 1) := dk_4 (dk_at dksX9_readsAll_10 3 rfl rfl)
theorem dX9_readsAll_242 : decode cX9_readsAll 242 = .ok (.ireturn, 1) := dk_172 (dk_at dksX9_readsAll_10 4 rfl rfl)
abbrev cX9_starts : ByteArray := prog_35_method_41_code
def yX9_starts : MethodName := ⟨RX9, "starts", "()V"⟩
def dkwX9_starts_0 : List UInt8 := [42, 42, 180, 0, 218, 181, 0, 221, 42, 3, 181, 0, 218, 42, 3, 181, 0, 224, 42, 182, 1, 34, 177]
abbrev dktX9_starts_0 : List UInt8 := dkwX9_starts_0 ++ []
theorem dksX9_starts_0 : cX9_starts.data.toList.drop 0 = dktX9_starts_0 := by decide +kernel
theorem dX9_starts_0 : decode cX9_starts 0 = .ok (.aload_n 0, 1) := dk_42 (dk_at dksX9_starts_0 0 rfl rfl)
theorem dX9_starts_1 : decode cX9_starts 1 = .ok (.aload_n 0, 1) := dk_42 (dk_at dksX9_starts_0 1 rfl rfl)
theorem dX9_starts_2 : decode cX9_starts 2 = .ok (.getfield 218, 3) := dk_180 0 218 (dk_at dksX9_starts_0 2 rfl rfl)
theorem dX9_starts_5 : decode cX9_starts 5 = .ok (.putfield 221, 3) := dk_181 0 221 (dk_at dksX9_starts_0 5 rfl rfl)
theorem dX9_starts_8 : decode cX9_starts 8 = .ok (.aload_n 0, 1) := dk_42 (dk_at dksX9_starts_0 8 rfl rfl)
theorem dX9_starts_9 : decode cX9_starts 9 = .ok (.iconst 0, 1) := dk_3 (dk_at dksX9_starts_0 9 rfl rfl)
theorem dX9_starts_10 : decode cX9_starts 10 = .ok (.putfield 218, 3) := dk_181 0 218 (dk_at dksX9_starts_0 10 rfl rfl)
theorem dX9_starts_13 : decode cX9_starts 13 = .ok (.aload_n 0, 1) := dk_42 (dk_at dksX9_starts_0 13 rfl rfl)
theorem dX9_starts_14 : decode cX9_starts 14 = .ok (.iconst 0, 1) := dk_3 (dk_at dksX9_starts_0 14 rfl rfl)
theorem dX9_starts_15 : decode cX9_starts 15 = .ok (.putfield 224, 3) := dk_181 0 224 (dk_at dksX9_starts_0 15 rfl rfl)
theorem dX9_starts_18 : decode cX9_starts 18 = .ok (.aload_n 0, 1) := dk_42 (dk_at dksX9_starts_0 18 rfl rfl)
theorem dX9_starts_19 : decode cX9_starts 19 = .ok (.invokevirtual 290, 3) := dk_182 1 34 (dk_at dksX9_starts_0 19 rfl rfl)
theorem dX9_starts_22 : decode cX9_starts 22 = .ok (.return_, 1) := dk_177 (dk_at dksX9_starts_0 22 rfl rfl)
abbrev cX9_nextToken : ByteArray := prog_35_method_9_code
def yX9_nextToken : MethodName := ⟨RX9, "nextToken", "()V"⟩
def dkwX9_nextToken_16 : List UInt8 := [167, 0, 4, 7, 181, 0, 237, 177]
abbrev dktX9_nextToken_16 : List UInt8 := dkwX9_nextToken_16 ++ []
def dkwX9_nextToken_15 : List UInt8 := [164, 0, 21, 27, 16, 45, 159, 0, 15, 27, 16, 59, 161, 0, 13, 27, 16, 61, 163, 0, 7, 6]
abbrev dktX9_nextToken_15 : List UInt8 := dkwX9_nextToken_15 ++ dktX9_nextToken_16
def dkwX9_nextToken_14 : List UInt8 := [181, 0, 237, 177, 42, 89, 180, 0, 224, 4, 96, 181, 0, 224, 42, 27, 16, 40, 161, 0, 9, 27, 16, 43]
abbrev dktX9_nextToken_14 : List UInt8 := dkwX9_nextToken_14 ++ dktX9_nextToken_15
def dkwX9_nextToken_13 : List UInt8 := [167, 255, 184, 42, 42, 180, 0, 224, 42, 180, 0, 227, 100, 7, 164, 0, 7, 7, 167, 0, 4, 5]
abbrev dktX9_nextToken_13 : List UInt8 := dkwX9_nextToken_13 ++ dktX9_nextToken_14
def dkwX9_nextToken_12 : List UInt8 := [180, 0, 224, 182, 0, 240, 96, 16, 48, 100, 181, 0, 234, 42, 89, 180, 0, 224, 4, 96, 181, 0, 224]
abbrev dktX9_nextToken_12 : List UInt8 := dkwX9_nextToken_12 ++ dktX9_nextToken_13
def dkwX9_nextToken_11 : List UInt8 := [42, 180, 0, 224, 42, 180, 0, 227, 100, 7, 162, 0, 26, 42, 42, 180, 0, 234, 16, 10, 104, 42, 42]
abbrev dktX9_nextToken_11 : List UInt8 := dkwX9_nextToken_11 ++ dktX9_nextToken_12
def dkwX9_nextToken_10 : List UInt8 := [180, 0, 224, 182, 0, 240, 16, 48, 161, 0, 65, 42, 42, 180, 0, 224, 182, 0, 240, 16, 57, 163, 0, 52]
abbrev dktX9_nextToken_10 : List UInt8 := dkwX9_nextToken_10 ++ dktX9_nextToken_11
def dkwX9_nextToken_9 : List UInt8 := [167, 0, 4, 4, 181, 0, 237, 177, 27, 16, 48, 161, 0, 107, 27, 16, 57, 163, 0, 101, 42, 42]
abbrev dktX9_nextToken_9 : List UInt8 := dkwX9_nextToken_9 ++ dktX9_nextToken_10
def dkwX9_nextToken_8 : List UInt8 := [181, 0, 224, 167, 255, 180, 42, 42, 180, 0, 224, 42, 180, 0, 227, 100, 16, 8, 164, 0, 7, 7]
abbrev dktX9_nextToken_8 : List UInt8 := dkwX9_nextToken_8 ++ dktX9_nextToken_9
def dkwX9_nextToken_7 : List UInt8 := [180, 0, 224, 182, 0, 240, 133, 97, 20, 0, 246, 101, 181, 0, 230, 42, 89, 180, 0, 224, 4, 96]
abbrev dktX9_nextToken_7 : List UInt8 := dkwX9_nextToken_7 ++ dktX9_nextToken_8
def dkwX9_nextToken_6 : List UInt8 := [180, 0, 224, 42, 180, 0, 227, 100, 16, 8, 162, 0, 29, 42, 42, 180, 0, 230, 20, 0, 244, 105, 42, 42]
abbrev dktX9_nextToken_6 : List UInt8 := dkwX9_nextToken_6 ++ dktX9_nextToken_7
def dkwX9_nextToken_5 : List UInt8 := [182, 0, 240, 16, 97, 161, 0, 69, 42, 42, 180, 0, 224, 182, 0, 240, 16, 122, 163, 0, 56, 42]
abbrev dktX9_nextToken_5 : List UInt8 := dkwX9_nextToken_5 ++ dktX9_nextToken_6
def dkwX9_nextToken_4 : List UInt8 := [180, 0, 224, 46, 60, 27, 16, 97, 161, 0, 112, 27, 16, 122, 163, 0, 106, 42, 42, 180, 0, 224]
abbrev dktX9_nextToken_4 : List UInt8 := dkwX9_nextToken_4 ++ dktX9_nextToken_5
def dkwX9_nextToken_3 : List UInt8 := [42, 180, 0, 224, 42, 180, 0, 221, 160, 0, 9, 42, 3, 181, 0, 237, 177, 42, 180, 0, 7, 42]
abbrev dktX9_nextToken_3 : List UInt8 := dkwX9_nextToken_3 ++ dktX9_nextToken_4
def dkwX9_nextToken_2 : List UInt8 := [181, 0, 224, 167, 255, 207, 42, 42, 180, 0, 224, 181, 0, 227, 42, 9, 181, 0, 230, 42, 3, 181, 0, 234]
abbrev dktX9_nextToken_2 : List UInt8 := dkwX9_nextToken_2 ++ dktX9_nextToken_3
def dkwX9_nextToken_1 : List UInt8 := [159, 0, 17, 42, 180, 0, 7, 42, 180, 0, 224, 46, 16, 10, 160, 0, 16, 42, 89, 180, 0, 224, 4, 96]
abbrev dktX9_nextToken_1 : List UInt8 := dkwX9_nextToken_1 ++ dktX9_nextToken_2
def dkwX9_nextToken_0 : List UInt8 := [42, 180, 0, 224, 42, 180, 0, 221, 162, 0, 44, 42, 180, 0, 7, 42, 180, 0, 224, 46, 16, 32]
abbrev dktX9_nextToken_0 : List UInt8 := dkwX9_nextToken_0 ++ dktX9_nextToken_1
theorem dksX9_nextToken_0 : cX9_nextToken.data.toList.drop 0 = dktX9_nextToken_0 := by decide +kernel
theorem dksX9_nextToken_1 : cX9_nextToken.data.toList.drop 22 = dktX9_nextToken_1 := dk_seg dksX9_nextToken_0 22 rfl rfl
theorem dksX9_nextToken_2 : cX9_nextToken.data.toList.drop 46 = dktX9_nextToken_2 := dk_seg dksX9_nextToken_1 24 rfl rfl
theorem dksX9_nextToken_3 : cX9_nextToken.data.toList.drop 70 = dktX9_nextToken_3 := dk_seg dksX9_nextToken_2 24 rfl rfl
theorem dksX9_nextToken_4 : cX9_nextToken.data.toList.drop 92 = dktX9_nextToken_4 := dk_seg dksX9_nextToken_3 22 rfl rfl
theorem dksX9_nextToken_5 : cX9_nextToken.data.toList.drop 114 = dktX9_nextToken_5 := dk_seg dksX9_nextToken_4 22 rfl rfl
theorem dksX9_nextToken_6 : cX9_nextToken.data.toList.drop 136 = dktX9_nextToken_6 := dk_seg dksX9_nextToken_5 22 rfl rfl
theorem dksX9_nextToken_7 : cX9_nextToken.data.toList.drop 160 = dktX9_nextToken_7 := dk_seg dksX9_nextToken_6 24 rfl rfl
theorem dksX9_nextToken_8 : cX9_nextToken.data.toList.drop 182 = dktX9_nextToken_8 := dk_seg dksX9_nextToken_7 22 rfl rfl
theorem dksX9_nextToken_9 : cX9_nextToken.data.toList.drop 204 = dktX9_nextToken_9 := dk_seg dksX9_nextToken_8 22 rfl rfl
theorem dksX9_nextToken_10 : cX9_nextToken.data.toList.drop 226 = dktX9_nextToken_10 := dk_seg dksX9_nextToken_9 22 rfl rfl
theorem dksX9_nextToken_11 : cX9_nextToken.data.toList.drop 250 = dktX9_nextToken_11 := dk_seg dksX9_nextToken_10 24 rfl rfl
theorem dksX9_nextToken_12 : cX9_nextToken.data.toList.drop 273 = dktX9_nextToken_12 := dk_seg dksX9_nextToken_11 23 rfl rfl
theorem dksX9_nextToken_13 : cX9_nextToken.data.toList.drop 296 = dktX9_nextToken_13 := dk_seg dksX9_nextToken_12 23 rfl rfl
theorem dksX9_nextToken_14 : cX9_nextToken.data.toList.drop 318 = dktX9_nextToken_14 := dk_seg dksX9_nextToken_13 22 rfl rfl
theorem dksX9_nextToken_15 : cX9_nextToken.data.toList.drop 342 = dktX9_nextToken_15 := dk_seg dksX9_nextToken_14 24 rfl rfl
theorem dksX9_nextToken_16 : cX9_nextToken.data.toList.drop 364 = dktX9_nextToken_16 := dk_seg dksX9_nextToken_15 22 rfl rfl
theorem dX9_nextToken_0 : decode cX9_nextToken 0 = .ok (.aload_n 0, 1) := dk_42 (dk_at dksX9_nextToken_0 0 rfl rfl)
theorem dX9_nextToken_1 : decode cX9_nextToken 1 = .ok (.getfield 224, 3) := dk_180 0 224 (dk_at dksX9_nextToken_0 1 rfl rfl)
theorem dX9_nextToken_4 : decode cX9_nextToken 4 = .ok (.aload_n 0, 1) := dk_42 (dk_at dksX9_nextToken_0 4 rfl rfl)
theorem dX9_nextToken_5 : decode cX9_nextToken 5 = .ok (.getfield 221, 3) := dk_180 0 221 (dk_at dksX9_nextToken_0 5 rfl rfl)
theorem dX9_nextToken_8 : decode cX9_nextToken 8 = .ok (.if_icmp .ge 44, 3) := dk_162 0 44 (dk_at dksX9_nextToken_0 8 rfl rfl)
theorem dX9_nextToken_11 : decode cX9_nextToken 11 = .ok (.aload_n 0, 1) := dk_42 (dk_at dksX9_nextToken_0 11 rfl rfl)
theorem dX9_nextToken_12 : decode cX9_nextToken 12 = .ok (.getfield 7, 3) := dk_180 0 7 (dk_at dksX9_nextToken_0 12 rfl rfl)
theorem dX9_nextToken_15 : decode cX9_nextToken 15 = .ok (.aload_n 0, 1) := dk_42 (dk_at dksX9_nextToken_0 15 rfl rfl)
theorem dX9_nextToken_16 : decode cX9_nextToken 16 = .ok (.getfield 224, 3) := dk_180 0 224 (dk_at dksX9_nextToken_0 16 rfl rfl)
theorem dX9_nextToken_19 : decode cX9_nextToken 19 = .ok (.iaload, 1) := dk_46 (dk_at dksX9_nextToken_0 19 rfl rfl)
theorem dX9_nextToken_20 : decode cX9_nextToken 20 = .ok (.bipush 32, 2) := dk_16 32 (dk_at dksX9_nextToken_0 20 rfl rfl)
theorem dX9_nextToken_22 : decode cX9_nextToken 22 = .ok (.if_icmp .eq 17, 3) := dk_159 0 17 (dk_at dksX9_nextToken_1 0 rfl rfl)
theorem dX9_nextToken_25 : decode cX9_nextToken 25 = .ok (.aload_n 0, 1) := dk_42 (dk_at dksX9_nextToken_1 3 rfl rfl)
theorem dX9_nextToken_26 : decode cX9_nextToken 26 = .ok (.getfield 7, 3) := dk_180 0 7 (dk_at dksX9_nextToken_1 4 rfl rfl)
theorem dX9_nextToken_29 : decode cX9_nextToken 29 = .ok (.aload_n 0, 1) := dk_42 (dk_at dksX9_nextToken_1 7 rfl rfl)
theorem dX9_nextToken_30 : decode cX9_nextToken 30 = .ok (.getfield 224, 3) := dk_180 0 224 (dk_at dksX9_nextToken_1 8 rfl rfl)
theorem dX9_nextToken_33 : decode cX9_nextToken 33 = .ok (.iaload, 1) := dk_46 (dk_at dksX9_nextToken_1 11 rfl rfl)
theorem dX9_nextToken_34 : decode cX9_nextToken 34 = .ok (.bipush 10, 2) := dk_16 10 (dk_at dksX9_nextToken_1 12 rfl rfl)
theorem dX9_nextToken_36 : decode cX9_nextToken 36 = .ok (.if_icmp .ne 16, 3) := dk_160 0 16 (dk_at dksX9_nextToken_1 14 rfl rfl)
theorem dX9_nextToken_39 : decode cX9_nextToken 39 = .ok (.aload_n 0, 1) := dk_42 (dk_at dksX9_nextToken_1 17 rfl rfl)
theorem dX9_nextToken_40 : decode cX9_nextToken 40 = .ok (.dup, 1) := dk_89 (dk_at dksX9_nextToken_1 18 rfl rfl)
theorem dX9_nextToken_41 : decode cX9_nextToken 41 = .ok (.getfield 224, 3) := dk_180 0 224 (dk_at dksX9_nextToken_1 19 rfl rfl)
theorem dX9_nextToken_44 : decode cX9_nextToken 44 = .ok (.iconst 1, 1) := dk_4 (dk_at dksX9_nextToken_1 22 rfl rfl)
theorem dX9_nextToken_45 : decode cX9_nextToken 45 = .ok (.iadd, 1) := dk_96 (dk_at dksX9_nextToken_1 23 rfl rfl)
theorem dX9_nextToken_46 : decode cX9_nextToken 46 = .ok (.putfield 224, 3) := dk_181 0 224 (dk_at dksX9_nextToken_2 0 rfl rfl)
theorem dX9_nextToken_49 : decode cX9_nextToken 49 = .ok (.goto (-49), 3) := dk_167 255 207 (dk_at dksX9_nextToken_2 3 rfl rfl)
theorem dX9_nextToken_52 : decode cX9_nextToken 52 = .ok (.aload_n 0, 1) := dk_42 (dk_at dksX9_nextToken_2 6 rfl rfl)
theorem dX9_nextToken_53 : decode cX9_nextToken 53 = .ok (.aload_n 0, 1) := dk_42 (dk_at dksX9_nextToken_2 7 rfl rfl)
theorem dX9_nextToken_54 : decode cX9_nextToken 54 = .ok (.getfield 224, 3) := dk_180 0 224 (dk_at dksX9_nextToken_2 8 rfl rfl)
theorem dX9_nextToken_57 : decode cX9_nextToken 57 = .ok (.putfield 227, 3) := dk_181 0 227 (dk_at dksX9_nextToken_2 11 rfl rfl)
theorem dX9_nextToken_60 : decode cX9_nextToken 60 = .ok (.aload_n 0, 1) := dk_42 (dk_at dksX9_nextToken_2 14 rfl rfl)
theorem dX9_nextToken_61 : decode cX9_nextToken 61 = .ok (.lconst 0, 1) := dk_9 (dk_at dksX9_nextToken_2 15 rfl rfl)
theorem dX9_nextToken_62 : decode cX9_nextToken 62 = .ok (.putfield 230, 3) := dk_181 0 230 (dk_at dksX9_nextToken_2 16 rfl rfl)
theorem dX9_nextToken_65 : decode cX9_nextToken 65 = .ok (.aload_n 0, 1) := dk_42 (dk_at dksX9_nextToken_2 19 rfl rfl)
theorem dX9_nextToken_66 : decode cX9_nextToken 66 = .ok (.iconst 0, 1) := dk_3 (dk_at dksX9_nextToken_2 20 rfl rfl)
theorem dX9_nextToken_67 : decode cX9_nextToken 67 = .ok (.putfield 234, 3) := dk_181 0 234 (dk_at dksX9_nextToken_2 21 rfl rfl)
theorem dX9_nextToken_70 : decode cX9_nextToken 70 = .ok (.aload_n 0, 1) := dk_42 (dk_at dksX9_nextToken_3 0 rfl rfl)
theorem dX9_nextToken_71 : decode cX9_nextToken 71 = .ok (.getfield 224, 3) := dk_180 0 224 (dk_at dksX9_nextToken_3 1 rfl rfl)
theorem dX9_nextToken_74 : decode cX9_nextToken 74 = .ok (.aload_n 0, 1) := dk_42 (dk_at dksX9_nextToken_3 4 rfl rfl)
theorem dX9_nextToken_75 : decode cX9_nextToken 75 = .ok (.getfield 221, 3) := dk_180 0 221 (dk_at dksX9_nextToken_3 5 rfl rfl)
theorem dX9_nextToken_78 : decode cX9_nextToken 78 = .ok (.if_icmp .ne 9, 3) := dk_160 0 9 (dk_at dksX9_nextToken_3 8 rfl rfl)
theorem dX9_nextToken_81 : decode cX9_nextToken 81 = .ok (.aload_n 0, 1) := dk_42 (dk_at dksX9_nextToken_3 11 rfl rfl)
theorem dX9_nextToken_82 : decode cX9_nextToken 82 = .ok (.iconst 0, 1) := dk_3 (dk_at dksX9_nextToken_3 12 rfl rfl)
theorem dX9_nextToken_83 : decode cX9_nextToken 83 = .ok (.putfield 237, 3) := dk_181 0 237 (dk_at dksX9_nextToken_3 13 rfl rfl)
theorem dX9_nextToken_86 : decode cX9_nextToken 86 = .ok (.return_, 1) := dk_177 (dk_at dksX9_nextToken_3 16 rfl rfl)
theorem dX9_nextToken_87 : decode cX9_nextToken 87 = .ok (.aload_n 0, 1) := dk_42 (dk_at dksX9_nextToken_3 17 rfl rfl)
theorem dX9_nextToken_88 : decode cX9_nextToken 88 = .ok (.getfield 7, 3) := dk_180 0 7 (dk_at dksX9_nextToken_3 18 rfl rfl)
theorem dX9_nextToken_91 : decode cX9_nextToken 91 = .ok (.aload_n 0, 1) := dk_42 (dk_at dksX9_nextToken_3 21 rfl rfl)
theorem dX9_nextToken_92 : decode cX9_nextToken 92 = .ok (.getfield 224, 3) := dk_180 0 224 (dk_at dksX9_nextToken_4 0 rfl rfl)
theorem dX9_nextToken_95 : decode cX9_nextToken 95 = .ok (.iaload, 1) := dk_46 (dk_at dksX9_nextToken_4 3 rfl rfl)
theorem dX9_nextToken_96 : decode cX9_nextToken 96 = .ok (.istore_n 1, 1) := dk_60 (dk_at dksX9_nextToken_4 4 rfl rfl)
theorem dX9_nextToken_97 : decode cX9_nextToken 97 = .ok (.iload_n 1, 1) := dk_27 (dk_at dksX9_nextToken_4 5 rfl rfl)
theorem dX9_nextToken_98 : decode cX9_nextToken 98 = .ok (.bipush 97, 2) := dk_16 97 (dk_at dksX9_nextToken_4 6 rfl rfl)
theorem dX9_nextToken_100 : decode cX9_nextToken 100 = .ok (.if_icmp .lt 112, 3) := dk_161 0 112 (dk_at dksX9_nextToken_4 8 rfl rfl)
theorem dX9_nextToken_103 : decode cX9_nextToken 103 = .ok (.iload_n 1, 1) := dk_27 (dk_at dksX9_nextToken_4 11 rfl rfl)
theorem dX9_nextToken_104 : decode cX9_nextToken 104 = .ok (.bipush 122, 2) := dk_16 122 (dk_at dksX9_nextToken_4 12 rfl rfl)
theorem dX9_nextToken_106 : decode cX9_nextToken 106 = .ok (.if_icmp .gt 106, 3) := dk_163 0 106 (dk_at dksX9_nextToken_4 14 rfl rfl)
theorem dX9_nextToken_109 : decode cX9_nextToken 109 = .ok (.aload_n 0, 1) := dk_42 (dk_at dksX9_nextToken_4 17 rfl rfl)
theorem dX9_nextToken_110 : decode cX9_nextToken 110 = .ok (.aload_n 0, 1) := dk_42 (dk_at dksX9_nextToken_4 18 rfl rfl)
theorem dX9_nextToken_111 : decode cX9_nextToken 111 = .ok (.getfield 224, 3) := dk_180 0 224 (dk_at dksX9_nextToken_4 19 rfl rfl)
theorem dX9_nextToken_114 : decode cX9_nextToken 114 = .ok (.invokevirtual 240, 3) := dk_182 0 240 (dk_at dksX9_nextToken_5 0 rfl rfl)
theorem dX9_nextToken_117 : decode cX9_nextToken 117 = .ok (.bipush 97, 2) := dk_16 97 (dk_at dksX9_nextToken_5 3 rfl rfl)
theorem dX9_nextToken_119 : decode cX9_nextToken 119 = .ok (.if_icmp .lt 69, 3) := dk_161 0 69 (dk_at dksX9_nextToken_5 5 rfl rfl)
theorem dX9_nextToken_122 : decode cX9_nextToken 122 = .ok (.aload_n 0, 1) := dk_42 (dk_at dksX9_nextToken_5 8 rfl rfl)
theorem dX9_nextToken_123 : decode cX9_nextToken 123 = .ok (.aload_n 0, 1) := dk_42 (dk_at dksX9_nextToken_5 9 rfl rfl)
theorem dX9_nextToken_124 : decode cX9_nextToken 124 = .ok (.getfield 224, 3) := dk_180 0 224 (dk_at dksX9_nextToken_5 10 rfl rfl)
theorem dX9_nextToken_127 : decode cX9_nextToken 127 = .ok (.invokevirtual 240, 3) := dk_182 0 240 (dk_at dksX9_nextToken_5 13 rfl rfl)
theorem dX9_nextToken_130 : decode cX9_nextToken 130 = .ok (.bipush 122, 2) := dk_16 122 (dk_at dksX9_nextToken_5 16 rfl rfl)
theorem dX9_nextToken_132 : decode cX9_nextToken 132 = .ok (.if_icmp .gt 56, 3) := dk_163 0 56 (dk_at dksX9_nextToken_5 18 rfl rfl)
theorem dX9_nextToken_135 : decode cX9_nextToken 135 = .ok (.aload_n 0, 1) := dk_42 (dk_at dksX9_nextToken_5 21 rfl rfl)
theorem dX9_nextToken_136 : decode cX9_nextToken 136 = .ok (.getfield 224, 3) := dk_180 0 224 (dk_at dksX9_nextToken_6 0 rfl rfl)
theorem dX9_nextToken_139 : decode cX9_nextToken 139 = .ok (.aload_n 0, 1) := dk_42 (dk_at dksX9_nextToken_6 3 rfl rfl)
theorem dX9_nextToken_140 : decode cX9_nextToken 140 = .ok (.getfield 227, 3) := dk_180 0 227 (dk_at dksX9_nextToken_6 4 rfl rfl)
theorem dX9_nextToken_143 : decode cX9_nextToken 143 = .ok (.isub, 1) := dk_100 (dk_at dksX9_nextToken_6 7 rfl rfl)
theorem dX9_nextToken_144 : decode cX9_nextToken 144 = .ok (.bipush 8, 2) := dk_16 8 (dk_at dksX9_nextToken_6 8 rfl rfl)
theorem dX9_nextToken_146 : decode cX9_nextToken 146 = .ok (.if_icmp .ge 29, 3) := dk_162 0 29 (dk_at dksX9_nextToken_6 10 rfl rfl)
theorem dX9_nextToken_149 : decode cX9_nextToken 149 = .ok (.aload_n 0, 1) := dk_42 (dk_at dksX9_nextToken_6 13 rfl rfl)
theorem dX9_nextToken_150 : decode cX9_nextToken 150 = .ok (.aload_n 0, 1) := dk_42 (dk_at dksX9_nextToken_6 14 rfl rfl)
theorem dX9_nextToken_151 : decode cX9_nextToken 151 = .ok (.getfield 230, 3) := dk_180 0 230 (dk_at dksX9_nextToken_6 15 rfl rfl)
theorem dX9_nextToken_154 : decode cX9_nextToken 154 = .ok (.ldc2_w 244, 3) := dk_20 0 244 (dk_at dksX9_nextToken_6 18 rfl rfl)
theorem dX9_nextToken_157 : decode cX9_nextToken 157 = .ok (.lmul, 1) := dk_105 (dk_at dksX9_nextToken_6 21 rfl rfl)
theorem dX9_nextToken_158 : decode cX9_nextToken 158 = .ok (.aload_n 0, 1) := dk_42 (dk_at dksX9_nextToken_6 22 rfl rfl)
theorem dX9_nextToken_159 : decode cX9_nextToken 159 = .ok (.aload_n 0, 1) := dk_42 (dk_at dksX9_nextToken_6 23 rfl rfl)
theorem dX9_nextToken_160 : decode cX9_nextToken 160 = .ok (.getfield 224, 3) := dk_180 0 224 (dk_at dksX9_nextToken_7 0 rfl rfl)
theorem dX9_nextToken_163 : decode cX9_nextToken 163 = .ok (.invokevirtual 240, 3) := dk_182 0 240 (dk_at dksX9_nextToken_7 3 rfl rfl)
theorem dX9_nextToken_166 : decode cX9_nextToken 166 = .ok (.i2l, 1) := dk_133 (dk_at dksX9_nextToken_7 6 rfl rfl)
theorem dX9_nextToken_167 : decode cX9_nextToken 167 = .ok (.ladd, 1) := dk_97 (dk_at dksX9_nextToken_7 7 rfl rfl)
theorem dX9_nextToken_168 : decode cX9_nextToken 168 = .ok (.ldc2_w 246, 3) := dk_20 0 246 (dk_at dksX9_nextToken_7 8 rfl rfl)
theorem dX9_nextToken_171 : decode cX9_nextToken 171 = .ok (.lsub, 1) := dk_101 (dk_at dksX9_nextToken_7 11 rfl rfl)
theorem dX9_nextToken_172 : decode cX9_nextToken 172 = .ok (.putfield 230, 3) := dk_181 0 230 (dk_at dksX9_nextToken_7 12 rfl rfl)
theorem dX9_nextToken_175 : decode cX9_nextToken 175 = .ok (.aload_n 0, 1) := dk_42 (dk_at dksX9_nextToken_7 15 rfl rfl)
theorem dX9_nextToken_176 : decode cX9_nextToken 176 = .ok (.dup, 1) := dk_89 (dk_at dksX9_nextToken_7 16 rfl rfl)
theorem dX9_nextToken_177 : decode cX9_nextToken 177 = .ok (.getfield 224, 3) := dk_180 0 224 (dk_at dksX9_nextToken_7 17 rfl rfl)
theorem dX9_nextToken_180 : decode cX9_nextToken 180 = .ok (.iconst 1, 1) := dk_4 (dk_at dksX9_nextToken_7 20 rfl rfl)
theorem dX9_nextToken_181 : decode cX9_nextToken 181 = .ok (.iadd, 1) := dk_96 (dk_at dksX9_nextToken_7 21 rfl rfl)
theorem dX9_nextToken_182 : decode cX9_nextToken 182 = .ok (.putfield 224, 3) := dk_181 0 224 (dk_at dksX9_nextToken_8 0 rfl rfl)
theorem dX9_nextToken_185 : decode cX9_nextToken 185 = .ok (.goto (-76), 3) := dk_167 255 180 (dk_at dksX9_nextToken_8 3 rfl rfl)
theorem dX9_nextToken_188 : decode cX9_nextToken 188 = .ok (.aload_n 0, 1) := dk_42 (dk_at dksX9_nextToken_8 6 rfl rfl)
theorem dX9_nextToken_189 : decode cX9_nextToken 189 = .ok (.aload_n 0, 1) := dk_42 (dk_at dksX9_nextToken_8 7 rfl rfl)
theorem dX9_nextToken_190 : decode cX9_nextToken 190 = .ok (.getfield 224, 3) := dk_180 0 224 (dk_at dksX9_nextToken_8 8 rfl rfl)
theorem dX9_nextToken_193 : decode cX9_nextToken 193 = .ok (.aload_n 0, 1) := dk_42 (dk_at dksX9_nextToken_8 11 rfl rfl)
theorem dX9_nextToken_194 : decode cX9_nextToken 194 = .ok (.getfield 227, 3) := dk_180 0 227 (dk_at dksX9_nextToken_8 12 rfl rfl)
theorem dX9_nextToken_197 : decode cX9_nextToken 197 = .ok (.isub, 1) := dk_100 (dk_at dksX9_nextToken_8 15 rfl rfl)
theorem dX9_nextToken_198 : decode cX9_nextToken 198 = .ok (.bipush 8, 2) := dk_16 8 (dk_at dksX9_nextToken_8 16 rfl rfl)
theorem dX9_nextToken_200 : decode cX9_nextToken 200 = .ok (.if_icmp .le 7, 3) := dk_164 0 7 (dk_at dksX9_nextToken_8 18 rfl rfl)
theorem dX9_nextToken_203 : decode cX9_nextToken 203 = .ok (.iconst 4, 1) := dk_7 (dk_at dksX9_nextToken_8 21 rfl rfl)
theorem dX9_nextToken_204 : decode cX9_nextToken 204 = .ok (.goto 4, 3) := dk_167 0 4 (dk_at dksX9_nextToken_9 0 rfl rfl)
theorem dX9_nextToken_207 : decode cX9_nextToken 207 = .ok (.iconst 1, 1) := dk_4 (dk_at dksX9_nextToken_9 3 rfl rfl)
theorem dX9_nextToken_208 : decode cX9_nextToken 208 = .ok (.putfield 237, 3) := dk_181 0 237 (dk_at dksX9_nextToken_9 4 rfl rfl)
theorem dX9_nextToken_211 : decode cX9_nextToken 211 = .ok (.return_, 1) := dk_177 (dk_at dksX9_nextToken_9 7 rfl rfl)
theorem dX9_nextToken_212 : decode cX9_nextToken 212 = .ok (.iload_n 1, 1) := dk_27 (dk_at dksX9_nextToken_9 8 rfl rfl)
theorem dX9_nextToken_213 : decode cX9_nextToken 213 = .ok (.bipush 48, 2) := dk_16 48 (dk_at dksX9_nextToken_9 9 rfl rfl)
theorem dX9_nextToken_215 : decode cX9_nextToken 215 = .ok (.if_icmp .lt 107, 3) := dk_161 0 107 (dk_at dksX9_nextToken_9 11 rfl rfl)
theorem dX9_nextToken_218 : decode cX9_nextToken 218 = .ok (.iload_n 1, 1) := dk_27 (dk_at dksX9_nextToken_9 14 rfl rfl)
theorem dX9_nextToken_219 : decode cX9_nextToken 219 = .ok (.bipush 57, 2) := dk_16 57 (dk_at dksX9_nextToken_9 15 rfl rfl)
theorem dX9_nextToken_221 : decode cX9_nextToken 221 = .ok (.if_icmp .gt 101, 3) := dk_163 0 101 (dk_at dksX9_nextToken_9 17 rfl rfl)
theorem dX9_nextToken_224 : decode cX9_nextToken 224 = .ok (.aload_n 0, 1) := dk_42 (dk_at dksX9_nextToken_9 20 rfl rfl)
theorem dX9_nextToken_225 : decode cX9_nextToken 225 = .ok (.aload_n 0, 1) := dk_42 (dk_at dksX9_nextToken_9 21 rfl rfl)
theorem dX9_nextToken_226 : decode cX9_nextToken 226 = .ok (.getfield 224, 3) := dk_180 0 224 (dk_at dksX9_nextToken_10 0 rfl rfl)
theorem dX9_nextToken_229 : decode cX9_nextToken 229 = .ok (.invokevirtual 240, 3) := dk_182 0 240 (dk_at dksX9_nextToken_10 3 rfl rfl)
theorem dX9_nextToken_232 : decode cX9_nextToken 232 = .ok (.bipush 48, 2) := dk_16 48 (dk_at dksX9_nextToken_10 6 rfl rfl)
theorem dX9_nextToken_234 : decode cX9_nextToken 234 = .ok (.if_icmp .lt 65, 3) := dk_161 0 65 (dk_at dksX9_nextToken_10 8 rfl rfl)
theorem dX9_nextToken_237 : decode cX9_nextToken 237 = .ok (.aload_n 0, 1) := dk_42 (dk_at dksX9_nextToken_10 11 rfl rfl)
theorem dX9_nextToken_238 : decode cX9_nextToken 238 = .ok (.aload_n 0, 1) := dk_42 (dk_at dksX9_nextToken_10 12 rfl rfl)
theorem dX9_nextToken_239 : decode cX9_nextToken 239 = .ok (.getfield 224, 3) := dk_180 0 224 (dk_at dksX9_nextToken_10 13 rfl rfl)
theorem dX9_nextToken_242 : decode cX9_nextToken 242 = .ok (.invokevirtual 240, 3) := dk_182 0 240 (dk_at dksX9_nextToken_10 16 rfl rfl)
theorem dX9_nextToken_245 : decode cX9_nextToken 245 = .ok (.bipush 57, 2) := dk_16 57 (dk_at dksX9_nextToken_10 19 rfl rfl)
theorem dX9_nextToken_247 : decode cX9_nextToken 247 = .ok (.if_icmp .gt 52, 3) := dk_163 0 52 (dk_at dksX9_nextToken_10 21 rfl rfl)
theorem dX9_nextToken_250 : decode cX9_nextToken 250 = .ok (.aload_n 0, 1) := dk_42 (dk_at dksX9_nextToken_11 0 rfl rfl)
theorem dX9_nextToken_251 : decode cX9_nextToken 251 = .ok (.getfield 224, 3) := dk_180 0 224 (dk_at dksX9_nextToken_11 1 rfl rfl)
theorem dX9_nextToken_254 : decode cX9_nextToken 254 = .ok (.aload_n 0, 1) := dk_42 (dk_at dksX9_nextToken_11 4 rfl rfl)
theorem dX9_nextToken_255 : decode cX9_nextToken 255 = .ok (.getfield 227, 3) := dk_180 0 227 (dk_at dksX9_nextToken_11 5 rfl rfl)
theorem dX9_nextToken_258 : decode cX9_nextToken 258 = .ok (.isub, 1) := dk_100 (dk_at dksX9_nextToken_11 8 rfl rfl)
theorem dX9_nextToken_259 : decode cX9_nextToken 259 = .ok (.iconst 4, 1) := dk_7 (dk_at dksX9_nextToken_11 9 rfl rfl)
theorem dX9_nextToken_260 : decode cX9_nextToken 260 = .ok (.if_icmp .ge 26, 3) := dk_162 0 26 (dk_at dksX9_nextToken_11 10 rfl rfl)
theorem dX9_nextToken_263 : decode cX9_nextToken 263 = .ok (.aload_n 0, 1) := dk_42 (dk_at dksX9_nextToken_11 13 rfl rfl)
theorem dX9_nextToken_264 : decode cX9_nextToken 264 = .ok (.aload_n 0, 1) := dk_42 (dk_at dksX9_nextToken_11 14 rfl rfl)
theorem dX9_nextToken_265 : decode cX9_nextToken 265 = .ok (.getfield 234, 3) := dk_180 0 234 (dk_at dksX9_nextToken_11 15 rfl rfl)
theorem dX9_nextToken_268 : decode cX9_nextToken 268 = .ok (.bipush 10, 2) := dk_16 10 (dk_at dksX9_nextToken_11 18 rfl rfl)
theorem dX9_nextToken_270 : decode cX9_nextToken 270 = .ok (.imul, 1) := dk_104 (dk_at dksX9_nextToken_11 20 rfl rfl)
theorem dX9_nextToken_271 : decode cX9_nextToken 271 = .ok (.aload_n 0, 1) := dk_42 (dk_at dksX9_nextToken_11 21 rfl rfl)
theorem dX9_nextToken_272 : decode cX9_nextToken 272 = .ok (.aload_n 0, 1) := dk_42 (dk_at dksX9_nextToken_11 22 rfl rfl)
theorem dX9_nextToken_273 : decode cX9_nextToken 273 = .ok (.getfield 224, 3) := dk_180 0 224 (dk_at dksX9_nextToken_12 0 rfl rfl)
theorem dX9_nextToken_276 : decode cX9_nextToken 276 = .ok (.invokevirtual 240, 3) := dk_182 0 240 (dk_at dksX9_nextToken_12 3 rfl rfl)
theorem dX9_nextToken_279 : decode cX9_nextToken 279 = .ok (.iadd, 1) := dk_96 (dk_at dksX9_nextToken_12 6 rfl rfl)
theorem dX9_nextToken_280 : decode cX9_nextToken 280 = .ok (.bipush 48, 2) := dk_16 48 (dk_at dksX9_nextToken_12 7 rfl rfl)
theorem dX9_nextToken_282 : decode cX9_nextToken 282 = .ok (.isub, 1) := dk_100 (dk_at dksX9_nextToken_12 9 rfl rfl)
theorem dX9_nextToken_283 : decode cX9_nextToken 283 = .ok (.putfield 234, 3) := dk_181 0 234 (dk_at dksX9_nextToken_12 10 rfl rfl)
theorem dX9_nextToken_286 : decode cX9_nextToken 286 = .ok (.aload_n 0, 1) := dk_42 (dk_at dksX9_nextToken_12 13 rfl rfl)
theorem dX9_nextToken_287 : decode cX9_nextToken 287 = .ok (.dup, 1) := dk_89 (dk_at dksX9_nextToken_12 14 rfl rfl)
theorem dX9_nextToken_288 : decode cX9_nextToken 288 = .ok (.getfield 224, 3) := dk_180 0 224 (dk_at dksX9_nextToken_12 15 rfl rfl)
theorem dX9_nextToken_291 : decode cX9_nextToken 291 = .ok (.iconst 1, 1) := dk_4 (dk_at dksX9_nextToken_12 18 rfl rfl)
theorem dX9_nextToken_292 : decode cX9_nextToken 292 = .ok (.iadd, 1) := dk_96 (dk_at dksX9_nextToken_12 19 rfl rfl)
theorem dX9_nextToken_293 : decode cX9_nextToken 293 = .ok (.putfield 224, 3) := dk_181 0 224 (dk_at dksX9_nextToken_12 20 rfl rfl)
theorem dX9_nextToken_296 : decode cX9_nextToken 296 = .ok (.goto (-72), 3) := dk_167 255 184 (dk_at dksX9_nextToken_13 0 rfl rfl)
theorem dX9_nextToken_299 : decode cX9_nextToken 299 = .ok (.aload_n 0, 1) := dk_42 (dk_at dksX9_nextToken_13 3 rfl rfl)
theorem dX9_nextToken_300 : decode cX9_nextToken 300 = .ok (.aload_n 0, 1) := dk_42 (dk_at dksX9_nextToken_13 4 rfl rfl)
theorem dX9_nextToken_301 : decode cX9_nextToken 301 = .ok (.getfield 224, 3) := dk_180 0 224 (dk_at dksX9_nextToken_13 5 rfl rfl)
theorem dX9_nextToken_304 : decode cX9_nextToken 304 = .ok (.aload_n 0, 1) := dk_42 (dk_at dksX9_nextToken_13 8 rfl rfl)
theorem dX9_nextToken_305 : decode cX9_nextToken 305 = .ok (.getfield 227, 3) := dk_180 0 227 (dk_at dksX9_nextToken_13 9 rfl rfl)
theorem dX9_nextToken_308 : decode cX9_nextToken 308 = .ok (.isub, 1) := dk_100 (dk_at dksX9_nextToken_13 12 rfl rfl)
theorem dX9_nextToken_309 : decode cX9_nextToken 309 = .ok (.iconst 4, 1) := dk_7 (dk_at dksX9_nextToken_13 13 rfl rfl)
theorem dX9_nextToken_310 : decode cX9_nextToken 310 = .ok (.if_icmp .le 7, 3) := dk_164 0 7 (dk_at dksX9_nextToken_13 14 rfl rfl)
theorem dX9_nextToken_313 : decode cX9_nextToken 313 = .ok (.iconst 4, 1) := dk_7 (dk_at dksX9_nextToken_13 17 rfl rfl)
theorem dX9_nextToken_314 : decode cX9_nextToken 314 = .ok (.goto 4, 3) := dk_167 0 4 (dk_at dksX9_nextToken_13 18 rfl rfl)
theorem dX9_nextToken_317 : decode cX9_nextToken 317 = .ok (.iconst 2, 1) := dk_5 (dk_at dksX9_nextToken_13 21 rfl rfl)
theorem dX9_nextToken_318 : decode cX9_nextToken 318 = .ok (.putfield 237, 3) := dk_181 0 237 (dk_at dksX9_nextToken_14 0 rfl rfl)
theorem dX9_nextToken_321 : decode cX9_nextToken 321 = .ok (.return_, 1) := dk_177 (dk_at dksX9_nextToken_14 3 rfl rfl)
theorem dX9_nextToken_322 : decode cX9_nextToken 322 = .ok (.aload_n 0, 1) := dk_42 (dk_at dksX9_nextToken_14 4 rfl rfl)
theorem dX9_nextToken_323 : decode cX9_nextToken 323 = .ok (.dup, 1) := dk_89 (dk_at dksX9_nextToken_14 5 rfl rfl)
theorem dX9_nextToken_324 : decode cX9_nextToken 324 = .ok (.getfield 224, 3) := dk_180 0 224 (dk_at dksX9_nextToken_14 6 rfl rfl)
theorem dX9_nextToken_327 : decode cX9_nextToken 327 = .ok (.iconst 1, 1) := dk_4 (dk_at dksX9_nextToken_14 9 rfl rfl)
theorem dX9_nextToken_328 : decode cX9_nextToken 328 = .ok (.iadd, 1) := dk_96 (dk_at dksX9_nextToken_14 10 rfl rfl)
theorem dX9_nextToken_329 : decode cX9_nextToken 329 = .ok (.putfield 224, 3) := dk_181 0 224 (dk_at dksX9_nextToken_14 11 rfl rfl)
theorem dX9_nextToken_332 : decode cX9_nextToken 332 = .ok (.aload_n 0, 1) := dk_42 (dk_at dksX9_nextToken_14 14 rfl rfl)
theorem dX9_nextToken_333 : decode cX9_nextToken 333 = .ok (.iload_n 1, 1) := dk_27 (dk_at dksX9_nextToken_14 15 rfl rfl)
theorem dX9_nextToken_334 : decode cX9_nextToken 334 = .ok (.bipush 40, 2) := dk_16 40 (dk_at dksX9_nextToken_14 16 rfl rfl)
theorem dX9_nextToken_336 : decode cX9_nextToken 336 = .ok (.if_icmp .lt 9, 3) := dk_161 0 9 (dk_at dksX9_nextToken_14 18 rfl rfl)
theorem dX9_nextToken_339 : decode cX9_nextToken 339 = .ok (.iload_n 1, 1) := dk_27 (dk_at dksX9_nextToken_14 21 rfl rfl)
theorem dX9_nextToken_340 : decode cX9_nextToken 340 = .ok (.bipush 43, 2) := dk_16 43 (dk_at dksX9_nextToken_14 22 rfl rfl)
theorem dX9_nextToken_342 : decode cX9_nextToken 342 = .ok (.if_icmp .le 21, 3) := dk_164 0 21 (dk_at dksX9_nextToken_15 0 rfl rfl)
theorem dX9_nextToken_345 : decode cX9_nextToken 345 = .ok (.iload_n 1, 1) := dk_27 (dk_at dksX9_nextToken_15 3 rfl rfl)
theorem dX9_nextToken_346 : decode cX9_nextToken 346 = .ok (.bipush 45, 2) := dk_16 45 (dk_at dksX9_nextToken_15 4 rfl rfl)
theorem dX9_nextToken_348 : decode cX9_nextToken 348 = .ok (.if_icmp .eq 15, 3) := dk_159 0 15 (dk_at dksX9_nextToken_15 6 rfl rfl)
theorem dX9_nextToken_351 : decode cX9_nextToken 351 = .ok (.iload_n 1, 1) := dk_27 (dk_at dksX9_nextToken_15 9 rfl rfl)
theorem dX9_nextToken_352 : decode cX9_nextToken 352 = .ok (.bipush 59, 2) := dk_16 59 (dk_at dksX9_nextToken_15 10 rfl rfl)
theorem dX9_nextToken_354 : decode cX9_nextToken 354 = .ok (.if_icmp .lt 13, 3) := dk_161 0 13 (dk_at dksX9_nextToken_15 12 rfl rfl)
theorem dX9_nextToken_357 : decode cX9_nextToken 357 = .ok (.iload_n 1, 1) := dk_27 (dk_at dksX9_nextToken_15 15 rfl rfl)
theorem dX9_nextToken_358 : decode cX9_nextToken 358 = .ok (.bipush 61, 2) := dk_16 61 (dk_at dksX9_nextToken_15 16 rfl rfl)
theorem dX9_nextToken_360 : decode cX9_nextToken 360 = .ok (.if_icmp .gt 7, 3) := dk_163 0 7 (dk_at dksX9_nextToken_15 18 rfl rfl)
theorem dX9_nextToken_363 : decode cX9_nextToken 363 = .ok (.iconst 3, 1) := dk_6 (dk_at dksX9_nextToken_15 21 rfl rfl)
theorem dX9_nextToken_364 : decode cX9_nextToken 364 = .ok (.goto 4, 3) := dk_167 0 4 (dk_at dksX9_nextToken_16 0 rfl rfl)
theorem dX9_nextToken_367 : decode cX9_nextToken 367 = .ok (.iconst 4, 1) := dk_7 (dk_at dksX9_nextToken_16 3 rfl rfl)
theorem dX9_nextToken_368 : decode cX9_nextToken 368 = .ok (.putfield 237, 3) := dk_181 0 237 (dk_at dksX9_nextToken_16 4 rfl rfl)
theorem dX9_nextToken_371 : decode cX9_nextToken 371 = .ok (.return_, 1) := dk_177 (dk_at dksX9_nextToken_16 7 rfl rfl)
abbrev cX9_signAt : ByteArray := prog_35_method_8_code
def yX9_signAt : MethodName := ⟨RX9, "signAt", "(I)I"⟩
def dkwX9_signAt_0 : List UInt8 := [27, 42, 180, 0, 221, 162, 0, 12, 42, 180, 0, 7, 27, 46, 167, 0, 4, 3, 172]
abbrev dktX9_signAt_0 : List UInt8 := dkwX9_signAt_0 ++ []
theorem dksX9_signAt_0 : cX9_signAt.data.toList.drop 0 = dktX9_signAt_0 := by decide +kernel
theorem dX9_signAt_0 : decode cX9_signAt 0 = .ok (.iload_n 1, 1) := dk_27 (dk_at dksX9_signAt_0 0 rfl rfl)
theorem dX9_signAt_1 : decode cX9_signAt 1 = .ok (.aload_n 0, 1) := dk_42 (dk_at dksX9_signAt_0 1 rfl rfl)
theorem dX9_signAt_2 : decode cX9_signAt 2 = .ok (.getfield 221, 3) := dk_180 0 221 (dk_at dksX9_signAt_0 2 rfl rfl)
theorem dX9_signAt_5 : decode cX9_signAt 5 = .ok (.if_icmp .ge 12, 3) := dk_162 0 12 (dk_at dksX9_signAt_0 5 rfl rfl)
theorem dX9_signAt_8 : decode cX9_signAt 8 = .ok (.aload_n 0, 1) := dk_42 (dk_at dksX9_signAt_0 8 rfl rfl)
theorem dX9_signAt_9 : decode cX9_signAt 9 = .ok (.getfield 7, 3) := dk_180 0 7 (dk_at dksX9_signAt_0 9 rfl rfl)
theorem dX9_signAt_12 : decode cX9_signAt 12 = .ok (.iload_n 1, 1) := dk_27 (dk_at dksX9_signAt_0 12 rfl rfl)
theorem dX9_signAt_13 : decode cX9_signAt 13 = .ok (.iaload, 1) := dk_46 (dk_at dksX9_signAt_0 13 rfl rfl)
theorem dX9_signAt_14 : decode cX9_signAt 14 = .ok (.goto 4, 3) := dk_167 0 4 (dk_at dksX9_signAt_0 14 rfl rfl)
theorem dX9_signAt_17 : decode cX9_signAt 17 = .ok (.iconst 0, 1) := dk_3 (dk_at dksX9_signAt_0 17 rfl rfl)
theorem dX9_signAt_18 : decode cX9_signAt 18 = .ok (.ireturn, 1) := dk_172 (dk_at dksX9_signAt_0 18 rfl rfl)
abbrev cX9_isWord : ByteArray := prog_35_method_10_code
def yX9_isWord : MethodName := ⟨RX9, "isWord", "(J)Z"⟩
def dkwX9_isWord_0 : List UInt8 := [42, 180, 0, 237, 4, 160, 0, 16, 42, 180, 0, 230, 31, 148, 154, 0, 7, 4, 167, 0, 4, 3, 172]
abbrev dktX9_isWord_0 : List UInt8 := dkwX9_isWord_0 ++ []
theorem dksX9_isWord_0 : cX9_isWord.data.toList.drop 0 = dktX9_isWord_0 := by decide +kernel
theorem dX9_isWord_0 : decode cX9_isWord 0 = .ok (.aload_n 0, 1) := dk_42 (dk_at dksX9_isWord_0 0 rfl rfl)
theorem dX9_isWord_1 : decode cX9_isWord 1 = .ok (.getfield 237, 3) := dk_180 0 237 (dk_at dksX9_isWord_0 1 rfl rfl)
theorem dX9_isWord_4 : decode cX9_isWord 4 = .ok (.iconst 1, 1) := dk_4 (dk_at dksX9_isWord_0 4 rfl rfl)
theorem dX9_isWord_5 : decode cX9_isWord 5 = .ok (.if_icmp .ne 16, 3) := dk_160 0 16 (dk_at dksX9_isWord_0 5 rfl rfl)
theorem dX9_isWord_8 : decode cX9_isWord 8 = .ok (.aload_n 0, 1) := dk_42 (dk_at dksX9_isWord_0 8 rfl rfl)
theorem dX9_isWord_9 : decode cX9_isWord 9 = .ok (.getfield 230, 3) := dk_180 0 230 (dk_at dksX9_isWord_0 9 rfl rfl)
theorem dX9_isWord_12 : decode cX9_isWord 12 = .ok (.lload_n 1, 1) := dk_31 (dk_at dksX9_isWord_0 12 rfl rfl)
theorem dX9_isWord_13 : decode cX9_isWord 13 = .ok (.lcmp, 1) := dk_148 (dk_at dksX9_isWord_0 13 rfl rfl)
theorem dX9_isWord_14 : decode cX9_isWord 14 = .ok (.ifCond .ne 7, 3) := dk_154 0 7 (dk_at dksX9_isWord_0 14 rfl rfl)
theorem dX9_isWord_17 : decode cX9_isWord 17 = .ok (.iconst 1, 1) := dk_4 (dk_at dksX9_isWord_0 17 rfl rfl)
theorem dX9_isWord_18 : decode cX9_isWord 18 = .ok (.goto 4, 3) := dk_167 0 4 (dk_at dksX9_isWord_0 18 rfl rfl)
theorem dX9_isWord_21 : decode cX9_isWord 21 = .ok (.iconst 0, 1) := dk_3 (dk_at dksX9_isWord_0 21 rfl rfl)
theorem dX9_isWord_22 : decode cX9_isWord 22 = .ok (.ireturn, 1) := dk_172 (dk_at dksX9_isWord_0 22 rfl rfl)
abbrev cX9_readsApple : ByteArray := prog_35_method_32_code
def yX9_readsApple : MethodName := ⟨RX9, "readsApple", "()Z"⟩
def dkwX9_readsApple_11 : List UInt8 := [180, 0, 13, 16, 6, 92, 46, 4, 96, 79, 42, 182, 1, 130, 172]
abbrev dktX9_readsApple_11 : List UInt8 := dkwX9_readsApple_11 ++ []
def dkwX9_readsApple_10 : List UInt8 := [27, 2, 79, 42, 180, 0, 23, 27, 42, 180, 0, 13, 16, 7, 46, 79, 42, 32, 182, 1, 126, 42]
abbrev dktX9_readsApple_10 : List UInt8 := dkwX9_readsApple_10 ++ dktX9_readsApple_11
def dkwX9_readsApple_9 : List UInt8 := [16, 99, 182, 1, 122, 154, 0, 5, 3, 172, 42, 180, 0, 38, 27, 42, 180, 1, 99, 79, 42, 180, 0, 41]
abbrev dktX9_readsApple_9 : List UInt8 := dkwX9_readsApple_9 ++ dktX9_readsApple_10
def dkwX9_readsApple_8 : List UInt8 := [182, 1, 122, 154, 0, 5, 3, 172, 42, 180, 0, 35, 27, 42, 180, 1, 99, 79, 42, 20, 1, 56, 3]
abbrev dktX9_readsApple_8 : List UInt8 := dkwX9_readsApple_8 ++ dktX9_readsApple_9
def dkwX9_readsApple_7 : List UInt8 := [154, 0, 5, 3, 172, 42, 180, 0, 32, 27, 42, 180, 1, 99, 79, 42, 20, 1, 54, 3, 16, 60]
abbrev dktX9_readsApple_7 : List UInt8 := dkwX9_readsApple_7 ++ dktX9_readsApple_8
def dkwX9_readsApple_6 : List UInt8 := [154, 0, 5, 3, 172, 42, 180, 0, 29, 27, 42, 180, 1, 99, 79, 42, 3, 16, 11, 182, 1, 105]
abbrev dktX9_readsApple_6 : List UInt8 := dkwX9_readsApple_6 ++ dktX9_readsApple_7
def dkwX9_readsApple_5 : List UInt8 := [156, 0, 9, 42, 4, 182, 1, 27, 172, 42, 182, 1, 34, 42, 20, 1, 52, 3, 16, 11, 182, 1, 122]
abbrev dktX9_readsApple_5 : List UInt8 := dkwX9_readsApple_5 ++ dktX9_readsApple_6
def dkwX9_readsApple_4 : List UInt8 := [42, 20, 1, 90, 182, 1, 19, 153, 0, 7, 6, 167, 0, 4, 2, 79, 42, 180, 0, 26, 27, 46]
abbrev dktX9_readsApple_4 : List UInt8 := dkwX9_readsApple_4 ++ dktX9_readsApple_5
def dkwX9_readsApple_3 : List UInt8 := [182, 1, 19, 153, 0, 7, 4, 167, 0, 32, 42, 20, 1, 88, 182, 1, 19, 153, 0, 7, 5, 167, 0, 18]
abbrev dktX9_readsApple_3 : List UInt8 := dkwX9_readsApple_3 ++ dktX9_readsApple_4
def dkwX9_readsApple_2 : List UInt8 := [180, 0, 26, 27, 42, 20, 1, 84, 182, 1, 19, 153, 0, 7, 3, 167, 0, 46, 42, 20, 1, 86]
abbrev dktX9_readsApple_2 : List UInt8 := dkwX9_readsApple_2 ++ dktX9_readsApple_3
def dkwX9_readsApple_1 : List UInt8 := [182, 1, 34, 42, 182, 1, 119, 154, 0, 5, 3, 172, 42, 180, 0, 230, 65, 42, 182, 1, 34, 42]
abbrev dktX9_readsApple_1 : List UInt8 := dkwX9_readsApple_1 ++ dktX9_readsApple_2
def dkwX9_readsApple_0 : List UInt8 := [16, 10, 42, 180, 0, 13, 16, 6, 46, 96, 60, 27, 16, 20, 160, 0, 9, 42, 8, 182, 1, 27, 172, 42]
abbrev dktX9_readsApple_0 : List UInt8 := dkwX9_readsApple_0 ++ dktX9_readsApple_1
theorem dksX9_readsApple_0 : cX9_readsApple.data.toList.drop 0 = dktX9_readsApple_0 := by decide +kernel
theorem dksX9_readsApple_1 : cX9_readsApple.data.toList.drop 24 = dktX9_readsApple_1 := dk_seg dksX9_readsApple_0 24 rfl rfl
theorem dksX9_readsApple_2 : cX9_readsApple.data.toList.drop 46 = dktX9_readsApple_2 := dk_seg dksX9_readsApple_1 22 rfl rfl
theorem dksX9_readsApple_3 : cX9_readsApple.data.toList.drop 68 = dktX9_readsApple_3 := dk_seg dksX9_readsApple_2 22 rfl rfl
theorem dksX9_readsApple_4 : cX9_readsApple.data.toList.drop 92 = dktX9_readsApple_4 := dk_seg dksX9_readsApple_3 24 rfl rfl
theorem dksX9_readsApple_5 : cX9_readsApple.data.toList.drop 114 = dktX9_readsApple_5 := dk_seg dksX9_readsApple_4 22 rfl rfl
theorem dksX9_readsApple_6 : cX9_readsApple.data.toList.drop 137 = dktX9_readsApple_6 := dk_seg dksX9_readsApple_5 23 rfl rfl
theorem dksX9_readsApple_7 : cX9_readsApple.data.toList.drop 159 = dktX9_readsApple_7 := dk_seg dksX9_readsApple_6 22 rfl rfl
theorem dksX9_readsApple_8 : cX9_readsApple.data.toList.drop 181 = dktX9_readsApple_8 := dk_seg dksX9_readsApple_7 22 rfl rfl
theorem dksX9_readsApple_9 : cX9_readsApple.data.toList.drop 204 = dktX9_readsApple_9 := dk_seg dksX9_readsApple_8 23 rfl rfl
theorem dksX9_readsApple_10 : cX9_readsApple.data.toList.drop 228 = dktX9_readsApple_10 := dk_seg dksX9_readsApple_9 24 rfl rfl
theorem dksX9_readsApple_11 : cX9_readsApple.data.toList.drop 250 = dktX9_readsApple_11 := dk_seg dksX9_readsApple_10 22 rfl rfl
theorem dX9_readsApple_0 : decode cX9_readsApple 0 = .ok (.bipush 10, 2) := dk_16 10 (dk_at dksX9_readsApple_0 0 rfl rfl)
theorem dX9_readsApple_2 : decode cX9_readsApple 2 = .ok (.aload_n 0, 1) := dk_42 (dk_at dksX9_readsApple_0 2 rfl rfl)
theorem dX9_readsApple_3 : decode cX9_readsApple 3 = .ok (.getfield 13, 3) := dk_180 0 13 (dk_at dksX9_readsApple_0 3 rfl rfl)
theorem dX9_readsApple_6 : decode cX9_readsApple 6 = .ok (.bipush 6, 2) := dk_16 6 (dk_at dksX9_readsApple_0 6 rfl rfl)
theorem dX9_readsApple_8 : decode cX9_readsApple 8 = .ok (.iaload, 1) := dk_46 (dk_at dksX9_readsApple_0 8 rfl rfl)
theorem dX9_readsApple_9 : decode cX9_readsApple 9 = .ok (.iadd, 1) := dk_96 (dk_at dksX9_readsApple_0 9 rfl rfl)
theorem dX9_readsApple_10 : decode cX9_readsApple 10 = .ok (.istore_n 1, 1) := dk_60 (dk_at dksX9_readsApple_0 10 rfl rfl)
theorem dX9_readsApple_11 : decode cX9_readsApple 11 = .ok (.iload_n 1, 1) := dk_27 (dk_at dksX9_readsApple_0 11 rfl rfl)
theorem dX9_readsApple_12 : decode cX9_readsApple 12 = .ok (.bipush 20, 2) := dk_16 20 (dk_at dksX9_readsApple_0 12 rfl rfl)
theorem dX9_readsApple_14 : decode cX9_readsApple 14 = .ok (.if_icmp .ne 9, 3) := dk_160 0 9 (dk_at dksX9_readsApple_0 14 rfl rfl)
theorem dX9_readsApple_17 : decode cX9_readsApple 17 = .ok (.aload_n 0, 1) := dk_42 (dk_at dksX9_readsApple_0 17 rfl rfl)
theorem dX9_readsApple_18 : decode cX9_readsApple 18 = .ok (.iconst 5, 1) := dk_8 (dk_at dksX9_readsApple_0 18 rfl rfl)
theorem dX9_readsApple_19 : decode cX9_readsApple 19 = .ok (.invokevirtual 283, 3) := dk_182 1 27 (dk_at dksX9_readsApple_0 19 rfl rfl)
theorem dX9_readsApple_22 : decode cX9_readsApple 22 = .ok (.ireturn, 1) := dk_172 (dk_at dksX9_readsApple_0 22 rfl rfl)
theorem dX9_readsApple_23 : decode cX9_readsApple 23 = .ok (.aload_n 0, 1) := dk_42 (dk_at dksX9_readsApple_0 23 rfl rfl)
theorem dX9_readsApple_24 : decode cX9_readsApple 24 = .ok (.invokevirtual 290, 3) := dk_182 1 34 (dk_at dksX9_readsApple_1 0 rfl rfl)
theorem dX9_readsApple_27 : decode cX9_readsApple 27 = .ok (.aload_n 0, 1) := dk_42 (dk_at dksX9_readsApple_1 3 rfl rfl)
theorem dX9_readsApple_28 : decode cX9_readsApple 28 = .ok (.invokevirtual 375, 3) := dk_182 1 119 (dk_at dksX9_readsApple_1 4 rfl rfl)
theorem dX9_readsApple_31 : decode cX9_readsApple 31 = .ok (.ifCond .ne 5, 3) := dk_154 0 5 (dk_at dksX9_readsApple_1 7 rfl rfl)
theorem dX9_readsApple_34 : decode cX9_readsApple 34 = .ok (.iconst 0, 1) := dk_3 (dk_at dksX9_readsApple_1 10 rfl rfl)
theorem dX9_readsApple_35 : decode cX9_readsApple 35 = .ok (.ireturn, 1) := dk_172 (dk_at dksX9_readsApple_1 11 rfl rfl)
theorem dX9_readsApple_36 : decode cX9_readsApple 36 = .ok (.aload_n 0, 1) := dk_42 (dk_at dksX9_readsApple_1 12 rfl rfl)
theorem dX9_readsApple_37 : decode cX9_readsApple 37 = .ok (.getfield 230, 3) := dk_180 0 230 (dk_at dksX9_readsApple_1 13 rfl rfl)
theorem dX9_readsApple_40 : decode cX9_readsApple 40 = .ok (.lstore_n 2, 1) := dk_65 (dk_at dksX9_readsApple_1 16 rfl rfl)
theorem dX9_readsApple_41 : decode cX9_readsApple 41 = .ok (.aload_n 0, 1) := dk_42 (dk_at dksX9_readsApple_1 17 rfl rfl)
theorem dX9_readsApple_42 : decode cX9_readsApple 42 = .ok (.invokevirtual 290, 3) := dk_182 1 34 (dk_at dksX9_readsApple_1 18 rfl rfl)
theorem dX9_readsApple_45 : decode cX9_readsApple 45 = .ok (.aload_n 0, 1) := dk_42 (dk_at dksX9_readsApple_1 21 rfl rfl)
theorem dX9_readsApple_46 : decode cX9_readsApple 46 = .ok (.getfield 26, 3) := dk_180 0 26 (dk_at dksX9_readsApple_2 0 rfl rfl)
theorem dX9_readsApple_49 : decode cX9_readsApple 49 = .ok (.iload_n 1, 1) := dk_27 (dk_at dksX9_readsApple_2 3 rfl rfl)
theorem dX9_readsApple_50 : decode cX9_readsApple 50 = .ok (.aload_n 0, 1) := dk_42 (dk_at dksX9_readsApple_2 4 rfl rfl)
theorem dX9_readsApple_51 : decode cX9_readsApple 51 = .ok (.ldc2_w 340, 3) := dk_20 1 84 (dk_at dksX9_readsApple_2 5 rfl rfl)
theorem dX9_readsApple_54 : decode cX9_readsApple 54 = .ok (.invokevirtual 275, 3) := dk_182 1 19 (dk_at dksX9_readsApple_2 8 rfl rfl)
theorem dX9_readsApple_57 : decode cX9_readsApple 57 = .ok (.ifCond .eq 7, 3) := dk_153 0 7 (dk_at dksX9_readsApple_2 11 rfl rfl)
theorem dX9_readsApple_60 : decode cX9_readsApple 60 = .ok (.iconst 0, 1) := dk_3 (dk_at dksX9_readsApple_2 14 rfl rfl)
theorem dX9_readsApple_61 : decode cX9_readsApple 61 = .ok (.goto 46, 3) := dk_167 0 46 (dk_at dksX9_readsApple_2 15 rfl rfl)
theorem dX9_readsApple_64 : decode cX9_readsApple 64 = .ok (.aload_n 0, 1) := dk_42 (dk_at dksX9_readsApple_2 18 rfl rfl)
theorem dX9_readsApple_65 : decode cX9_readsApple 65 = .ok (.ldc2_w 342, 3) := dk_20 1 86 (dk_at dksX9_readsApple_2 19 rfl rfl)
theorem dX9_readsApple_68 : decode cX9_readsApple 68 = .ok (.invokevirtual 275, 3) := dk_182 1 19 (dk_at dksX9_readsApple_3 0 rfl rfl)
theorem dX9_readsApple_71 : decode cX9_readsApple 71 = .ok (.ifCond .eq 7, 3) := dk_153 0 7 (dk_at dksX9_readsApple_3 3 rfl rfl)
theorem dX9_readsApple_74 : decode cX9_readsApple 74 = .ok (.iconst 1, 1) := dk_4 (dk_at dksX9_readsApple_3 6 rfl rfl)
theorem dX9_readsApple_75 : decode cX9_readsApple 75 = .ok (.goto 32, 3) := dk_167 0 32 (dk_at dksX9_readsApple_3 7 rfl rfl)
theorem dX9_readsApple_78 : decode cX9_readsApple 78 = .ok (.aload_n 0, 1) := dk_42 (dk_at dksX9_readsApple_3 10 rfl rfl)
theorem dX9_readsApple_79 : decode cX9_readsApple 79 = .ok (.ldc2_w 344, 3) := dk_20 1 88 (dk_at dksX9_readsApple_3 11 rfl rfl)
theorem dX9_readsApple_82 : decode cX9_readsApple 82 = .ok (.invokevirtual 275, 3) := dk_182 1 19 (dk_at dksX9_readsApple_3 14 rfl rfl)
theorem dX9_readsApple_85 : decode cX9_readsApple 85 = .ok (.ifCond .eq 7, 3) := dk_153 0 7 (dk_at dksX9_readsApple_3 17 rfl rfl)
theorem dX9_readsApple_88 : decode cX9_readsApple 88 = .ok (.iconst 2, 1) := dk_5 (dk_at dksX9_readsApple_3 20 rfl rfl)
theorem dX9_readsApple_89 : decode cX9_readsApple 89 = .ok (.goto 18, 3) := dk_167 0 18 (dk_at dksX9_readsApple_3 21 rfl rfl)
theorem dX9_readsApple_92 : decode cX9_readsApple 92 = .ok (.aload_n 0, 1) := dk_42 (dk_at dksX9_readsApple_4 0 rfl rfl)
theorem dX9_readsApple_93 : decode cX9_readsApple 93 = .ok (.ldc2_w 346, 3) := dk_20 1 90 (dk_at dksX9_readsApple_4 1 rfl rfl)
theorem dX9_readsApple_96 : decode cX9_readsApple 96 = .ok (.invokevirtual 275, 3) := dk_182 1 19 (dk_at dksX9_readsApple_4 4 rfl rfl)
theorem dX9_readsApple_99 : decode cX9_readsApple 99 = .ok (.ifCond .eq 7, 3) := dk_153 0 7 (dk_at dksX9_readsApple_4 7 rfl rfl)
theorem dX9_readsApple_102 : decode cX9_readsApple 102 = .ok (.iconst 3, 1) := dk_6 (dk_at dksX9_readsApple_4 10 rfl rfl)
theorem dX9_readsApple_103 : decode cX9_readsApple 103 = .ok (.goto 4, 3) := dk_167 0 4 (dk_at dksX9_readsApple_4 11 rfl rfl)
theorem dX9_readsApple_106 : decode cX9_readsApple 106 = .ok (.iconst (-1), 1) := dk_2 (dk_at dksX9_readsApple_4 14 rfl rfl)
theorem dX9_readsApple_107 : decode cX9_readsApple 107 = .ok (.iastore, 1) := dk_79 (dk_at dksX9_readsApple_4 15 rfl rfl)
theorem dX9_readsApple_108 : decode cX9_readsApple 108 = .ok (.aload_n 0, 1) := dk_42 (dk_at dksX9_readsApple_4 16 rfl rfl)
theorem dX9_readsApple_109 : decode cX9_readsApple 109 = .ok (.getfield 26, 3) := dk_180 0 26 (dk_at dksX9_readsApple_4 17 rfl rfl)
theorem dX9_readsApple_112 : decode cX9_readsApple 112 = .ok (.iload_n 1, 1) := dk_27 (dk_at dksX9_readsApple_4 20 rfl rfl)
theorem dX9_readsApple_113 : decode cX9_readsApple 113 = .ok (.iaload, 1) := dk_46 (dk_at dksX9_readsApple_4 21 rfl rfl)
theorem dX9_readsApple_114 : decode cX9_readsApple 114 = .ok (.ifCond .ge 9, 3) := dk_156 0 9 (dk_at dksX9_readsApple_5 0 rfl rfl)
theorem dX9_readsApple_117 : decode cX9_readsApple 117 = .ok (.aload_n 0, 1) := dk_42 (dk_at dksX9_readsApple_5 3 rfl rfl)
theorem dX9_readsApple_118 : decode cX9_readsApple 118 = .ok (.iconst 1, 1) := dk_4 (dk_at dksX9_readsApple_5 4 rfl rfl)
theorem dX9_readsApple_119 : decode cX9_readsApple 119 = .ok (.invokevirtual 283, 3) := dk_182 1 27 (dk_at dksX9_readsApple_5 5 rfl rfl)
theorem dX9_readsApple_122 : decode cX9_readsApple 122 = .ok (.ireturn, 1) := dk_172 (dk_at dksX9_readsApple_5 8 rfl rfl)
theorem dX9_readsApple_123 : decode cX9_readsApple 123 = .ok (.aload_n 0, 1) := dk_42 (dk_at dksX9_readsApple_5 9 rfl rfl)
theorem dX9_readsApple_124 : decode cX9_readsApple 124 = .ok (.invokevirtual 290, 3) := dk_182 1 34 (dk_at dksX9_readsApple_5 10 rfl rfl)
theorem dX9_readsApple_127 : decode cX9_readsApple 127 = .ok (.aload_n 0, 1) := dk_42 (dk_at dksX9_readsApple_5 13 rfl rfl)
theorem dX9_readsApple_128 : decode cX9_readsApple 128 = .ok (.ldc2_w 308, 3) := dk_20 1 52 (dk_at dksX9_readsApple_5 14 rfl rfl)
theorem dX9_readsApple_131 : decode cX9_readsApple 131 = .ok (.iconst 0, 1) := dk_3 (dk_at dksX9_readsApple_5 17 rfl rfl)
theorem dX9_readsApple_132 : decode cX9_readsApple 132 = .ok (.bipush 11, 2) := dk_16 11 (dk_at dksX9_readsApple_5 18 rfl rfl)
theorem dX9_readsApple_134 : decode cX9_readsApple 134 = .ok (.invokevirtual 378, 3) := dk_182 1 122 (dk_at dksX9_readsApple_5 20 rfl rfl)
theorem dX9_readsApple_137 : decode cX9_readsApple 137 = .ok (.ifCond .ne 5, 3) := dk_154 0 5 (dk_at dksX9_readsApple_6 0 rfl rfl)
theorem dX9_readsApple_140 : decode cX9_readsApple 140 = .ok (.iconst 0, 1) := dk_3 (dk_at dksX9_readsApple_6 3 rfl rfl)
theorem dX9_readsApple_141 : decode cX9_readsApple 141 = .ok (.ireturn, 1) := dk_172 (dk_at dksX9_readsApple_6 4 rfl rfl)
theorem dX9_readsApple_142 : decode cX9_readsApple 142 = .ok (.aload_n 0, 1) := dk_42 (dk_at dksX9_readsApple_6 5 rfl rfl)
theorem dX9_readsApple_143 : decode cX9_readsApple 143 = .ok (.getfield 29, 3) := dk_180 0 29 (dk_at dksX9_readsApple_6 6 rfl rfl)
theorem dX9_readsApple_146 : decode cX9_readsApple 146 = .ok (.iload_n 1, 1) := dk_27 (dk_at dksX9_readsApple_6 9 rfl rfl)
theorem dX9_readsApple_147 : decode cX9_readsApple 147 = .ok (.aload_n 0, 1) := dk_42 (dk_at dksX9_readsApple_6 10 rfl rfl)
theorem dX9_readsApple_148 : decode cX9_readsApple 148 = .ok (.getfield 355, 3) := dk_180 1 99 (dk_at dksX9_readsApple_6 11 rfl rfl)
theorem dX9_readsApple_151 : decode cX9_readsApple 151 = .ok (.iastore, 1) := dk_79 (dk_at dksX9_readsApple_6 14 rfl rfl)
theorem dX9_readsApple_152 : decode cX9_readsApple 152 = .ok (.aload_n 0, 1) := dk_42 (dk_at dksX9_readsApple_6 15 rfl rfl)
theorem dX9_readsApple_153 : decode cX9_readsApple 153 = .ok (.iconst 0, 1) := dk_3 (dk_at dksX9_readsApple_6 16 rfl rfl)
theorem dX9_readsApple_154 : decode cX9_readsApple 154 = .ok (.bipush 11, 2) := dk_16 11 (dk_at dksX9_readsApple_6 17 rfl rfl)
theorem dX9_readsApple_156 : decode cX9_readsApple 156 = .ok (.invokevirtual 361, 3) := dk_182 1 105 (dk_at dksX9_readsApple_6 19 rfl rfl)
theorem dX9_readsApple_159 : decode cX9_readsApple 159 = .ok (.ifCond .ne 5, 3) := dk_154 0 5 (dk_at dksX9_readsApple_7 0 rfl rfl)
theorem dX9_readsApple_162 : decode cX9_readsApple 162 = .ok (.iconst 0, 1) := dk_3 (dk_at dksX9_readsApple_7 3 rfl rfl)
theorem dX9_readsApple_163 : decode cX9_readsApple 163 = .ok (.ireturn, 1) := dk_172 (dk_at dksX9_readsApple_7 4 rfl rfl)
theorem dX9_readsApple_164 : decode cX9_readsApple 164 = .ok (.aload_n 0, 1) := dk_42 (dk_at dksX9_readsApple_7 5 rfl rfl)
theorem dX9_readsApple_165 : decode cX9_readsApple 165 = .ok (.getfield 32, 3) := dk_180 0 32 (dk_at dksX9_readsApple_7 6 rfl rfl)
theorem dX9_readsApple_168 : decode cX9_readsApple 168 = .ok (.iload_n 1, 1) := dk_27 (dk_at dksX9_readsApple_7 9 rfl rfl)
theorem dX9_readsApple_169 : decode cX9_readsApple 169 = .ok (.aload_n 0, 1) := dk_42 (dk_at dksX9_readsApple_7 10 rfl rfl)
theorem dX9_readsApple_170 : decode cX9_readsApple 170 = .ok (.getfield 355, 3) := dk_180 1 99 (dk_at dksX9_readsApple_7 11 rfl rfl)
theorem dX9_readsApple_173 : decode cX9_readsApple 173 = .ok (.iastore, 1) := dk_79 (dk_at dksX9_readsApple_7 14 rfl rfl)
theorem dX9_readsApple_174 : decode cX9_readsApple 174 = .ok (.aload_n 0, 1) := dk_42 (dk_at dksX9_readsApple_7 15 rfl rfl)
theorem dX9_readsApple_175 : decode cX9_readsApple 175 = .ok (.ldc2_w 310, 3) := dk_20 1 54 (dk_at dksX9_readsApple_7 16 rfl rfl)
theorem dX9_readsApple_178 : decode cX9_readsApple 178 = .ok (.iconst 0, 1) := dk_3 (dk_at dksX9_readsApple_7 19 rfl rfl)
theorem dX9_readsApple_179 : decode cX9_readsApple 179 = .ok (.bipush 60, 2) := dk_16 60 (dk_at dksX9_readsApple_7 20 rfl rfl)
theorem dX9_readsApple_181 : decode cX9_readsApple 181 = .ok (.invokevirtual 378, 3) := dk_182 1 122 (dk_at dksX9_readsApple_8 0 rfl rfl)
theorem dX9_readsApple_184 : decode cX9_readsApple 184 = .ok (.ifCond .ne 5, 3) := dk_154 0 5 (dk_at dksX9_readsApple_8 3 rfl rfl)
theorem dX9_readsApple_187 : decode cX9_readsApple 187 = .ok (.iconst 0, 1) := dk_3 (dk_at dksX9_readsApple_8 6 rfl rfl)
theorem dX9_readsApple_188 : decode cX9_readsApple 188 = .ok (.ireturn, 1) := dk_172 (dk_at dksX9_readsApple_8 7 rfl rfl)
theorem dX9_readsApple_189 : decode cX9_readsApple 189 = .ok (.aload_n 0, 1) := dk_42 (dk_at dksX9_readsApple_8 8 rfl rfl)
theorem dX9_readsApple_190 : decode cX9_readsApple 190 = .ok (.getfield 35, 3) := dk_180 0 35 (dk_at dksX9_readsApple_8 9 rfl rfl)
theorem dX9_readsApple_193 : decode cX9_readsApple 193 = .ok (.iload_n 1, 1) := dk_27 (dk_at dksX9_readsApple_8 12 rfl rfl)
theorem dX9_readsApple_194 : decode cX9_readsApple 194 = .ok (.aload_n 0, 1) := dk_42 (dk_at dksX9_readsApple_8 13 rfl rfl)
theorem dX9_readsApple_195 : decode cX9_readsApple 195 = .ok (.getfield 355, 3) := dk_180 1 99 (dk_at dksX9_readsApple_8 14 rfl rfl)
theorem dX9_readsApple_198 : decode cX9_readsApple 198 = .ok (.iastore, 1) := dk_79 (dk_at dksX9_readsApple_8 17 rfl rfl)
theorem dX9_readsApple_199 : decode cX9_readsApple 199 = .ok (.aload_n 0, 1) := dk_42 (dk_at dksX9_readsApple_8 18 rfl rfl)
theorem dX9_readsApple_200 : decode cX9_readsApple 200 = .ok (.ldc2_w 312, 3) := dk_20 1 56 (dk_at dksX9_readsApple_8 19 rfl rfl)
theorem dX9_readsApple_203 : decode cX9_readsApple 203 = .ok (.iconst 0, 1) := dk_3 (dk_at dksX9_readsApple_8 22 rfl rfl)
theorem dX9_readsApple_204 : decode cX9_readsApple 204 = .ok (.bipush 99, 2) := dk_16 99 (dk_at dksX9_readsApple_9 0 rfl rfl)
theorem dX9_readsApple_206 : decode cX9_readsApple 206 = .ok (.invokevirtual 378, 3) := dk_182 1 122 (dk_at dksX9_readsApple_9 2 rfl rfl)
theorem dX9_readsApple_209 : decode cX9_readsApple 209 = .ok (.ifCond .ne 5, 3) := dk_154 0 5 (dk_at dksX9_readsApple_9 5 rfl rfl)
theorem dX9_readsApple_212 : decode cX9_readsApple 212 = .ok (.iconst 0, 1) := dk_3 (dk_at dksX9_readsApple_9 8 rfl rfl)
theorem dX9_readsApple_213 : decode cX9_readsApple 213 = .ok (.ireturn, 1) := dk_172 (dk_at dksX9_readsApple_9 9 rfl rfl)
theorem dX9_readsApple_214 : decode cX9_readsApple 214 = .ok (.aload_n 0, 1) := dk_42 (dk_at dksX9_readsApple_9 10 rfl rfl)
theorem dX9_readsApple_215 : decode cX9_readsApple 215 = .ok (.getfield 38, 3) := dk_180 0 38 (dk_at dksX9_readsApple_9 11 rfl rfl)
theorem dX9_readsApple_218 : decode cX9_readsApple 218 = .ok (.iload_n 1, 1) := dk_27 (dk_at dksX9_readsApple_9 14 rfl rfl)
theorem dX9_readsApple_219 : decode cX9_readsApple 219 = .ok (.aload_n 0, 1) := dk_42 (dk_at dksX9_readsApple_9 15 rfl rfl)
theorem dX9_readsApple_220 : decode cX9_readsApple 220 = .ok (.getfield 355, 3) := dk_180 1 99 (dk_at dksX9_readsApple_9 16 rfl rfl)
theorem dX9_readsApple_223 : decode cX9_readsApple 223 = .ok (.iastore, 1) := dk_79 (dk_at dksX9_readsApple_9 19 rfl rfl)
theorem dX9_readsApple_224 : decode cX9_readsApple 224 = .ok (.aload_n 0, 1) := dk_42 (dk_at dksX9_readsApple_9 20 rfl rfl)
theorem dX9_readsApple_225 : decode cX9_readsApple 225 = .ok (.getfield 41, 3) := dk_180 0 41 (dk_at dksX9_readsApple_9 21 rfl rfl)
theorem dX9_readsApple_228 : decode cX9_readsApple 228 = .ok (.iload_n 1, 1) := dk_27 (dk_at dksX9_readsApple_10 0 rfl rfl)
theorem dX9_readsApple_229 : decode cX9_readsApple 229 = .ok (.iconst (-1), 1) := dk_2 (dk_at dksX9_readsApple_10 1 rfl rfl)
theorem dX9_readsApple_230 : decode cX9_readsApple 230 = .ok (.iastore, 1) := dk_79 (dk_at dksX9_readsApple_10 2 rfl rfl)
theorem dX9_readsApple_231 : decode cX9_readsApple 231 = .ok (.aload_n 0, 1) := dk_42 (dk_at dksX9_readsApple_10 3 rfl rfl)
theorem dX9_readsApple_232 : decode cX9_readsApple 232 = .ok (.getfield 23, 3) := dk_180 0 23 (dk_at dksX9_readsApple_10 4 rfl rfl)
theorem dX9_readsApple_235 : decode cX9_readsApple 235 = .ok (.iload_n 1, 1) := dk_27 (dk_at dksX9_readsApple_10 7 rfl rfl)
theorem dX9_readsApple_236 : decode cX9_readsApple 236 = .ok (.aload_n 0, 1) := dk_42 (dk_at dksX9_readsApple_10 8 rfl rfl)
theorem dX9_readsApple_237 : decode cX9_readsApple 237 = .ok (.getfield 13, 3) := dk_180 0 13 (dk_at dksX9_readsApple_10 9 rfl rfl)
theorem dX9_readsApple_240 : decode cX9_readsApple 240 = .ok (.bipush 7, 2) := dk_16 7 (dk_at dksX9_readsApple_10 12 rfl rfl)
theorem dX9_readsApple_242 : decode cX9_readsApple 242 = .ok (.iaload, 1) := dk_46 (dk_at dksX9_readsApple_10 14 rfl rfl)
theorem dX9_readsApple_243 : decode cX9_readsApple 243 = .ok (.iastore, 1) := dk_79 (dk_at dksX9_readsApple_10 15 rfl rfl)
theorem dX9_readsApple_244 : decode cX9_readsApple 244 = .ok (.aload_n 0, 1) := dk_42 (dk_at dksX9_readsApple_10 16 rfl rfl)
theorem dX9_readsApple_245 : decode cX9_readsApple 245 = .ok (.lload_n 2, 1) := dk_32 (dk_at dksX9_readsApple_10 17 rfl rfl)
theorem dX9_readsApple_246 : decode cX9_readsApple 246 = .ok (.invokevirtual 382, 3) := dk_182 1 126 (dk_at dksX9_readsApple_10 18 rfl rfl)
theorem dX9_readsApple_249 : decode cX9_readsApple 249 = .ok (.aload_n 0, 1) := dk_42 (dk_at dksX9_readsApple_10 21 rfl rfl)
theorem dX9_readsApple_250 : decode cX9_readsApple 250 = .ok (.getfield 13, 3) := dk_180 0 13 (dk_at dksX9_readsApple_11 0 rfl rfl)
theorem dX9_readsApple_253 : decode cX9_readsApple 253 = .ok (.bipush 6, 2) := dk_16 6 (dk_at dksX9_readsApple_11 3 rfl rfl)
theorem dX9_readsApple_255 : decode cX9_readsApple 255 = .ok (.dup2, 1) := dk_92 (dk_at dksX9_readsApple_11 5 rfl rfl)
theorem dX9_readsApple_256 : decode cX9_readsApple 256 = .ok (.iaload, 1) := dk_46 (dk_at dksX9_readsApple_11 6 rfl rfl)
theorem dX9_readsApple_257 : decode cX9_readsApple 257 = .ok (.iconst 1, 1) := dk_4 (dk_at dksX9_readsApple_11 7 rfl rfl)
theorem dX9_readsApple_258 : decode cX9_readsApple 258 = .ok (.iadd, 1) := dk_96 (dk_at dksX9_readsApple_11 8 rfl rfl)
theorem dX9_readsApple_259 : decode cX9_readsApple 259 = .ok (.iastore, 1) := dk_79 (dk_at dksX9_readsApple_11 9 rfl rfl)
theorem dX9_readsApple_260 : decode cX9_readsApple 260 = .ok (.aload_n 0, 1) := dk_42 (dk_at dksX9_readsApple_11 10 rfl rfl)
theorem dX9_readsApple_261 : decode cX9_readsApple 261 = .ok (.invokevirtual 386, 3) := dk_182 1 130 (dk_at dksX9_readsApple_11 11 rfl rfl)
theorem dX9_readsApple_264 : decode cX9_readsApple 264 = .ok (.ireturn, 1) := dk_172 (dk_at dksX9_readsApple_11 14 rfl rfl)
abbrev cX9_fails : ByteArray := prog_35_method_12_code
def yX9_fails : MethodName := ⟨RX9, "fails", "(I)Z"⟩
def dkwX9_fails_0 : List UInt8 := [42, 27, 16, 16, 42, 180, 0, 227, 104, 96, 181, 0, 248, 3, 172]
abbrev dktX9_fails_0 : List UInt8 := dkwX9_fails_0 ++ []
theorem dksX9_fails_0 : cX9_fails.data.toList.drop 0 = dktX9_fails_0 := by decide +kernel
theorem dX9_fails_0 : decode cX9_fails 0 = .ok (.aload_n 0, 1) := dk_42 (dk_at dksX9_fails_0 0 rfl rfl)
theorem dX9_fails_1 : decode cX9_fails 1 = .ok (.iload_n 1, 1) := dk_27 (dk_at dksX9_fails_0 1 rfl rfl)
theorem dX9_fails_2 : decode cX9_fails 2 = .ok (.bipush 16, 2) := dk_16 16 (dk_at dksX9_fails_0 2 rfl rfl)
theorem dX9_fails_4 : decode cX9_fails 4 = .ok (.aload_n 0, 1) := dk_42 (dk_at dksX9_fails_0 4 rfl rfl)
theorem dX9_fails_5 : decode cX9_fails 5 = .ok (.getfield 227, 3) := dk_180 0 227 (dk_at dksX9_fails_0 5 rfl rfl)
theorem dX9_fails_8 : decode cX9_fails 8 = .ok (.imul, 1) := dk_104 (dk_at dksX9_fails_0 8 rfl rfl)
theorem dX9_fails_9 : decode cX9_fails 9 = .ok (.iadd, 1) := dk_96 (dk_at dksX9_fails_0 9 rfl rfl)
theorem dX9_fails_10 : decode cX9_fails 10 = .ok (.putfield 248, 3) := dk_181 0 248 (dk_at dksX9_fails_0 10 rfl rfl)
theorem dX9_fails_13 : decode cX9_fails 13 = .ok (.iconst 0, 1) := dk_3 (dk_at dksX9_fails_0 13 rfl rfl)
theorem dX9_fails_14 : decode cX9_fails 14 = .ok (.ireturn, 1) := dk_172 (dk_at dksX9_fails_0 14 rfl rfl)
abbrev cX9_isNew : ByteArray := prog_35_method_28_code
def yX9_isNew : MethodName := ⟨RX9, "isNew", "()Z"⟩
def dkwX9_isNew_1 : List UInt8 := [182, 1, 113, 155, 0, 11, 42, 6, 182, 1, 27, 153, 0, 7, 4, 167, 0, 4, 3, 172]
abbrev dktX9_isNew_1 : List UInt8 := dkwX9_isNew_1 ++ []
def dkwX9_isNew_0 : List UInt8 := [42, 182, 1, 109, 153, 0, 9, 42, 4, 182, 1, 27, 172, 42, 4, 182, 1, 92, 156, 0, 11, 42, 4]
abbrev dktX9_isNew_0 : List UInt8 := dkwX9_isNew_0 ++ dktX9_isNew_1
theorem dksX9_isNew_0 : cX9_isNew.data.toList.drop 0 = dktX9_isNew_0 := by decide +kernel
theorem dksX9_isNew_1 : cX9_isNew.data.toList.drop 23 = dktX9_isNew_1 := dk_seg dksX9_isNew_0 23 rfl rfl
theorem dX9_isNew_0 : decode cX9_isNew 0 = .ok (.aload_n 0, 1) := dk_42 (dk_at dksX9_isNew_0 0 rfl rfl)
theorem dX9_isNew_1 : decode cX9_isNew 1 = .ok (.invokevirtual 365, 3) := dk_182 1 109 (dk_at dksX9_isNew_0 1 rfl rfl)
theorem dX9_isNew_4 : decode cX9_isNew 4 = .ok (.ifCond .eq 9, 3) := dk_153 0 9 (dk_at dksX9_isNew_0 4 rfl rfl)
theorem dX9_isNew_7 : decode cX9_isNew 7 = .ok (.aload_n 0, 1) := dk_42 (dk_at dksX9_isNew_0 7 rfl rfl)
theorem dX9_isNew_8 : decode cX9_isNew 8 = .ok (.iconst 1, 1) := dk_4 (dk_at dksX9_isNew_0 8 rfl rfl)
theorem dX9_isNew_9 : decode cX9_isNew 9 = .ok (.invokevirtual 283, 3) := dk_182 1 27 (dk_at dksX9_isNew_0 9 rfl rfl)
theorem dX9_isNew_12 : decode cX9_isNew 12 = .ok (.ireturn, 1) := dk_172 (dk_at dksX9_isNew_0 12 rfl rfl)
theorem dX9_isNew_13 : decode cX9_isNew 13 = .ok (.aload_n 0, 1) := dk_42 (dk_at dksX9_isNew_0 13 rfl rfl)
theorem dX9_isNew_14 : decode cX9_isNew 14 = .ok (.iconst 1, 1) := dk_4 (dk_at dksX9_isNew_0 14 rfl rfl)
theorem dX9_isNew_15 : decode cX9_isNew 15 = .ok (.invokevirtual 348, 3) := dk_182 1 92 (dk_at dksX9_isNew_0 15 rfl rfl)
theorem dX9_isNew_18 : decode cX9_isNew 18 = .ok (.ifCond .ge 11, 3) := dk_156 0 11 (dk_at dksX9_isNew_0 18 rfl rfl)
theorem dX9_isNew_21 : decode cX9_isNew 21 = .ok (.aload_n 0, 1) := dk_42 (dk_at dksX9_isNew_0 21 rfl rfl)
theorem dX9_isNew_22 : decode cX9_isNew 22 = .ok (.iconst 1, 1) := dk_4 (dk_at dksX9_isNew_0 22 rfl rfl)
theorem dX9_isNew_23 : decode cX9_isNew 23 = .ok (.invokevirtual 369, 3) := dk_182 1 113 (dk_at dksX9_isNew_1 0 rfl rfl)
theorem dX9_isNew_26 : decode cX9_isNew 26 = .ok (.ifCond .lt 11, 3) := dk_155 0 11 (dk_at dksX9_isNew_1 3 rfl rfl)
theorem dX9_isNew_29 : decode cX9_isNew 29 = .ok (.aload_n 0, 1) := dk_42 (dk_at dksX9_isNew_1 6 rfl rfl)
theorem dX9_isNew_30 : decode cX9_isNew 30 = .ok (.iconst 3, 1) := dk_6 (dk_at dksX9_isNew_1 7 rfl rfl)
theorem dX9_isNew_31 : decode cX9_isNew 31 = .ok (.invokevirtual 283, 3) := dk_182 1 27 (dk_at dksX9_isNew_1 8 rfl rfl)
theorem dX9_isNew_34 : decode cX9_isNew 34 = .ok (.ifCond .eq 7, 3) := dk_153 0 7 (dk_at dksX9_isNew_1 11 rfl rfl)
theorem dX9_isNew_37 : decode cX9_isNew 37 = .ok (.iconst 1, 1) := dk_4 (dk_at dksX9_isNew_1 14 rfl rfl)
theorem dX9_isNew_38 : decode cX9_isNew 38 = .ok (.goto 4, 3) := dk_167 0 4 (dk_at dksX9_isNew_1 15 rfl rfl)
theorem dX9_isNew_41 : decode cX9_isNew 41 = .ok (.iconst 0, 1) := dk_3 (dk_at dksX9_isNew_1 18 rfl rfl)
theorem dX9_isNew_42 : decode cX9_isNew 42 = .ok (.ireturn, 1) := dk_172 (dk_at dksX9_isNew_1 19 rfl rfl)
abbrev cX9_isKept : ByteArray := prog_35_method_20_code
def yX9_isKept : MethodName := ⟨RX9, "isKept", "()Z"⟩
def dkwX9_isKept_12 : List UInt8 := [180, 0, 230, 20, 1, 39, 148, 154, 0, 7, 4, 167, 0, 4, 3, 172]
abbrev dktX9_isKept_12 : List UInt8 := dkwX9_isKept_12 ++ []
def dkwX9_isKept_11 : List UInt8 := [180, 0, 230, 20, 1, 17, 148, 153, 0, 25, 42, 180, 0, 230, 20, 1, 37, 148, 153, 0, 14, 42]
abbrev dktX9_isKept_11 : List UInt8 := dkwX9_isKept_11 ++ dktX9_isKept_12
def dkwX9_isKept_10 : List UInt8 := [180, 0, 230, 20, 1, 88, 148, 153, 0, 47, 42, 180, 0, 230, 20, 1, 90, 148, 153, 0, 36, 42]
abbrev dktX9_isKept_10 : List UInt8 := dkwX9_isKept_10 ++ dktX9_isKept_11
def dkwX9_isKept_9 : List UInt8 := [180, 0, 230, 20, 1, 84, 148, 153, 0, 69, 42, 180, 0, 230, 20, 1, 86, 148, 153, 0, 58, 42]
abbrev dktX9_isKept_9 : List UInt8 := dkwX9_isKept_9 ++ dktX9_isKept_10
def dkwX9_isKept_8 : List UInt8 := [180, 0, 230, 20, 1, 80, 148, 153, 0, 91, 42, 180, 0, 230, 20, 1, 82, 148, 153, 0, 80, 42]
abbrev dktX9_isKept_8 : List UInt8 := dkwX9_isKept_8 ++ dktX9_isKept_9
def dkwX9_isKept_7 : List UInt8 := [180, 0, 230, 20, 1, 76, 148, 153, 0, 113, 42, 180, 0, 230, 20, 1, 78, 148, 153, 0, 102, 42]
abbrev dktX9_isKept_7 : List UInt8 := dkwX9_isKept_7 ++ dktX9_isKept_8
def dkwX9_isKept_6 : List UInt8 := [180, 0, 230, 20, 1, 72, 148, 153, 0, 135, 42, 180, 0, 230, 20, 1, 74, 148, 153, 0, 124, 42]
abbrev dktX9_isKept_6 : List UInt8 := dkwX9_isKept_6 ++ dktX9_isKept_7
def dkwX9_isKept_5 : List UInt8 := [180, 0, 230, 20, 1, 68, 148, 153, 0, 157, 42, 180, 0, 230, 20, 1, 70, 148, 153, 0, 146, 42]
abbrev dktX9_isKept_5 : List UInt8 := dkwX9_isKept_5 ++ dktX9_isKept_6
def dkwX9_isKept_4 : List UInt8 := [180, 0, 230, 20, 1, 64, 148, 153, 0, 179, 42, 180, 0, 230, 20, 1, 66, 148, 153, 0, 168, 42]
abbrev dktX9_isKept_4 : List UInt8 := dkwX9_isKept_4 ++ dktX9_isKept_5
def dkwX9_isKept_3 : List UInt8 := [180, 0, 230, 20, 1, 60, 148, 153, 0, 201, 42, 180, 0, 230, 20, 1, 62, 148, 153, 0, 190, 42]
abbrev dktX9_isKept_3 : List UInt8 := dkwX9_isKept_3 ++ dktX9_isKept_4
def dkwX9_isKept_2 : List UInt8 := [180, 0, 230, 20, 1, 56, 148, 153, 0, 223, 42, 180, 0, 230, 20, 1, 58, 148, 153, 0, 212, 42]
abbrev dktX9_isKept_2 : List UInt8 := dkwX9_isKept_2 ++ dktX9_isKept_3
def dkwX9_isKept_1 : List UInt8 := [180, 0, 230, 20, 1, 52, 148, 153, 0, 245, 42, 180, 0, 230, 20, 1, 54, 148, 153, 0, 234, 42]
abbrev dktX9_isKept_1 : List UInt8 := dkwX9_isKept_1 ++ dktX9_isKept_2
def dkwX9_isKept_0 : List UInt8 := [42, 180, 0, 237, 4, 159, 0, 5, 4, 172, 42, 180, 0, 230, 20, 1, 50, 148, 153, 1, 0, 42]
abbrev dktX9_isKept_0 : List UInt8 := dkwX9_isKept_0 ++ dktX9_isKept_1
theorem dksX9_isKept_0 : cX9_isKept.data.toList.drop 0 = dktX9_isKept_0 := by decide +kernel
theorem dksX9_isKept_1 : cX9_isKept.data.toList.drop 22 = dktX9_isKept_1 := dk_seg dksX9_isKept_0 22 rfl rfl
theorem dksX9_isKept_2 : cX9_isKept.data.toList.drop 44 = dktX9_isKept_2 := dk_seg dksX9_isKept_1 22 rfl rfl
theorem dksX9_isKept_3 : cX9_isKept.data.toList.drop 66 = dktX9_isKept_3 := dk_seg dksX9_isKept_2 22 rfl rfl
theorem dksX9_isKept_4 : cX9_isKept.data.toList.drop 88 = dktX9_isKept_4 := dk_seg dksX9_isKept_3 22 rfl rfl
theorem dksX9_isKept_5 : cX9_isKept.data.toList.drop 110 = dktX9_isKept_5 := dk_seg dksX9_isKept_4 22 rfl rfl
theorem dksX9_isKept_6 : cX9_isKept.data.toList.drop 132 = dktX9_isKept_6 := dk_seg dksX9_isKept_5 22 rfl rfl
theorem dksX9_isKept_7 : cX9_isKept.data.toList.drop 154 = dktX9_isKept_7 := dk_seg dksX9_isKept_6 22 rfl rfl
theorem dksX9_isKept_8 : cX9_isKept.data.toList.drop 176 = dktX9_isKept_8 := dk_seg dksX9_isKept_7 22 rfl rfl
theorem dksX9_isKept_9 : cX9_isKept.data.toList.drop 198 = dktX9_isKept_9 := dk_seg dksX9_isKept_8 22 rfl rfl
theorem dksX9_isKept_10 : cX9_isKept.data.toList.drop 220 = dktX9_isKept_10 := dk_seg dksX9_isKept_9 22 rfl rfl
theorem dksX9_isKept_11 : cX9_isKept.data.toList.drop 242 = dktX9_isKept_11 := dk_seg dksX9_isKept_10 22 rfl rfl
theorem dksX9_isKept_12 : cX9_isKept.data.toList.drop 264 = dktX9_isKept_12 := dk_seg dksX9_isKept_11 22 rfl rfl
theorem dX9_isKept_0 : decode cX9_isKept 0 = .ok (.aload_n 0, 1) := dk_42 (dk_at dksX9_isKept_0 0 rfl rfl)
theorem dX9_isKept_1 : decode cX9_isKept 1 = .ok (.getfield 237, 3) := dk_180 0 237 (dk_at dksX9_isKept_0 1 rfl rfl)
theorem dX9_isKept_4 : decode cX9_isKept 4 = .ok (.iconst 1, 1) := dk_4 (dk_at dksX9_isKept_0 4 rfl rfl)
theorem dX9_isKept_5 : decode cX9_isKept 5 = .ok (.if_icmp .eq 5, 3) := dk_159 0 5 (dk_at dksX9_isKept_0 5 rfl rfl)
theorem dX9_isKept_8 : decode cX9_isKept 8 = .ok (.iconst 1, 1) := dk_4 (dk_at dksX9_isKept_0 8 rfl rfl)
theorem dX9_isKept_9 : decode cX9_isKept 9 = .ok (.ireturn, 1) := dk_172 (dk_at dksX9_isKept_0 9 rfl rfl)
theorem dX9_isKept_10 : decode cX9_isKept 10 = .ok (.aload_n 0, 1) := dk_42 (dk_at dksX9_isKept_0 10 rfl rfl)
theorem dX9_isKept_11 : decode cX9_isKept 11 = .ok (.getfield 230, 3) := dk_180 0 230 (dk_at dksX9_isKept_0 11 rfl rfl)
theorem dX9_isKept_14 : decode cX9_isKept 14 = .ok (.ldc2_w 306, 3) := dk_20 1 50 (dk_at dksX9_isKept_0 14 rfl rfl)
theorem dX9_isKept_17 : decode cX9_isKept 17 = .ok (.lcmp, 1) := dk_148 (dk_at dksX9_isKept_0 17 rfl rfl)
theorem dX9_isKept_18 : decode cX9_isKept 18 = .ok (.ifCond .eq 256, 3) := dk_153 1 0 (dk_at dksX9_isKept_0 18 rfl rfl)
theorem dX9_isKept_21 : decode cX9_isKept 21 = .ok (.aload_n 0, 1) := dk_42 (dk_at dksX9_isKept_0 21 rfl rfl)
theorem dX9_isKept_22 : decode cX9_isKept 22 = .ok (.getfield 230, 3) := dk_180 0 230 (dk_at dksX9_isKept_1 0 rfl rfl)
theorem dX9_isKept_25 : decode cX9_isKept 25 = .ok (.ldc2_w 308, 3) := dk_20 1 52 (dk_at dksX9_isKept_1 3 rfl rfl)
theorem dX9_isKept_28 : decode cX9_isKept 28 = .ok (.lcmp, 1) := dk_148 (dk_at dksX9_isKept_1 6 rfl rfl)
theorem dX9_isKept_29 : decode cX9_isKept 29 = .ok (.ifCond .eq 245, 3) := dk_153 0 245 (dk_at dksX9_isKept_1 7 rfl rfl)
theorem dX9_isKept_32 : decode cX9_isKept 32 = .ok (.aload_n 0, 1) := dk_42 (dk_at dksX9_isKept_1 10 rfl rfl)
theorem dX9_isKept_33 : decode cX9_isKept 33 = .ok (.getfield 230, 3) := dk_180 0 230 (dk_at dksX9_isKept_1 11 rfl rfl)
theorem dX9_isKept_36 : decode cX9_isKept 36 = .ok (.ldc2_w 310, 3) := dk_20 1 54 (dk_at dksX9_isKept_1 14 rfl rfl)
theorem dX9_isKept_39 : decode cX9_isKept 39 = .ok (.lcmp, 1) := dk_148 (dk_at dksX9_isKept_1 17 rfl rfl)
theorem dX9_isKept_40 : decode cX9_isKept 40 = .ok (.ifCond .eq 234, 3) := dk_153 0 234 (dk_at dksX9_isKept_1 18 rfl rfl)
theorem dX9_isKept_43 : decode cX9_isKept 43 = .ok (.aload_n 0, 1) := dk_42 (dk_at dksX9_isKept_1 21 rfl rfl)
theorem dX9_isKept_44 : decode cX9_isKept 44 = .ok (.getfield 230, 3) := dk_180 0 230 (dk_at dksX9_isKept_2 0 rfl rfl)
theorem dX9_isKept_47 : decode cX9_isKept 47 = .ok (.ldc2_w 312, 3) := dk_20 1 56 (dk_at dksX9_isKept_2 3 rfl rfl)
theorem dX9_isKept_50 : decode cX9_isKept 50 = .ok (.lcmp, 1) := dk_148 (dk_at dksX9_isKept_2 6 rfl rfl)
theorem dX9_isKept_51 : decode cX9_isKept 51 = .ok (.ifCond .eq 223, 3) := dk_153 0 223 (dk_at dksX9_isKept_2 7 rfl rfl)
theorem dX9_isKept_54 : decode cX9_isKept 54 = .ok (.aload_n 0, 1) := dk_42 (dk_at dksX9_isKept_2 10 rfl rfl)
theorem dX9_isKept_55 : decode cX9_isKept 55 = .ok (.getfield 230, 3) := dk_180 0 230 (dk_at dksX9_isKept_2 11 rfl rfl)
theorem dX9_isKept_58 : decode cX9_isKept 58 = .ok (.ldc2_w 314, 3) := dk_20 1 58 (dk_at dksX9_isKept_2 14 rfl rfl)
theorem dX9_isKept_61 : decode cX9_isKept 61 = .ok (.lcmp, 1) := dk_148 (dk_at dksX9_isKept_2 17 rfl rfl)
theorem dX9_isKept_62 : decode cX9_isKept 62 = .ok (.ifCond .eq 212, 3) := dk_153 0 212 (dk_at dksX9_isKept_2 18 rfl rfl)
theorem dX9_isKept_65 : decode cX9_isKept 65 = .ok (.aload_n 0, 1) := dk_42 (dk_at dksX9_isKept_2 21 rfl rfl)
theorem dX9_isKept_66 : decode cX9_isKept 66 = .ok (.getfield 230, 3) := dk_180 0 230 (dk_at dksX9_isKept_3 0 rfl rfl)
theorem dX9_isKept_69 : decode cX9_isKept 69 = .ok (.ldc2_w 316, 3) := dk_20 1 60 (dk_at dksX9_isKept_3 3 rfl rfl)
theorem dX9_isKept_72 : decode cX9_isKept 72 = .ok (.lcmp, 1) := dk_148 (dk_at dksX9_isKept_3 6 rfl rfl)
theorem dX9_isKept_73 : decode cX9_isKept 73 = .ok (.ifCond .eq 201, 3) := dk_153 0 201 (dk_at dksX9_isKept_3 7 rfl rfl)
theorem dX9_isKept_76 : decode cX9_isKept 76 = .ok (.aload_n 0, 1) := dk_42 (dk_at dksX9_isKept_3 10 rfl rfl)
theorem dX9_isKept_77 : decode cX9_isKept 77 = .ok (.getfield 230, 3) := dk_180 0 230 (dk_at dksX9_isKept_3 11 rfl rfl)
theorem dX9_isKept_80 : decode cX9_isKept 80 = .ok (.ldc2_w 318, 3) := dk_20 1 62 (dk_at dksX9_isKept_3 14 rfl rfl)
theorem dX9_isKept_83 : decode cX9_isKept 83 = .ok (.lcmp, 1) := dk_148 (dk_at dksX9_isKept_3 17 rfl rfl)
theorem dX9_isKept_84 : decode cX9_isKept 84 = .ok (.ifCond .eq 190, 3) := dk_153 0 190 (dk_at dksX9_isKept_3 18 rfl rfl)
theorem dX9_isKept_87 : decode cX9_isKept 87 = .ok (.aload_n 0, 1) := dk_42 (dk_at dksX9_isKept_3 21 rfl rfl)
theorem dX9_isKept_88 : decode cX9_isKept 88 = .ok (.getfield 230, 3) := dk_180 0 230 (dk_at dksX9_isKept_4 0 rfl rfl)
theorem dX9_isKept_91 : decode cX9_isKept 91 = .ok (.ldc2_w 320, 3) := dk_20 1 64 (dk_at dksX9_isKept_4 3 rfl rfl)
theorem dX9_isKept_94 : decode cX9_isKept 94 = .ok (.lcmp, 1) := dk_148 (dk_at dksX9_isKept_4 6 rfl rfl)
theorem dX9_isKept_95 : decode cX9_isKept 95 = .ok (.ifCond .eq 179, 3) := dk_153 0 179 (dk_at dksX9_isKept_4 7 rfl rfl)
theorem dX9_isKept_98 : decode cX9_isKept 98 = .ok (.aload_n 0, 1) := dk_42 (dk_at dksX9_isKept_4 10 rfl rfl)
theorem dX9_isKept_99 : decode cX9_isKept 99 = .ok (.getfield 230, 3) := dk_180 0 230 (dk_at dksX9_isKept_4 11 rfl rfl)
theorem dX9_isKept_102 : decode cX9_isKept 102 = .ok (.ldc2_w 322, 3) := dk_20 1 66 (dk_at dksX9_isKept_4 14 rfl rfl)
theorem dX9_isKept_105 : decode cX9_isKept 105 = .ok (.lcmp, 1) := dk_148 (dk_at dksX9_isKept_4 17 rfl rfl)
theorem dX9_isKept_106 : decode cX9_isKept 106 = .ok (.ifCond .eq 168, 3) := dk_153 0 168 (dk_at dksX9_isKept_4 18 rfl rfl)
theorem dX9_isKept_109 : decode cX9_isKept 109 = .ok (.aload_n 0, 1) := dk_42 (dk_at dksX9_isKept_4 21 rfl rfl)
theorem dX9_isKept_110 : decode cX9_isKept 110 = .ok (.getfield 230, 3) := dk_180 0 230 (dk_at dksX9_isKept_5 0 rfl rfl)
theorem dX9_isKept_113 : decode cX9_isKept 113 = .ok (.ldc2_w 324, 3) := dk_20 1 68 (dk_at dksX9_isKept_5 3 rfl rfl)
theorem dX9_isKept_116 : decode cX9_isKept 116 = .ok (.lcmp, 1) := dk_148 (dk_at dksX9_isKept_5 6 rfl rfl)
theorem dX9_isKept_117 : decode cX9_isKept 117 = .ok (.ifCond .eq 157, 3) := dk_153 0 157 (dk_at dksX9_isKept_5 7 rfl rfl)
theorem dX9_isKept_120 : decode cX9_isKept 120 = .ok (.aload_n 0, 1) := dk_42 (dk_at dksX9_isKept_5 10 rfl rfl)
theorem dX9_isKept_121 : decode cX9_isKept 121 = .ok (.getfield 230, 3) := dk_180 0 230 (dk_at dksX9_isKept_5 11 rfl rfl)
theorem dX9_isKept_124 : decode cX9_isKept 124 = .ok (.ldc2_w 326, 3) := dk_20 1 70 (dk_at dksX9_isKept_5 14 rfl rfl)
theorem dX9_isKept_127 : decode cX9_isKept 127 = .ok (.lcmp, 1) := dk_148 (dk_at dksX9_isKept_5 17 rfl rfl)
theorem dX9_isKept_128 : decode cX9_isKept 128 = .ok (.ifCond .eq 146, 3) := dk_153 0 146 (dk_at dksX9_isKept_5 18 rfl rfl)
theorem dX9_isKept_131 : decode cX9_isKept 131 = .ok (.aload_n 0, 1) := dk_42 (dk_at dksX9_isKept_5 21 rfl rfl)
theorem dX9_isKept_132 : decode cX9_isKept 132 = .ok (.getfield 230, 3) := dk_180 0 230 (dk_at dksX9_isKept_6 0 rfl rfl)
theorem dX9_isKept_135 : decode cX9_isKept 135 = .ok (.ldc2_w 328, 3) := dk_20 1 72 (dk_at dksX9_isKept_6 3 rfl rfl)
theorem dX9_isKept_138 : decode cX9_isKept 138 = .ok (.lcmp, 1) := dk_148 (dk_at dksX9_isKept_6 6 rfl rfl)
theorem dX9_isKept_139 : decode cX9_isKept 139 = .ok (.ifCond .eq 135, 3) := dk_153 0 135 (dk_at dksX9_isKept_6 7 rfl rfl)
theorem dX9_isKept_142 : decode cX9_isKept 142 = .ok (.aload_n 0, 1) := dk_42 (dk_at dksX9_isKept_6 10 rfl rfl)
theorem dX9_isKept_143 : decode cX9_isKept 143 = .ok (.getfield 230, 3) := dk_180 0 230 (dk_at dksX9_isKept_6 11 rfl rfl)
theorem dX9_isKept_146 : decode cX9_isKept 146 = .ok (.ldc2_w 330, 3) := dk_20 1 74 (dk_at dksX9_isKept_6 14 rfl rfl)
theorem dX9_isKept_149 : decode cX9_isKept 149 = .ok (.lcmp, 1) := dk_148 (dk_at dksX9_isKept_6 17 rfl rfl)
theorem dX9_isKept_150 : decode cX9_isKept 150 = .ok (.ifCond .eq 124, 3) := dk_153 0 124 (dk_at dksX9_isKept_6 18 rfl rfl)
theorem dX9_isKept_153 : decode cX9_isKept 153 = .ok (.aload_n 0, 1) := dk_42 (dk_at dksX9_isKept_6 21 rfl rfl)
theorem dX9_isKept_154 : decode cX9_isKept 154 = .ok (.getfield 230, 3) := dk_180 0 230 (dk_at dksX9_isKept_7 0 rfl rfl)
theorem dX9_isKept_157 : decode cX9_isKept 157 = .ok (.ldc2_w 332, 3) := dk_20 1 76 (dk_at dksX9_isKept_7 3 rfl rfl)
theorem dX9_isKept_160 : decode cX9_isKept 160 = .ok (.lcmp, 1) := dk_148 (dk_at dksX9_isKept_7 6 rfl rfl)
theorem dX9_isKept_161 : decode cX9_isKept 161 = .ok (.ifCond .eq 113, 3) := dk_153 0 113 (dk_at dksX9_isKept_7 7 rfl rfl)
theorem dX9_isKept_164 : decode cX9_isKept 164 = .ok (.aload_n 0, 1) := dk_42 (dk_at dksX9_isKept_7 10 rfl rfl)
theorem dX9_isKept_165 : decode cX9_isKept 165 = .ok (.getfield 230, 3) := dk_180 0 230 (dk_at dksX9_isKept_7 11 rfl rfl)
theorem dX9_isKept_168 : decode cX9_isKept 168 = .ok (.ldc2_w 334, 3) := dk_20 1 78 (dk_at dksX9_isKept_7 14 rfl rfl)
theorem dX9_isKept_171 : decode cX9_isKept 171 = .ok (.lcmp, 1) := dk_148 (dk_at dksX9_isKept_7 17 rfl rfl)
theorem dX9_isKept_172 : decode cX9_isKept 172 = .ok (.ifCond .eq 102, 3) := dk_153 0 102 (dk_at dksX9_isKept_7 18 rfl rfl)
theorem dX9_isKept_175 : decode cX9_isKept 175 = .ok (.aload_n 0, 1) := dk_42 (dk_at dksX9_isKept_7 21 rfl rfl)
theorem dX9_isKept_176 : decode cX9_isKept 176 = .ok (.getfield 230, 3) := dk_180 0 230 (dk_at dksX9_isKept_8 0 rfl rfl)
theorem dX9_isKept_179 : decode cX9_isKept 179 = .ok (.ldc2_w 336, 3) := dk_20 1 80 (dk_at dksX9_isKept_8 3 rfl rfl)
theorem dX9_isKept_182 : decode cX9_isKept 182 = .ok (.lcmp, 1) := dk_148 (dk_at dksX9_isKept_8 6 rfl rfl)
theorem dX9_isKept_183 : decode cX9_isKept 183 = .ok (.ifCond .eq 91, 3) := dk_153 0 91 (dk_at dksX9_isKept_8 7 rfl rfl)
theorem dX9_isKept_186 : decode cX9_isKept 186 = .ok (.aload_n 0, 1) := dk_42 (dk_at dksX9_isKept_8 10 rfl rfl)
theorem dX9_isKept_187 : decode cX9_isKept 187 = .ok (.getfield 230, 3) := dk_180 0 230 (dk_at dksX9_isKept_8 11 rfl rfl)
theorem dX9_isKept_190 : decode cX9_isKept 190 = .ok (.ldc2_w 338, 3) := dk_20 1 82 (dk_at dksX9_isKept_8 14 rfl rfl)
theorem dX9_isKept_193 : decode cX9_isKept 193 = .ok (.lcmp, 1) := dk_148 (dk_at dksX9_isKept_8 17 rfl rfl)
theorem dX9_isKept_194 : decode cX9_isKept 194 = .ok (.ifCond .eq 80, 3) := dk_153 0 80 (dk_at dksX9_isKept_8 18 rfl rfl)
theorem dX9_isKept_197 : decode cX9_isKept 197 = .ok (.aload_n 0, 1) := dk_42 (dk_at dksX9_isKept_8 21 rfl rfl)
theorem dX9_isKept_198 : decode cX9_isKept 198 = .ok (.getfield 230, 3) := dk_180 0 230 (dk_at dksX9_isKept_9 0 rfl rfl)
theorem dX9_isKept_201 : decode cX9_isKept 201 = .ok (.ldc2_w 340, 3) := dk_20 1 84 (dk_at dksX9_isKept_9 3 rfl rfl)
theorem dX9_isKept_204 : decode cX9_isKept 204 = .ok (.lcmp, 1) := dk_148 (dk_at dksX9_isKept_9 6 rfl rfl)
theorem dX9_isKept_205 : decode cX9_isKept 205 = .ok (.ifCond .eq 69, 3) := dk_153 0 69 (dk_at dksX9_isKept_9 7 rfl rfl)
theorem dX9_isKept_208 : decode cX9_isKept 208 = .ok (.aload_n 0, 1) := dk_42 (dk_at dksX9_isKept_9 10 rfl rfl)
theorem dX9_isKept_209 : decode cX9_isKept 209 = .ok (.getfield 230, 3) := dk_180 0 230 (dk_at dksX9_isKept_9 11 rfl rfl)
theorem dX9_isKept_212 : decode cX9_isKept 212 = .ok (.ldc2_w 342, 3) := dk_20 1 86 (dk_at dksX9_isKept_9 14 rfl rfl)
theorem dX9_isKept_215 : decode cX9_isKept 215 = .ok (.lcmp, 1) := dk_148 (dk_at dksX9_isKept_9 17 rfl rfl)
theorem dX9_isKept_216 : decode cX9_isKept 216 = .ok (.ifCond .eq 58, 3) := dk_153 0 58 (dk_at dksX9_isKept_9 18 rfl rfl)
theorem dX9_isKept_219 : decode cX9_isKept 219 = .ok (.aload_n 0, 1) := dk_42 (dk_at dksX9_isKept_9 21 rfl rfl)
theorem dX9_isKept_220 : decode cX9_isKept 220 = .ok (.getfield 230, 3) := dk_180 0 230 (dk_at dksX9_isKept_10 0 rfl rfl)
theorem dX9_isKept_223 : decode cX9_isKept 223 = .ok (.ldc2_w 344, 3) := dk_20 1 88 (dk_at dksX9_isKept_10 3 rfl rfl)
theorem dX9_isKept_226 : decode cX9_isKept 226 = .ok (.lcmp, 1) := dk_148 (dk_at dksX9_isKept_10 6 rfl rfl)
theorem dX9_isKept_227 : decode cX9_isKept 227 = .ok (.ifCond .eq 47, 3) := dk_153 0 47 (dk_at dksX9_isKept_10 7 rfl rfl)
theorem dX9_isKept_230 : decode cX9_isKept 230 = .ok (.aload_n 0, 1) := dk_42 (dk_at dksX9_isKept_10 10 rfl rfl)
theorem dX9_isKept_231 : decode cX9_isKept 231 = .ok (.getfield 230, 3) := dk_180 0 230 (dk_at dksX9_isKept_10 11 rfl rfl)
theorem dX9_isKept_234 : decode cX9_isKept 234 = .ok (.ldc2_w 346, 3) := dk_20 1 90 (dk_at dksX9_isKept_10 14 rfl rfl)
theorem dX9_isKept_237 : decode cX9_isKept 237 = .ok (.lcmp, 1) := dk_148 (dk_at dksX9_isKept_10 17 rfl rfl)
theorem dX9_isKept_238 : decode cX9_isKept 238 = .ok (.ifCond .eq 36, 3) := dk_153 0 36 (dk_at dksX9_isKept_10 18 rfl rfl)
theorem dX9_isKept_241 : decode cX9_isKept 241 = .ok (.aload_n 0, 1) := dk_42 (dk_at dksX9_isKept_10 21 rfl rfl)
theorem dX9_isKept_242 : decode cX9_isKept 242 = .ok (.getfield 230, 3) := dk_180 0 230 (dk_at dksX9_isKept_11 0 rfl rfl)
theorem dX9_isKept_245 : decode cX9_isKept 245 = .ok (.ldc2_w 273, 3) := dk_20 1 17 (dk_at dksX9_isKept_11 3 rfl rfl)
theorem dX9_isKept_248 : decode cX9_isKept 248 = .ok (.lcmp, 1) := dk_148 (dk_at dksX9_isKept_11 6 rfl rfl)
theorem dX9_isKept_249 : decode cX9_isKept 249 = .ok (.ifCond .eq 25, 3) := dk_153 0 25 (dk_at dksX9_isKept_11 7 rfl rfl)
theorem dX9_isKept_252 : decode cX9_isKept 252 = .ok (.aload_n 0, 1) := dk_42 (dk_at dksX9_isKept_11 10 rfl rfl)
theorem dX9_isKept_253 : decode cX9_isKept 253 = .ok (.getfield 230, 3) := dk_180 0 230 (dk_at dksX9_isKept_11 11 rfl rfl)
theorem dX9_isKept_256 : decode cX9_isKept 256 = .ok (.ldc2_w 293, 3) := dk_20 1 37 (dk_at dksX9_isKept_11 14 rfl rfl)
theorem dX9_isKept_259 : decode cX9_isKept 259 = .ok (.lcmp, 1) := dk_148 (dk_at dksX9_isKept_11 17 rfl rfl)
theorem dX9_isKept_260 : decode cX9_isKept 260 = .ok (.ifCond .eq 14, 3) := dk_153 0 14 (dk_at dksX9_isKept_11 18 rfl rfl)
theorem dX9_isKept_263 : decode cX9_isKept 263 = .ok (.aload_n 0, 1) := dk_42 (dk_at dksX9_isKept_11 21 rfl rfl)
theorem dX9_isKept_264 : decode cX9_isKept 264 = .ok (.getfield 230, 3) := dk_180 0 230 (dk_at dksX9_isKept_12 0 rfl rfl)
theorem dX9_isKept_267 : decode cX9_isKept 267 = .ok (.ldc2_w 295, 3) := dk_20 1 39 (dk_at dksX9_isKept_12 3 rfl rfl)
theorem dX9_isKept_270 : decode cX9_isKept 270 = .ok (.lcmp, 1) := dk_148 (dk_at dksX9_isKept_12 6 rfl rfl)
theorem dX9_isKept_271 : decode cX9_isKept 271 = .ok (.ifCond .ne 7, 3) := dk_154 0 7 (dk_at dksX9_isKept_12 7 rfl rfl)
theorem dX9_isKept_274 : decode cX9_isKept 274 = .ok (.iconst 1, 1) := dk_4 (dk_at dksX9_isKept_12 10 rfl rfl)
theorem dX9_isKept_275 : decode cX9_isKept 275 = .ok (.goto 4, 3) := dk_167 0 4 (dk_at dksX9_isKept_12 11 rfl rfl)
theorem dX9_isKept_278 : decode cX9_isKept 278 = .ok (.iconst 0, 1) := dk_3 (dk_at dksX9_isKept_12 14 rfl rfl)
theorem dX9_isKept_279 : decode cX9_isKept 279 = .ok (.ireturn, 1) := dk_172 (dk_at dksX9_isKept_12 15 rfl rfl)
abbrev cX9_soundNamed : ByteArray := prog_35_method_21_code
def yX9_soundNamed : MethodName := ⟨RX9, "soundNamed", "(I)I"⟩
def dkwX9_soundNamed_1 : List UInt8 := [104, 28, 96, 47, 42, 180, 0, 230, 148, 154, 0, 5, 28, 172, 132, 2, 1, 167, 255, 217, 2, 172]
abbrev dktX9_soundNamed_1 : List UInt8 := dkwX9_soundNamed_1 ++ []
def dkwX9_soundNamed_0 : List UInt8 := [3, 61, 28, 42, 180, 0, 13, 16, 6, 27, 104, 4, 96, 46, 162, 0, 30, 42, 180, 0, 16, 16, 16, 27]
abbrev dktX9_soundNamed_0 : List UInt8 := dkwX9_soundNamed_0 ++ dktX9_soundNamed_1
theorem dksX9_soundNamed_0 : cX9_soundNamed.data.toList.drop 0 = dktX9_soundNamed_0 := by decide +kernel
theorem dksX9_soundNamed_1 : cX9_soundNamed.data.toList.drop 24 = dktX9_soundNamed_1 := dk_seg dksX9_soundNamed_0 24 rfl rfl
theorem dX9_soundNamed_0 : decode cX9_soundNamed 0 = .ok (.iconst 0, 1) := dk_3 (dk_at dksX9_soundNamed_0 0 rfl rfl)
theorem dX9_soundNamed_1 : decode cX9_soundNamed 1 = .ok (.istore_n 2, 1) := dk_61 (dk_at dksX9_soundNamed_0 1 rfl rfl)
theorem dX9_soundNamed_2 : decode cX9_soundNamed 2 = .ok (.iload_n 2, 1) := dk_28 (dk_at dksX9_soundNamed_0 2 rfl rfl)
theorem dX9_soundNamed_3 : decode cX9_soundNamed 3 = .ok (.aload_n 0, 1) := dk_42 (dk_at dksX9_soundNamed_0 3 rfl rfl)
theorem dX9_soundNamed_4 : decode cX9_soundNamed 4 = .ok (.getfield 13, 3) := dk_180 0 13 (dk_at dksX9_soundNamed_0 4 rfl rfl)
theorem dX9_soundNamed_7 : decode cX9_soundNamed 7 = .ok (.bipush 6, 2) := dk_16 6 (dk_at dksX9_soundNamed_0 7 rfl rfl)
theorem dX9_soundNamed_9 : decode cX9_soundNamed 9 = .ok (.iload_n 1, 1) := dk_27 (dk_at dksX9_soundNamed_0 9 rfl rfl)
theorem dX9_soundNamed_10 : decode cX9_soundNamed 10 = .ok (.imul, 1) := dk_104 (dk_at dksX9_soundNamed_0 10 rfl rfl)
theorem dX9_soundNamed_11 : decode cX9_soundNamed 11 = .ok (.iconst 1, 1) := dk_4 (dk_at dksX9_soundNamed_0 11 rfl rfl)
theorem dX9_soundNamed_12 : decode cX9_soundNamed 12 = .ok (.iadd, 1) := dk_96 (dk_at dksX9_soundNamed_0 12 rfl rfl)
theorem dX9_soundNamed_13 : decode cX9_soundNamed 13 = .ok (.iaload, 1) := dk_46 (dk_at dksX9_soundNamed_0 13 rfl rfl)
theorem dX9_soundNamed_14 : decode cX9_soundNamed 14 = .ok (.if_icmp .ge 30, 3) := dk_162 0 30 (dk_at dksX9_soundNamed_0 14 rfl rfl)
theorem dX9_soundNamed_17 : decode cX9_soundNamed 17 = .ok (.aload_n 0, 1) := dk_42 (dk_at dksX9_soundNamed_0 17 rfl rfl)
theorem dX9_soundNamed_18 : decode cX9_soundNamed 18 = .ok (.getfield 16, 3) := dk_180 0 16 (dk_at dksX9_soundNamed_0 18 rfl rfl)
theorem dX9_soundNamed_21 : decode cX9_soundNamed 21 = .ok (.bipush 16, 2) := dk_16 16 (dk_at dksX9_soundNamed_0 21 rfl rfl)
theorem dX9_soundNamed_23 : decode cX9_soundNamed 23 = .ok (.iload_n 1, 1) := dk_27 (dk_at dksX9_soundNamed_0 23 rfl rfl)
theorem dX9_soundNamed_24 : decode cX9_soundNamed 24 = .ok (.imul, 1) := dk_104 (dk_at dksX9_soundNamed_1 0 rfl rfl)
theorem dX9_soundNamed_25 : decode cX9_soundNamed 25 = .ok (.iload_n 2, 1) := dk_28 (dk_at dksX9_soundNamed_1 1 rfl rfl)
theorem dX9_soundNamed_26 : decode cX9_soundNamed 26 = .ok (.iadd, 1) := dk_96 (dk_at dksX9_soundNamed_1 2 rfl rfl)
theorem dX9_soundNamed_27 : decode cX9_soundNamed 27 = .ok (.laload, 1) := dk_47 (dk_at dksX9_soundNamed_1 3 rfl rfl)
theorem dX9_soundNamed_28 : decode cX9_soundNamed 28 = .ok (.aload_n 0, 1) := dk_42 (dk_at dksX9_soundNamed_1 4 rfl rfl)
theorem dX9_soundNamed_29 : decode cX9_soundNamed 29 = .ok (.getfield 230, 3) := dk_180 0 230 (dk_at dksX9_soundNamed_1 5 rfl rfl)
theorem dX9_soundNamed_32 : decode cX9_soundNamed 32 = .ok (.lcmp, 1) := dk_148 (dk_at dksX9_soundNamed_1 8 rfl rfl)
theorem dX9_soundNamed_33 : decode cX9_soundNamed 33 = .ok (.ifCond .ne 5, 3) := dk_154 0 5 (dk_at dksX9_soundNamed_1 9 rfl rfl)
theorem dX9_soundNamed_36 : decode cX9_soundNamed 36 = .ok (.iload_n 2, 1) := dk_28 (dk_at dksX9_soundNamed_1 12 rfl rfl)
theorem dX9_soundNamed_37 : decode cX9_soundNamed 37 = .ok (.ireturn, 1) := dk_172 (dk_at dksX9_soundNamed_1 13 rfl rfl)
theorem dX9_soundNamed_38 : decode cX9_soundNamed 38 = .ok (.iinc 2 1, 3) := dk_132 2 1 (dk_at dksX9_soundNamed_1 14 rfl rfl)
theorem dX9_soundNamed_41 : decode cX9_soundNamed 41 = .ok (.goto (-39), 3) := dk_167 255 217 (dk_at dksX9_soundNamed_1 17 rfl rfl)
theorem dX9_soundNamed_44 : decode cX9_soundNamed 44 = .ok (.iconst (-1), 1) := dk_2 (dk_at dksX9_soundNamed_1 20 rfl rfl)
theorem dX9_soundNamed_45 : decode cX9_soundNamed 45 = .ok (.ireturn, 1) := dk_172 (dk_at dksX9_soundNamed_1 21 rfl rfl)
abbrev cX9_personNamed : ByteArray := prog_35_method_22_code
def yX9_personNamed : MethodName := ⟨RX9, "personNamed", "(I)I"⟩
def dkwX9_personNamed_1 : List UInt8 := [28, 96, 47, 42, 180, 0, 230, 148, 154, 0, 5, 28, 172, 132, 2, 1, 167, 255, 218, 2, 172]
abbrev dktX9_personNamed_1 : List UInt8 := dkwX9_personNamed_1 ++ []
def dkwX9_personNamed_0 : List UInt8 := [3, 61, 28, 42, 180, 0, 13, 16, 6, 27, 104, 5, 96, 46, 162, 0, 29, 42, 180, 0, 20, 8, 27, 104]
abbrev dktX9_personNamed_0 : List UInt8 := dkwX9_personNamed_0 ++ dktX9_personNamed_1
theorem dksX9_personNamed_0 : cX9_personNamed.data.toList.drop 0 = dktX9_personNamed_0 := by decide +kernel
theorem dksX9_personNamed_1 : cX9_personNamed.data.toList.drop 24 = dktX9_personNamed_1 := dk_seg dksX9_personNamed_0 24 rfl rfl
theorem dX9_personNamed_0 : decode cX9_personNamed 0 = .ok (.iconst 0, 1) := dk_3 (dk_at dksX9_personNamed_0 0 rfl rfl)
theorem dX9_personNamed_1 : decode cX9_personNamed 1 = .ok (.istore_n 2, 1) := dk_61 (dk_at dksX9_personNamed_0 1 rfl rfl)
theorem dX9_personNamed_2 : decode cX9_personNamed 2 = .ok (.iload_n 2, 1) := dk_28 (dk_at dksX9_personNamed_0 2 rfl rfl)
theorem dX9_personNamed_3 : decode cX9_personNamed 3 = .ok (.aload_n 0, 1) := dk_42 (dk_at dksX9_personNamed_0 3 rfl rfl)
theorem dX9_personNamed_4 : decode cX9_personNamed 4 = .ok (.getfield 13, 3) := dk_180 0 13 (dk_at dksX9_personNamed_0 4 rfl rfl)
theorem dX9_personNamed_7 : decode cX9_personNamed 7 = .ok (.bipush 6, 2) := dk_16 6 (dk_at dksX9_personNamed_0 7 rfl rfl)
theorem dX9_personNamed_9 : decode cX9_personNamed 9 = .ok (.iload_n 1, 1) := dk_27 (dk_at dksX9_personNamed_0 9 rfl rfl)
theorem dX9_personNamed_10 : decode cX9_personNamed 10 = .ok (.imul, 1) := dk_104 (dk_at dksX9_personNamed_0 10 rfl rfl)
theorem dX9_personNamed_11 : decode cX9_personNamed 11 = .ok (.iconst 2, 1) := dk_5 (dk_at dksX9_personNamed_0 11 rfl rfl)
theorem dX9_personNamed_12 : decode cX9_personNamed 12 = .ok (.iadd, 1) := dk_96 (dk_at dksX9_personNamed_0 12 rfl rfl)
theorem dX9_personNamed_13 : decode cX9_personNamed 13 = .ok (.iaload, 1) := dk_46 (dk_at dksX9_personNamed_0 13 rfl rfl)
theorem dX9_personNamed_14 : decode cX9_personNamed 14 = .ok (.if_icmp .ge 29, 3) := dk_162 0 29 (dk_at dksX9_personNamed_0 14 rfl rfl)
theorem dX9_personNamed_17 : decode cX9_personNamed 17 = .ok (.aload_n 0, 1) := dk_42 (dk_at dksX9_personNamed_0 17 rfl rfl)
theorem dX9_personNamed_18 : decode cX9_personNamed 18 = .ok (.getfield 20, 3) := dk_180 0 20 (dk_at dksX9_personNamed_0 18 rfl rfl)
theorem dX9_personNamed_21 : decode cX9_personNamed 21 = .ok (.iconst 5, 1) := dk_8 (dk_at dksX9_personNamed_0 21 rfl rfl)
theorem dX9_personNamed_22 : decode cX9_personNamed 22 = .ok (.iload_n 1, 1) := dk_27 (dk_at dksX9_personNamed_0 22 rfl rfl)
theorem dX9_personNamed_23 : decode cX9_personNamed 23 = .ok (.imul, 1) := dk_104 (dk_at dksX9_personNamed_0 23 rfl rfl)
theorem dX9_personNamed_24 : decode cX9_personNamed 24 = .ok (.iload_n 2, 1) := dk_28 (dk_at dksX9_personNamed_1 0 rfl rfl)
theorem dX9_personNamed_25 : decode cX9_personNamed 25 = .ok (.iadd, 1) := dk_96 (dk_at dksX9_personNamed_1 1 rfl rfl)
theorem dX9_personNamed_26 : decode cX9_personNamed 26 = .ok (.laload, 1) := dk_47 (dk_at dksX9_personNamed_1 2 rfl rfl)
theorem dX9_personNamed_27 : decode cX9_personNamed 27 = .ok (.aload_n 0, 1) := dk_42 (dk_at dksX9_personNamed_1 3 rfl rfl)
theorem dX9_personNamed_28 : decode cX9_personNamed 28 = .ok (.getfield 230, 3) := dk_180 0 230 (dk_at dksX9_personNamed_1 4 rfl rfl)
theorem dX9_personNamed_31 : decode cX9_personNamed 31 = .ok (.lcmp, 1) := dk_148 (dk_at dksX9_personNamed_1 7 rfl rfl)
theorem dX9_personNamed_32 : decode cX9_personNamed 32 = .ok (.ifCond .ne 5, 3) := dk_154 0 5 (dk_at dksX9_personNamed_1 8 rfl rfl)
theorem dX9_personNamed_35 : decode cX9_personNamed 35 = .ok (.iload_n 2, 1) := dk_28 (dk_at dksX9_personNamed_1 11 rfl rfl)
theorem dX9_personNamed_36 : decode cX9_personNamed 36 = .ok (.ireturn, 1) := dk_172 (dk_at dksX9_personNamed_1 12 rfl rfl)
theorem dX9_personNamed_37 : decode cX9_personNamed 37 = .ok (.iinc 2 1, 3) := dk_132 2 1 (dk_at dksX9_personNamed_1 13 rfl rfl)
theorem dX9_personNamed_40 : decode cX9_personNamed 40 = .ok (.goto (-38), 3) := dk_167 255 218 (dk_at dksX9_personNamed_1 16 rfl rfl)
theorem dX9_personNamed_43 : decode cX9_personNamed 43 = .ok (.iconst (-1), 1) := dk_2 (dk_at dksX9_personNamed_1 19 rfl rfl)
theorem dX9_personNamed_44 : decode cX9_personNamed 44 = .ok (.ireturn, 1) := dk_172 (dk_at dksX9_personNamed_1 20 rfl rfl)
abbrev cX9_needsBoth : ByteArray := prog_35_method_26_code
def yX9_needsBoth : MethodName := ⟨RX9, "needsBoth", "(JII)Z"⟩
def dkwX9_needsBoth_0 : List UInt8 := [42, 31, 182, 1, 102, 153, 0, 17, 42, 29, 21, 4, 182, 1, 105, 153, 0, 7, 4, 167, 0, 4, 3, 172]
abbrev dktX9_needsBoth_0 : List UInt8 := dkwX9_needsBoth_0 ++ []
theorem dksX9_needsBoth_0 : cX9_needsBoth.data.toList.drop 0 = dktX9_needsBoth_0 := by decide +kernel
theorem dX9_needsBoth_0 : decode cX9_needsBoth 0 = .ok (.aload_n 0, 1) := dk_42 (dk_at dksX9_needsBoth_0 0 rfl rfl)
theorem dX9_needsBoth_1 : decode cX9_needsBoth 1 = .ok (.lload_n 1, 1) := dk_31 (dk_at dksX9_needsBoth_0 1 rfl rfl)
theorem dX9_needsBoth_2 : decode cX9_needsBoth 2 = .ok (.invokevirtual 358, 3) := dk_182 1 102 (dk_at dksX9_needsBoth_0 2 rfl rfl)
theorem dX9_needsBoth_5 : decode cX9_needsBoth 5 = .ok (.ifCond .eq 17, 3) := dk_153 0 17 (dk_at dksX9_needsBoth_0 5 rfl rfl)
theorem dX9_needsBoth_8 : decode cX9_needsBoth 8 = .ok (.aload_n 0, 1) := dk_42 (dk_at dksX9_needsBoth_0 8 rfl rfl)
theorem dX9_needsBoth_9 : decode cX9_needsBoth 9 = .ok (.iload_n 3, 1) := dk_29 (dk_at dksX9_needsBoth_0 9 rfl rfl)
theorem dX9_needsBoth_10 : decode cX9_needsBoth 10 = .ok (.iload 4, 2) := dk_21 4 (dk_at dksX9_needsBoth_0 10 rfl rfl)
theorem dX9_needsBoth_12 : decode cX9_needsBoth 12 = .ok (.invokevirtual 361, 3) := dk_182 1 105 (dk_at dksX9_needsBoth_0 12 rfl rfl)
theorem dX9_needsBoth_15 : decode cX9_needsBoth 15 = .ok (.ifCond .eq 7, 3) := dk_153 0 7 (dk_at dksX9_needsBoth_0 15 rfl rfl)
theorem dX9_needsBoth_18 : decode cX9_needsBoth 18 = .ok (.iconst 1, 1) := dk_4 (dk_at dksX9_needsBoth_0 18 rfl rfl)
theorem dX9_needsBoth_19 : decode cX9_needsBoth 19 = .ok (.goto 4, 3) := dk_167 0 4 (dk_at dksX9_needsBoth_0 19 rfl rfl)
theorem dX9_needsBoth_22 : decode cX9_needsBoth 22 = .ok (.iconst 0, 1) := dk_3 (dk_at dksX9_needsBoth_0 22 rfl rfl)
theorem dX9_needsBoth_23 : decode cX9_needsBoth 23 = .ok (.ireturn, 1) := dk_172 (dk_at dksX9_needsBoth_0 23 rfl rfl)
abbrev cX9_needsWord : ByteArray := prog_35_method_25_code
def yX9_needsWord : MethodName := ⟨RX9, "needsWord", "(J)Z"⟩
def dkwX9_needsWord_0 : List UInt8 := [42, 31, 182, 1, 19, 154, 0, 9, 42, 4, 182, 1, 27, 172, 42, 182, 1, 34, 4, 172]
abbrev dktX9_needsWord_0 : List UInt8 := dkwX9_needsWord_0 ++ []
theorem dksX9_needsWord_0 : cX9_needsWord.data.toList.drop 0 = dktX9_needsWord_0 := by decide +kernel
theorem dX9_needsWord_0 : decode cX9_needsWord 0 = .ok (.aload_n 0, 1) := dk_42 (dk_at dksX9_needsWord_0 0 rfl rfl)
theorem dX9_needsWord_1 : decode cX9_needsWord 1 = .ok (.lload_n 1, 1) := dk_31 (dk_at dksX9_needsWord_0 1 rfl rfl)
theorem dX9_needsWord_2 : decode cX9_needsWord 2 = .ok (.invokevirtual 275, 3) := dk_182 1 19 (dk_at dksX9_needsWord_0 2 rfl rfl)
theorem dX9_needsWord_5 : decode cX9_needsWord 5 = .ok (.ifCond .ne 9, 3) := dk_154 0 9 (dk_at dksX9_needsWord_0 5 rfl rfl)
theorem dX9_needsWord_8 : decode cX9_needsWord 8 = .ok (.aload_n 0, 1) := dk_42 (dk_at dksX9_needsWord_0 8 rfl rfl)
theorem dX9_needsWord_9 : decode cX9_needsWord 9 = .ok (.iconst 1, 1) := dk_4 (dk_at dksX9_needsWord_0 9 rfl rfl)
theorem dX9_needsWord_10 : decode cX9_needsWord 10 = .ok (.invokevirtual 283, 3) := dk_182 1 27 (dk_at dksX9_needsWord_0 10 rfl rfl)
theorem dX9_needsWord_13 : decode cX9_needsWord 13 = .ok (.ireturn, 1) := dk_172 (dk_at dksX9_needsWord_0 13 rfl rfl)
theorem dX9_needsWord_14 : decode cX9_needsWord 14 = .ok (.aload_n 0, 1) := dk_42 (dk_at dksX9_needsWord_0 14 rfl rfl)
theorem dX9_needsWord_15 : decode cX9_needsWord 15 = .ok (.invokevirtual 290, 3) := dk_182 1 34 (dk_at dksX9_needsWord_0 15 rfl rfl)
theorem dX9_needsWord_18 : decode cX9_needsWord 18 = .ok (.iconst 1, 1) := dk_4 (dk_at dksX9_needsWord_0 18 rfl rfl)
theorem dX9_needsWord_19 : decode cX9_needsWord 19 = .ok (.ireturn, 1) := dk_172 (dk_at dksX9_needsWord_0 19 rfl rfl)
abbrev cX9_needsNumber : ByteArray := prog_35_method_24_code
def yX9_needsNumber : MethodName := ⟨RX9, "needsNumber", "(II)Z"⟩
def dkwX9_needsNumber_1 : List UInt8 := [154, 0, 9, 42, 7, 182, 1, 27, 172, 42, 42, 180, 0, 234, 181, 1, 99, 42, 182, 1, 34, 4, 172]
abbrev dktX9_needsNumber_1 : List UInt8 := dkwX9_needsNumber_1 ++ []
def dkwX9_needsNumber_0 : List UInt8 := [42, 180, 0, 237, 5, 159, 0, 9, 42, 4, 182, 1, 27, 172, 42, 180, 0, 234, 27, 28, 184, 1, 95]
abbrev dktX9_needsNumber_0 : List UInt8 := dkwX9_needsNumber_0 ++ dktX9_needsNumber_1
theorem dksX9_needsNumber_0 : cX9_needsNumber.data.toList.drop 0 = dktX9_needsNumber_0 := by decide +kernel
theorem dksX9_needsNumber_1 : cX9_needsNumber.data.toList.drop 23 = dktX9_needsNumber_1 := dk_seg dksX9_needsNumber_0 23 rfl rfl
theorem dX9_needsNumber_0 : decode cX9_needsNumber 0 = .ok (.aload_n 0, 1) := dk_42 (dk_at dksX9_needsNumber_0 0 rfl rfl)
theorem dX9_needsNumber_1 : decode cX9_needsNumber 1 = .ok (.getfield 237, 3) := dk_180 0 237 (dk_at dksX9_needsNumber_0 1 rfl rfl)
theorem dX9_needsNumber_4 : decode cX9_needsNumber 4 = .ok (.iconst 2, 1) := dk_5 (dk_at dksX9_needsNumber_0 4 rfl rfl)
theorem dX9_needsNumber_5 : decode cX9_needsNumber 5 = .ok (.if_icmp .eq 9, 3) := dk_159 0 9 (dk_at dksX9_needsNumber_0 5 rfl rfl)
theorem dX9_needsNumber_8 : decode cX9_needsNumber 8 = .ok (.aload_n 0, 1) := dk_42 (dk_at dksX9_needsNumber_0 8 rfl rfl)
theorem dX9_needsNumber_9 : decode cX9_needsNumber 9 = .ok (.iconst 1, 1) := dk_4 (dk_at dksX9_needsNumber_0 9 rfl rfl)
theorem dX9_needsNumber_10 : decode cX9_needsNumber 10 = .ok (.invokevirtual 283, 3) := dk_182 1 27 (dk_at dksX9_needsNumber_0 10 rfl rfl)
theorem dX9_needsNumber_13 : decode cX9_needsNumber 13 = .ok (.ireturn, 1) := dk_172 (dk_at dksX9_needsNumber_0 13 rfl rfl)
theorem dX9_needsNumber_14 : decode cX9_needsNumber 14 = .ok (.aload_n 0, 1) := dk_42 (dk_at dksX9_needsNumber_0 14 rfl rfl)
theorem dX9_needsNumber_15 : decode cX9_needsNumber 15 = .ok (.getfield 234, 3) := dk_180 0 234 (dk_at dksX9_needsNumber_0 15 rfl rfl)
theorem dX9_needsNumber_18 : decode cX9_needsNumber 18 = .ok (.iload_n 1, 1) := dk_27 (dk_at dksX9_needsNumber_0 18 rfl rfl)
theorem dX9_needsNumber_19 : decode cX9_needsNumber 19 = .ok (.iload_n 2, 1) := dk_28 (dk_at dksX9_needsNumber_0 19 rfl rfl)
theorem dX9_needsNumber_20 : decode cX9_needsNumber 20 = .ok (.invokestatic 351, 3) := dk_184 1 95 (dk_at dksX9_needsNumber_0 20 rfl rfl)
theorem dX9_needsNumber_23 : decode cX9_needsNumber 23 = .ok (.ifCond .ne 9, 3) := dk_154 0 9 (dk_at dksX9_needsNumber_1 0 rfl rfl)
theorem dX9_needsNumber_26 : decode cX9_needsNumber 26 = .ok (.aload_n 0, 1) := dk_42 (dk_at dksX9_needsNumber_1 3 rfl rfl)
theorem dX9_needsNumber_27 : decode cX9_needsNumber 27 = .ok (.iconst 4, 1) := dk_7 (dk_at dksX9_needsNumber_1 4 rfl rfl)
theorem dX9_needsNumber_28 : decode cX9_needsNumber 28 = .ok (.invokevirtual 283, 3) := dk_182 1 27 (dk_at dksX9_needsNumber_1 5 rfl rfl)
theorem dX9_needsNumber_31 : decode cX9_needsNumber 31 = .ok (.ireturn, 1) := dk_172 (dk_at dksX9_needsNumber_1 8 rfl rfl)
theorem dX9_needsNumber_32 : decode cX9_needsNumber 32 = .ok (.aload_n 0, 1) := dk_42 (dk_at dksX9_needsNumber_1 9 rfl rfl)
theorem dX9_needsNumber_33 : decode cX9_needsNumber 33 = .ok (.aload_n 0, 1) := dk_42 (dk_at dksX9_needsNumber_1 10 rfl rfl)
theorem dX9_needsNumber_34 : decode cX9_needsNumber 34 = .ok (.getfield 234, 3) := dk_180 0 234 (dk_at dksX9_needsNumber_1 11 rfl rfl)
theorem dX9_needsNumber_37 : decode cX9_needsNumber 37 = .ok (.putfield 355, 3) := dk_181 1 99 (dk_at dksX9_needsNumber_1 14 rfl rfl)
theorem dX9_needsNumber_40 : decode cX9_needsNumber 40 = .ok (.aload_n 0, 1) := dk_42 (dk_at dksX9_needsNumber_1 17 rfl rfl)
theorem dX9_needsNumber_41 : decode cX9_needsNumber 41 = .ok (.invokevirtual 290, 3) := dk_182 1 34 (dk_at dksX9_needsNumber_1 18 rfl rfl)
theorem dX9_needsNumber_44 : decode cX9_needsNumber 44 = .ok (.iconst 1, 1) := dk_4 (dk_at dksX9_needsNumber_1 21 rfl rfl)
theorem dX9_needsNumber_45 : decode cX9_needsNumber 45 = .ok (.ireturn, 1) := dk_172 (dk_at dksX9_needsNumber_1 22 rfl rfl)
abbrev cX9_within : ByteArray := prog_35_method_3_code
def yX9_within : MethodName := ⟨RX9, "within", "(III)Z"⟩
def dkwX9_within_0 : List UInt8 := [26, 27, 161, 0, 12, 26, 28, 163, 0, 7, 4, 167, 0, 4, 3, 172]
abbrev dktX9_within_0 : List UInt8 := dkwX9_within_0 ++ []
theorem dksX9_within_0 : cX9_within.data.toList.drop 0 = dktX9_within_0 := by decide +kernel
theorem dX9_within_0 : decode cX9_within 0 = .ok (.iload_n 0, 1) := dk_26 (dk_at dksX9_within_0 0 rfl rfl)
theorem dX9_within_1 : decode cX9_within 1 = .ok (.iload_n 1, 1) := dk_27 (dk_at dksX9_within_0 1 rfl rfl)
theorem dX9_within_2 : decode cX9_within 2 = .ok (.if_icmp .lt 12, 3) := dk_161 0 12 (dk_at dksX9_within_0 2 rfl rfl)
theorem dX9_within_5 : decode cX9_within 5 = .ok (.iload_n 0, 1) := dk_26 (dk_at dksX9_within_0 5 rfl rfl)
theorem dX9_within_6 : decode cX9_within 6 = .ok (.iload_n 2, 1) := dk_28 (dk_at dksX9_within_0 6 rfl rfl)
theorem dX9_within_7 : decode cX9_within 7 = .ok (.if_icmp .gt 7, 3) := dk_163 0 7 (dk_at dksX9_within_0 7 rfl rfl)
theorem dX9_within_10 : decode cX9_within 10 = .ok (.iconst 1, 1) := dk_4 (dk_at dksX9_within_0 10 rfl rfl)
theorem dX9_within_11 : decode cX9_within 11 = .ok (.goto 4, 3) := dk_167 0 4 (dk_at dksX9_within_0 11 rfl rfl)
theorem dX9_within_14 : decode cX9_within 14 = .ok (.iconst 0, 1) := dk_3 (dk_at dksX9_within_0 14 rfl rfl)
theorem dX9_within_15 : decode cX9_within 15 = .ok (.ireturn, 1) := dk_172 (dk_at dksX9_within_0 15 rfl rfl)
abbrev cX9_takesSound : ByteArray := prog_35_method_31_code
def yX9_takesSound : MethodName := ⟨RX9, "takesSound", "(J)V"⟩
def dkwX9_takesSound_1 : List UInt8 := [4, 96, 79, 177]
abbrev dktX9_takesSound_1 : List UInt8 := dkwX9_takesSound_1 ++ []
def dkwX9_takesSound_0 : List UInt8 := [42, 180, 0, 16, 16, 16, 42, 180, 0, 13, 16, 7, 46, 96, 31, 80, 42, 180, 0, 13, 16, 7, 92, 46]
abbrev dktX9_takesSound_0 : List UInt8 := dkwX9_takesSound_0 ++ dktX9_takesSound_1
theorem dksX9_takesSound_0 : cX9_takesSound.data.toList.drop 0 = dktX9_takesSound_0 := by decide +kernel
theorem dksX9_takesSound_1 : cX9_takesSound.data.toList.drop 24 = dktX9_takesSound_1 := dk_seg dksX9_takesSound_0 24 rfl rfl
theorem dX9_takesSound_0 : decode cX9_takesSound 0 = .ok (.aload_n 0, 1) := dk_42 (dk_at dksX9_takesSound_0 0 rfl rfl)
theorem dX9_takesSound_1 : decode cX9_takesSound 1 = .ok (.getfield 16, 3) := dk_180 0 16 (dk_at dksX9_takesSound_0 1 rfl rfl)
theorem dX9_takesSound_4 : decode cX9_takesSound 4 = .ok (.bipush 16, 2) := dk_16 16 (dk_at dksX9_takesSound_0 4 rfl rfl)
theorem dX9_takesSound_6 : decode cX9_takesSound 6 = .ok (.aload_n 0, 1) := dk_42 (dk_at dksX9_takesSound_0 6 rfl rfl)
theorem dX9_takesSound_7 : decode cX9_takesSound 7 = .ok (.getfield 13, 3) := dk_180 0 13 (dk_at dksX9_takesSound_0 7 rfl rfl)
theorem dX9_takesSound_10 : decode cX9_takesSound 10 = .ok (.bipush 7, 2) := dk_16 7 (dk_at dksX9_takesSound_0 10 rfl rfl)
theorem dX9_takesSound_12 : decode cX9_takesSound 12 = .ok (.iaload, 1) := dk_46 (dk_at dksX9_takesSound_0 12 rfl rfl)
theorem dX9_takesSound_13 : decode cX9_takesSound 13 = .ok (.iadd, 1) := dk_96 (dk_at dksX9_takesSound_0 13 rfl rfl)
theorem dX9_takesSound_14 : decode cX9_takesSound 14 = .ok (.lload_n 1, 1) := dk_31 (dk_at dksX9_takesSound_0 14 rfl rfl)
theorem dX9_takesSound_15 : decode cX9_takesSound 15 = .ok (.lastore, 1) := dk_80 (dk_at dksX9_takesSound_0 15 rfl rfl)
theorem dX9_takesSound_16 : decode cX9_takesSound 16 = .ok (.aload_n 0, 1) := dk_42 (dk_at dksX9_takesSound_0 16 rfl rfl)
theorem dX9_takesSound_17 : decode cX9_takesSound 17 = .ok (.getfield 13, 3) := dk_180 0 13 (dk_at dksX9_takesSound_0 17 rfl rfl)
theorem dX9_takesSound_20 : decode cX9_takesSound 20 = .ok (.bipush 7, 2) := dk_16 7 (dk_at dksX9_takesSound_0 20 rfl rfl)
theorem dX9_takesSound_22 : decode cX9_takesSound 22 = .ok (.dup2, 1) := dk_92 (dk_at dksX9_takesSound_0 22 rfl rfl)
theorem dX9_takesSound_23 : decode cX9_takesSound 23 = .ok (.iaload, 1) := dk_46 (dk_at dksX9_takesSound_0 23 rfl rfl)
theorem dX9_takesSound_24 : decode cX9_takesSound 24 = .ok (.iconst 1, 1) := dk_4 (dk_at dksX9_takesSound_1 0 rfl rfl)
theorem dX9_takesSound_25 : decode cX9_takesSound 25 = .ok (.iadd, 1) := dk_96 (dk_at dksX9_takesSound_1 1 rfl rfl)
theorem dX9_takesSound_26 : decode cX9_takesSound 26 = .ok (.iastore, 1) := dk_79 (dk_at dksX9_takesSound_1 2 rfl rfl)
theorem dX9_takesSound_27 : decode cX9_takesSound 27 = .ok (.return_, 1) := dk_177 (dk_at dksX9_takesSound_1 3 rfl rfl)
abbrev cX9_closes : ByteArray := prog_35_method_27_code
def yX9_closes : MethodName := ⟨RX9, "closes", "()Z"⟩
def dkwX9_closes_0 : List UInt8 := [42, 16, 59, 182, 1, 23, 154, 0, 9, 42, 4, 182, 1, 27, 172, 42, 182, 1, 34, 4, 172]
abbrev dktX9_closes_0 : List UInt8 := dkwX9_closes_0 ++ []
theorem dksX9_closes_0 : cX9_closes.data.toList.drop 0 = dktX9_closes_0 := by decide +kernel
theorem dX9_closes_0 : decode cX9_closes 0 = .ok (.aload_n 0, 1) := dk_42 (dk_at dksX9_closes_0 0 rfl rfl)
theorem dX9_closes_1 : decode cX9_closes 1 = .ok (.bipush 59, 2) := dk_16 59 (dk_at dksX9_closes_0 1 rfl rfl)
theorem dX9_closes_3 : decode cX9_closes 3 = .ok (.invokevirtual 279, 3) := dk_182 1 23 (dk_at dksX9_closes_0 3 rfl rfl)
theorem dX9_closes_6 : decode cX9_closes 6 = .ok (.ifCond .ne 9, 3) := dk_154 0 9 (dk_at dksX9_closes_0 6 rfl rfl)
theorem dX9_closes_9 : decode cX9_closes 9 = .ok (.aload_n 0, 1) := dk_42 (dk_at dksX9_closes_0 9 rfl rfl)
theorem dX9_closes_10 : decode cX9_closes 10 = .ok (.iconst 1, 1) := dk_4 (dk_at dksX9_closes_0 10 rfl rfl)
theorem dX9_closes_11 : decode cX9_closes 11 = .ok (.invokevirtual 283, 3) := dk_182 1 27 (dk_at dksX9_closes_0 11 rfl rfl)
theorem dX9_closes_14 : decode cX9_closes 14 = .ok (.ireturn, 1) := dk_172 (dk_at dksX9_closes_0 14 rfl rfl)
theorem dX9_closes_15 : decode cX9_closes 15 = .ok (.aload_n 0, 1) := dk_42 (dk_at dksX9_closes_0 15 rfl rfl)
theorem dX9_closes_16 : decode cX9_closes 16 = .ok (.invokevirtual 290, 3) := dk_182 1 34 (dk_at dksX9_closes_0 16 rfl rfl)
theorem dX9_closes_19 : decode cX9_closes 19 = .ok (.iconst 1, 1) := dk_4 (dk_at dksX9_closes_0 19 rfl rfl)
theorem dX9_closes_20 : decode cX9_closes 20 = .ok (.ireturn, 1) := dk_172 (dk_at dksX9_closes_0 20 rfl rfl)
abbrev cX9_isSign : ByteArray := prog_35_method_11_code
def yX9_isSign : MethodName := ⟨RX9, "isSign", "(I)Z"⟩
def dkwX9_isSign_1 : List UInt8 := [167, 0, 4, 3, 172]
abbrev dktX9_isSign_1 : List UInt8 := dkwX9_isSign_1 ++ []
def dkwX9_isSign_0 : List UInt8 := [42, 180, 0, 237, 6, 160, 0, 20, 42, 180, 0, 7, 42, 180, 0, 227, 46, 27, 160, 0, 7, 4]
abbrev dktX9_isSign_0 : List UInt8 := dkwX9_isSign_0 ++ dktX9_isSign_1
theorem dksX9_isSign_0 : cX9_isSign.data.toList.drop 0 = dktX9_isSign_0 := by decide +kernel
theorem dksX9_isSign_1 : cX9_isSign.data.toList.drop 22 = dktX9_isSign_1 := dk_seg dksX9_isSign_0 22 rfl rfl
theorem dX9_isSign_0 : decode cX9_isSign 0 = .ok (.aload_n 0, 1) := dk_42 (dk_at dksX9_isSign_0 0 rfl rfl)
theorem dX9_isSign_1 : decode cX9_isSign 1 = .ok (.getfield 237, 3) := dk_180 0 237 (dk_at dksX9_isSign_0 1 rfl rfl)
theorem dX9_isSign_4 : decode cX9_isSign 4 = .ok (.iconst 3, 1) := dk_6 (dk_at dksX9_isSign_0 4 rfl rfl)
theorem dX9_isSign_5 : decode cX9_isSign 5 = .ok (.if_icmp .ne 20, 3) := dk_160 0 20 (dk_at dksX9_isSign_0 5 rfl rfl)
theorem dX9_isSign_8 : decode cX9_isSign 8 = .ok (.aload_n 0, 1) := dk_42 (dk_at dksX9_isSign_0 8 rfl rfl)
theorem dX9_isSign_9 : decode cX9_isSign 9 = .ok (.getfield 7, 3) := dk_180 0 7 (dk_at dksX9_isSign_0 9 rfl rfl)
theorem dX9_isSign_12 : decode cX9_isSign 12 = .ok (.aload_n 0, 1) := dk_42 (dk_at dksX9_isSign_0 12 rfl rfl)
theorem dX9_isSign_13 : decode cX9_isSign 13 = .ok (.getfield 227, 3) := dk_180 0 227 (dk_at dksX9_isSign_0 13 rfl rfl)
theorem dX9_isSign_16 : decode cX9_isSign 16 = .ok (.iaload, 1) := dk_46 (dk_at dksX9_isSign_0 16 rfl rfl)
theorem dX9_isSign_17 : decode cX9_isSign 17 = .ok (.iload_n 1, 1) := dk_27 (dk_at dksX9_isSign_0 17 rfl rfl)
theorem dX9_isSign_18 : decode cX9_isSign 18 = .ok (.if_icmp .ne 7, 3) := dk_160 0 7 (dk_at dksX9_isSign_0 18 rfl rfl)
theorem dX9_isSign_21 : decode cX9_isSign 21 = .ok (.iconst 1, 1) := dk_4 (dk_at dksX9_isSign_0 21 rfl rfl)
theorem dX9_isSign_22 : decode cX9_isSign 22 = .ok (.goto 4, 3) := dk_167 0 4 (dk_at dksX9_isSign_1 0 rfl rfl)
theorem dX9_isSign_25 : decode cX9_isSign 25 = .ok (.iconst 0, 1) := dk_3 (dk_at dksX9_isSign_1 3 rfl rfl)
theorem dX9_isSign_26 : decode cX9_isSign 26 = .ok (.ireturn, 1) := dk_172 (dk_at dksX9_isSign_1 4 rfl rfl)
abbrev cX9_readsTwin : ByteArray := prog_35_method_33_code
def yX9_readsTwin : MethodName := ⟨RX9, "readsTwin", "()Z"⟩
def dkwX9_readsTwin_4 : List UInt8 := [180, 0, 41, 16, 10, 28, 96, 27, 79, 42, 182, 1, 130, 172]
abbrev dktX9_readsTwin_4 : List UInt8 := dkwX9_readsTwin_4 ++ []
def dkwX9_readsTwin_3 : List UInt8 := [155, 0, 9, 42, 6, 182, 1, 27, 172, 42, 182, 1, 34, 42, 180, 0, 41, 16, 10, 27, 96, 28, 79, 42]
abbrev dktX9_readsTwin_3 : List UInt8 := dkwX9_readsTwin_3 ++ dktX9_readsTwin_4
def dkwX9_readsTwin_2 : List UInt8 := [154, 0, 5, 3, 172, 42, 180, 1, 99, 61, 27, 28, 159, 0, 15, 42, 180, 0, 41, 16, 10, 28, 96, 46]
abbrev dktX9_readsTwin_2 : List UInt8 := dkwX9_readsTwin_2 ++ dktX9_readsTwin_3
def dkwX9_readsTwin_1 : List UInt8 := [16, 10, 27, 96, 46, 155, 0, 9, 42, 6, 182, 1, 27, 172, 42, 182, 1, 34, 42, 4, 182, 1, 133]
abbrev dktX9_readsTwin_1 : List UInt8 := dkwX9_readsTwin_1 ++ dktX9_readsTwin_2
def dkwX9_readsTwin_0 : List UInt8 := [42, 182, 1, 34, 42, 4, 182, 1, 133, 154, 0, 5, 3, 172, 42, 180, 1, 99, 60, 42, 180, 0, 41]
abbrev dktX9_readsTwin_0 : List UInt8 := dkwX9_readsTwin_0 ++ dktX9_readsTwin_1
theorem dksX9_readsTwin_0 : cX9_readsTwin.data.toList.drop 0 = dktX9_readsTwin_0 := by decide +kernel
theorem dksX9_readsTwin_1 : cX9_readsTwin.data.toList.drop 23 = dktX9_readsTwin_1 := dk_seg dksX9_readsTwin_0 23 rfl rfl
theorem dksX9_readsTwin_2 : cX9_readsTwin.data.toList.drop 46 = dktX9_readsTwin_2 := dk_seg dksX9_readsTwin_1 23 rfl rfl
theorem dksX9_readsTwin_3 : cX9_readsTwin.data.toList.drop 70 = dktX9_readsTwin_3 := dk_seg dksX9_readsTwin_2 24 rfl rfl
theorem dksX9_readsTwin_4 : cX9_readsTwin.data.toList.drop 94 = dktX9_readsTwin_4 := dk_seg dksX9_readsTwin_3 24 rfl rfl
theorem dX9_readsTwin_0 : decode cX9_readsTwin 0 = .ok (.aload_n 0, 1) := dk_42 (dk_at dksX9_readsTwin_0 0 rfl rfl)
theorem dX9_readsTwin_1 : decode cX9_readsTwin 1 = .ok (.invokevirtual 290, 3) := dk_182 1 34 (dk_at dksX9_readsTwin_0 1 rfl rfl)
theorem dX9_readsTwin_4 : decode cX9_readsTwin 4 = .ok (.aload_n 0, 1) := dk_42 (dk_at dksX9_readsTwin_0 4 rfl rfl)
theorem dX9_readsTwin_5 : decode cX9_readsTwin 5 = .ok (.iconst 1, 1) := dk_4 (dk_at dksX9_readsTwin_0 5 rfl rfl)
theorem dX9_readsTwin_6 : decode cX9_readsTwin 6 = .ok (.invokevirtual 389, 3) := dk_182 1 133 (dk_at dksX9_readsTwin_0 6 rfl rfl)
theorem dX9_readsTwin_9 : decode cX9_readsTwin 9 = .ok (.ifCond .ne 5, 3) := dk_154 0 5 (dk_at dksX9_readsTwin_0 9 rfl rfl)
theorem dX9_readsTwin_12 : decode cX9_readsTwin 12 = .ok (.iconst 0, 1) := dk_3 (dk_at dksX9_readsTwin_0 12 rfl rfl)
theorem dX9_readsTwin_13 : decode cX9_readsTwin 13 = .ok (.ireturn, 1) := dk_172 (dk_at dksX9_readsTwin_0 13 rfl rfl)
theorem dX9_readsTwin_14 : decode cX9_readsTwin 14 = .ok (.aload_n 0, 1) := dk_42 (dk_at dksX9_readsTwin_0 14 rfl rfl)
theorem dX9_readsTwin_15 : decode cX9_readsTwin 15 = .ok (.getfield 355, 3) := dk_180 1 99 (dk_at dksX9_readsTwin_0 15 rfl rfl)
theorem dX9_readsTwin_18 : decode cX9_readsTwin 18 = .ok (.istore_n 1, 1) := dk_60 (dk_at dksX9_readsTwin_0 18 rfl rfl)
theorem dX9_readsTwin_19 : decode cX9_readsTwin 19 = .ok (.aload_n 0, 1) := dk_42 (dk_at dksX9_readsTwin_0 19 rfl rfl)
theorem dX9_readsTwin_20 : decode cX9_readsTwin 20 = .ok (.getfield 41, 3) := dk_180 0 41 (dk_at dksX9_readsTwin_0 20 rfl rfl)
theorem dX9_readsTwin_23 : decode cX9_readsTwin 23 = .ok (.bipush 10, 2) := dk_16 10 (dk_at dksX9_readsTwin_1 0 rfl rfl)
theorem dX9_readsTwin_25 : decode cX9_readsTwin 25 = .ok (.iload_n 1, 1) := dk_27 (dk_at dksX9_readsTwin_1 2 rfl rfl)
theorem dX9_readsTwin_26 : decode cX9_readsTwin 26 = .ok (.iadd, 1) := dk_96 (dk_at dksX9_readsTwin_1 3 rfl rfl)
theorem dX9_readsTwin_27 : decode cX9_readsTwin 27 = .ok (.iaload, 1) := dk_46 (dk_at dksX9_readsTwin_1 4 rfl rfl)
theorem dX9_readsTwin_28 : decode cX9_readsTwin 28 = .ok (.ifCond .lt 9, 3) := dk_155 0 9 (dk_at dksX9_readsTwin_1 5 rfl rfl)
theorem dX9_readsTwin_31 : decode cX9_readsTwin 31 = .ok (.aload_n 0, 1) := dk_42 (dk_at dksX9_readsTwin_1 8 rfl rfl)
theorem dX9_readsTwin_32 : decode cX9_readsTwin 32 = .ok (.iconst 3, 1) := dk_6 (dk_at dksX9_readsTwin_1 9 rfl rfl)
theorem dX9_readsTwin_33 : decode cX9_readsTwin 33 = .ok (.invokevirtual 283, 3) := dk_182 1 27 (dk_at dksX9_readsTwin_1 10 rfl rfl)
theorem dX9_readsTwin_36 : decode cX9_readsTwin 36 = .ok (.ireturn, 1) := dk_172 (dk_at dksX9_readsTwin_1 13 rfl rfl)
theorem dX9_readsTwin_37 : decode cX9_readsTwin 37 = .ok (.aload_n 0, 1) := dk_42 (dk_at dksX9_readsTwin_1 14 rfl rfl)
theorem dX9_readsTwin_38 : decode cX9_readsTwin 38 = .ok (.invokevirtual 290, 3) := dk_182 1 34 (dk_at dksX9_readsTwin_1 15 rfl rfl)
theorem dX9_readsTwin_41 : decode cX9_readsTwin 41 = .ok (.aload_n 0, 1) := dk_42 (dk_at dksX9_readsTwin_1 18 rfl rfl)
theorem dX9_readsTwin_42 : decode cX9_readsTwin 42 = .ok (.iconst 1, 1) := dk_4 (dk_at dksX9_readsTwin_1 19 rfl rfl)
theorem dX9_readsTwin_43 : decode cX9_readsTwin 43 = .ok (.invokevirtual 389, 3) := dk_182 1 133 (dk_at dksX9_readsTwin_1 20 rfl rfl)
theorem dX9_readsTwin_46 : decode cX9_readsTwin 46 = .ok (.ifCond .ne 5, 3) := dk_154 0 5 (dk_at dksX9_readsTwin_2 0 rfl rfl)
theorem dX9_readsTwin_49 : decode cX9_readsTwin 49 = .ok (.iconst 0, 1) := dk_3 (dk_at dksX9_readsTwin_2 3 rfl rfl)
theorem dX9_readsTwin_50 : decode cX9_readsTwin 50 = .ok (.ireturn, 1) := dk_172 (dk_at dksX9_readsTwin_2 4 rfl rfl)
theorem dX9_readsTwin_51 : decode cX9_readsTwin 51 = .ok (.aload_n 0, 1) := dk_42 (dk_at dksX9_readsTwin_2 5 rfl rfl)
theorem dX9_readsTwin_52 : decode cX9_readsTwin 52 = .ok (.getfield 355, 3) := dk_180 1 99 (dk_at dksX9_readsTwin_2 6 rfl rfl)
theorem dX9_readsTwin_55 : decode cX9_readsTwin 55 = .ok (.istore_n 2, 1) := dk_61 (dk_at dksX9_readsTwin_2 9 rfl rfl)
theorem dX9_readsTwin_56 : decode cX9_readsTwin 56 = .ok (.iload_n 1, 1) := dk_27 (dk_at dksX9_readsTwin_2 10 rfl rfl)
theorem dX9_readsTwin_57 : decode cX9_readsTwin 57 = .ok (.iload_n 2, 1) := dk_28 (dk_at dksX9_readsTwin_2 11 rfl rfl)
theorem dX9_readsTwin_58 : decode cX9_readsTwin 58 = .ok (.if_icmp .eq 15, 3) := dk_159 0 15 (dk_at dksX9_readsTwin_2 12 rfl rfl)
theorem dX9_readsTwin_61 : decode cX9_readsTwin 61 = .ok (.aload_n 0, 1) := dk_42 (dk_at dksX9_readsTwin_2 15 rfl rfl)
theorem dX9_readsTwin_62 : decode cX9_readsTwin 62 = .ok (.getfield 41, 3) := dk_180 0 41 (dk_at dksX9_readsTwin_2 16 rfl rfl)
theorem dX9_readsTwin_65 : decode cX9_readsTwin 65 = .ok (.bipush 10, 2) := dk_16 10 (dk_at dksX9_readsTwin_2 19 rfl rfl)
theorem dX9_readsTwin_67 : decode cX9_readsTwin 67 = .ok (.iload_n 2, 1) := dk_28 (dk_at dksX9_readsTwin_2 21 rfl rfl)
theorem dX9_readsTwin_68 : decode cX9_readsTwin 68 = .ok (.iadd, 1) := dk_96 (dk_at dksX9_readsTwin_2 22 rfl rfl)
theorem dX9_readsTwin_69 : decode cX9_readsTwin 69 = .ok (.iaload, 1) := dk_46 (dk_at dksX9_readsTwin_2 23 rfl rfl)
theorem dX9_readsTwin_70 : decode cX9_readsTwin 70 = .ok (.ifCond .lt 9, 3) := dk_155 0 9 (dk_at dksX9_readsTwin_3 0 rfl rfl)
theorem dX9_readsTwin_73 : decode cX9_readsTwin 73 = .ok (.aload_n 0, 1) := dk_42 (dk_at dksX9_readsTwin_3 3 rfl rfl)
theorem dX9_readsTwin_74 : decode cX9_readsTwin 74 = .ok (.iconst 3, 1) := dk_6 (dk_at dksX9_readsTwin_3 4 rfl rfl)
theorem dX9_readsTwin_75 : decode cX9_readsTwin 75 = .ok (.invokevirtual 283, 3) := dk_182 1 27 (dk_at dksX9_readsTwin_3 5 rfl rfl)
theorem dX9_readsTwin_78 : decode cX9_readsTwin 78 = .ok (.ireturn, 1) := dk_172 (dk_at dksX9_readsTwin_3 8 rfl rfl)
theorem dX9_readsTwin_79 : decode cX9_readsTwin 79 = .ok (.aload_n 0, 1) := dk_42 (dk_at dksX9_readsTwin_3 9 rfl rfl)
theorem dX9_readsTwin_80 : decode cX9_readsTwin 80 = .ok (.invokevirtual 290, 3) := dk_182 1 34 (dk_at dksX9_readsTwin_3 10 rfl rfl)
theorem dX9_readsTwin_83 : decode cX9_readsTwin 83 = .ok (.aload_n 0, 1) := dk_42 (dk_at dksX9_readsTwin_3 13 rfl rfl)
theorem dX9_readsTwin_84 : decode cX9_readsTwin 84 = .ok (.getfield 41, 3) := dk_180 0 41 (dk_at dksX9_readsTwin_3 14 rfl rfl)
theorem dX9_readsTwin_87 : decode cX9_readsTwin 87 = .ok (.bipush 10, 2) := dk_16 10 (dk_at dksX9_readsTwin_3 17 rfl rfl)
theorem dX9_readsTwin_89 : decode cX9_readsTwin 89 = .ok (.iload_n 1, 1) := dk_27 (dk_at dksX9_readsTwin_3 19 rfl rfl)
theorem dX9_readsTwin_90 : decode cX9_readsTwin 90 = .ok (.iadd, 1) := dk_96 (dk_at dksX9_readsTwin_3 20 rfl rfl)
theorem dX9_readsTwin_91 : decode cX9_readsTwin 91 = .ok (.iload_n 2, 1) := dk_28 (dk_at dksX9_readsTwin_3 21 rfl rfl)
theorem dX9_readsTwin_92 : decode cX9_readsTwin 92 = .ok (.iastore, 1) := dk_79 (dk_at dksX9_readsTwin_3 22 rfl rfl)
theorem dX9_readsTwin_93 : decode cX9_readsTwin 93 = .ok (.aload_n 0, 1) := dk_42 (dk_at dksX9_readsTwin_3 23 rfl rfl)
theorem dX9_readsTwin_94 : decode cX9_readsTwin 94 = .ok (.getfield 41, 3) := dk_180 0 41 (dk_at dksX9_readsTwin_4 0 rfl rfl)
theorem dX9_readsTwin_97 : decode cX9_readsTwin 97 = .ok (.bipush 10, 2) := dk_16 10 (dk_at dksX9_readsTwin_4 3 rfl rfl)
theorem dX9_readsTwin_99 : decode cX9_readsTwin 99 = .ok (.iload_n 2, 1) := dk_28 (dk_at dksX9_readsTwin_4 5 rfl rfl)
theorem dX9_readsTwin_100 : decode cX9_readsTwin 100 = .ok (.iadd, 1) := dk_96 (dk_at dksX9_readsTwin_4 6 rfl rfl)
theorem dX9_readsTwin_101 : decode cX9_readsTwin 101 = .ok (.iload_n 1, 1) := dk_27 (dk_at dksX9_readsTwin_4 7 rfl rfl)
theorem dX9_readsTwin_102 : decode cX9_readsTwin 102 = .ok (.iastore, 1) := dk_79 (dk_at dksX9_readsTwin_4 8 rfl rfl)
theorem dX9_readsTwin_103 : decode cX9_readsTwin 103 = .ok (.aload_n 0, 1) := dk_42 (dk_at dksX9_readsTwin_4 9 rfl rfl)
theorem dX9_readsTwin_104 : decode cX9_readsTwin 104 = .ok (.invokevirtual 386, 3) := dk_182 1 130 (dk_at dksX9_readsTwin_4 10 rfl rfl)
theorem dX9_readsTwin_107 : decode cX9_readsTwin 107 = .ok (.ireturn, 1) := dk_172 (dk_at dksX9_readsTwin_4 13 rfl rfl)
abbrev cX9_needsApple : ByteArray := prog_35_method_30_code
def yX9_needsApple : MethodName := ⟨RX9, "needsApple", "(I)Z"⟩
def dkwX9_needsApple_1 : List UInt8 := [180, 1, 99, 156, 0, 11, 42, 5, 182, 1, 27, 153, 0, 7, 4, 167, 0, 4, 3, 172]
abbrev dktX9_needsApple_1 : List UInt8 := dkwX9_needsApple_1 ++ []
def dkwX9_needsApple_0 : List UInt8 := [42, 182, 1, 109, 153, 0, 9, 42, 4, 182, 1, 27, 172, 42, 42, 27, 182, 1, 116, 181, 1, 99, 42]
abbrev dktX9_needsApple_0 : List UInt8 := dkwX9_needsApple_0 ++ dktX9_needsApple_1
theorem dksX9_needsApple_0 : cX9_needsApple.data.toList.drop 0 = dktX9_needsApple_0 := by decide +kernel
theorem dksX9_needsApple_1 : cX9_needsApple.data.toList.drop 23 = dktX9_needsApple_1 := dk_seg dksX9_needsApple_0 23 rfl rfl
theorem dX9_needsApple_0 : decode cX9_needsApple 0 = .ok (.aload_n 0, 1) := dk_42 (dk_at dksX9_needsApple_0 0 rfl rfl)
theorem dX9_needsApple_1 : decode cX9_needsApple 1 = .ok (.invokevirtual 365, 3) := dk_182 1 109 (dk_at dksX9_needsApple_0 1 rfl rfl)
theorem dX9_needsApple_4 : decode cX9_needsApple 4 = .ok (.ifCond .eq 9, 3) := dk_153 0 9 (dk_at dksX9_needsApple_0 4 rfl rfl)
theorem dX9_needsApple_7 : decode cX9_needsApple 7 = .ok (.aload_n 0, 1) := dk_42 (dk_at dksX9_needsApple_0 7 rfl rfl)
theorem dX9_needsApple_8 : decode cX9_needsApple 8 = .ok (.iconst 1, 1) := dk_4 (dk_at dksX9_needsApple_0 8 rfl rfl)
theorem dX9_needsApple_9 : decode cX9_needsApple 9 = .ok (.invokevirtual 283, 3) := dk_182 1 27 (dk_at dksX9_needsApple_0 9 rfl rfl)
theorem dX9_needsApple_12 : decode cX9_needsApple 12 = .ok (.ireturn, 1) := dk_172 (dk_at dksX9_needsApple_0 12 rfl rfl)
theorem dX9_needsApple_13 : decode cX9_needsApple 13 = .ok (.aload_n 0, 1) := dk_42 (dk_at dksX9_needsApple_0 13 rfl rfl)
theorem dX9_needsApple_14 : decode cX9_needsApple 14 = .ok (.aload_n 0, 1) := dk_42 (dk_at dksX9_needsApple_0 14 rfl rfl)
theorem dX9_needsApple_15 : decode cX9_needsApple 15 = .ok (.iload_n 1, 1) := dk_27 (dk_at dksX9_needsApple_0 15 rfl rfl)
theorem dX9_needsApple_16 : decode cX9_needsApple 16 = .ok (.invokevirtual 372, 3) := dk_182 1 116 (dk_at dksX9_needsApple_0 16 rfl rfl)
theorem dX9_needsApple_19 : decode cX9_needsApple 19 = .ok (.putfield 355, 3) := dk_181 1 99 (dk_at dksX9_needsApple_0 19 rfl rfl)
theorem dX9_needsApple_22 : decode cX9_needsApple 22 = .ok (.aload_n 0, 1) := dk_42 (dk_at dksX9_needsApple_0 22 rfl rfl)
theorem dX9_needsApple_23 : decode cX9_needsApple 23 = .ok (.getfield 355, 3) := dk_180 1 99 (dk_at dksX9_needsApple_1 0 rfl rfl)
theorem dX9_needsApple_26 : decode cX9_needsApple 26 = .ok (.ifCond .ge 11, 3) := dk_156 0 11 (dk_at dksX9_needsApple_1 3 rfl rfl)
theorem dX9_needsApple_29 : decode cX9_needsApple 29 = .ok (.aload_n 0, 1) := dk_42 (dk_at dksX9_needsApple_1 6 rfl rfl)
theorem dX9_needsApple_30 : decode cX9_needsApple 30 = .ok (.iconst 2, 1) := dk_5 (dk_at dksX9_needsApple_1 7 rfl rfl)
theorem dX9_needsApple_31 : decode cX9_needsApple 31 = .ok (.invokevirtual 283, 3) := dk_182 1 27 (dk_at dksX9_needsApple_1 8 rfl rfl)
theorem dX9_needsApple_34 : decode cX9_needsApple 34 = .ok (.ifCond .eq 7, 3) := dk_153 0 7 (dk_at dksX9_needsApple_1 11 rfl rfl)
theorem dX9_needsApple_37 : decode cX9_needsApple 37 = .ok (.iconst 1, 1) := dk_4 (dk_at dksX9_needsApple_1 14 rfl rfl)
theorem dX9_needsApple_38 : decode cX9_needsApple 38 = .ok (.goto 4, 3) := dk_167 0 4 (dk_at dksX9_needsApple_1 15 rfl rfl)
theorem dX9_needsApple_41 : decode cX9_needsApple 41 = .ok (.iconst 0, 1) := dk_3 (dk_at dksX9_needsApple_1 18 rfl rfl)
theorem dX9_needsApple_42 : decode cX9_needsApple 42 = .ok (.ireturn, 1) := dk_172 (dk_at dksX9_needsApple_1 19 rfl rfl)
abbrev cX9_appleNamed : ByteArray := prog_35_method_23_code
def yX9_appleNamed : MethodName := ⟨RX9, "appleNamed", "(I)I"⟩
def dkwX9_appleNamed_2 : List UInt8 := [167, 255, 217, 2, 172]
abbrev dktX9_appleNamed_2 : List UInt8 := dkwX9_appleNamed_2 ++ []
def dkwX9_appleNamed_1 : List UInt8 := [155, 0, 26, 42, 180, 0, 23, 16, 10, 27, 104, 29, 96, 46, 28, 160, 0, 5, 29, 172, 132, 3, 1]
abbrev dktX9_appleNamed_1 : List UInt8 := dkwX9_appleNamed_1 ++ dktX9_appleNamed_2
def dkwX9_appleNamed_0 : List UInt8 := [42, 27, 182, 1, 92, 61, 3, 62, 29, 42, 180, 0, 13, 16, 6, 27, 104, 3, 96, 46, 162, 0, 30, 28]
abbrev dktX9_appleNamed_0 : List UInt8 := dkwX9_appleNamed_0 ++ dktX9_appleNamed_1
theorem dksX9_appleNamed_0 : cX9_appleNamed.data.toList.drop 0 = dktX9_appleNamed_0 := by decide +kernel
theorem dksX9_appleNamed_1 : cX9_appleNamed.data.toList.drop 24 = dktX9_appleNamed_1 := dk_seg dksX9_appleNamed_0 24 rfl rfl
theorem dksX9_appleNamed_2 : cX9_appleNamed.data.toList.drop 47 = dktX9_appleNamed_2 := dk_seg dksX9_appleNamed_1 23 rfl rfl
theorem dX9_appleNamed_0 : decode cX9_appleNamed 0 = .ok (.aload_n 0, 1) := dk_42 (dk_at dksX9_appleNamed_0 0 rfl rfl)
theorem dX9_appleNamed_1 : decode cX9_appleNamed 1 = .ok (.iload_n 1, 1) := dk_27 (dk_at dksX9_appleNamed_0 1 rfl rfl)
theorem dX9_appleNamed_2 : decode cX9_appleNamed 2 = .ok (.invokevirtual 348, 3) := dk_182 1 92 (dk_at dksX9_appleNamed_0 2 rfl rfl)
theorem dX9_appleNamed_5 : decode cX9_appleNamed 5 = .ok (.istore_n 2, 1) := dk_61 (dk_at dksX9_appleNamed_0 5 rfl rfl)
theorem dX9_appleNamed_6 : decode cX9_appleNamed 6 = .ok (.iconst 0, 1) := dk_3 (dk_at dksX9_appleNamed_0 6 rfl rfl)
theorem dX9_appleNamed_7 : decode cX9_appleNamed 7 = .ok (.istore_n 3, 1) := dk_62 (dk_at dksX9_appleNamed_0 7 rfl rfl)
theorem dX9_appleNamed_8 : decode cX9_appleNamed 8 = .ok (.iload_n 3, 1) := dk_29 (dk_at dksX9_appleNamed_0 8 rfl rfl)
theorem dX9_appleNamed_9 : decode cX9_appleNamed 9 = .ok (.aload_n 0, 1) := dk_42 (dk_at dksX9_appleNamed_0 9 rfl rfl)
theorem dX9_appleNamed_10 : decode cX9_appleNamed 10 = .ok (.getfield 13, 3) := dk_180 0 13 (dk_at dksX9_appleNamed_0 10 rfl rfl)
theorem dX9_appleNamed_13 : decode cX9_appleNamed 13 = .ok (.bipush 6, 2) := dk_16 6 (dk_at dksX9_appleNamed_0 13 rfl rfl)
theorem dX9_appleNamed_15 : decode cX9_appleNamed 15 = .ok (.iload_n 1, 1) := dk_27 (dk_at dksX9_appleNamed_0 15 rfl rfl)
theorem dX9_appleNamed_16 : decode cX9_appleNamed 16 = .ok (.imul, 1) := dk_104 (dk_at dksX9_appleNamed_0 16 rfl rfl)
theorem dX9_appleNamed_17 : decode cX9_appleNamed 17 = .ok (.iconst 0, 1) := dk_3 (dk_at dksX9_appleNamed_0 17 rfl rfl)
theorem dX9_appleNamed_18 : decode cX9_appleNamed 18 = .ok (.iadd, 1) := dk_96 (dk_at dksX9_appleNamed_0 18 rfl rfl)
theorem dX9_appleNamed_19 : decode cX9_appleNamed 19 = .ok (.iaload, 1) := dk_46 (dk_at dksX9_appleNamed_0 19 rfl rfl)
theorem dX9_appleNamed_20 : decode cX9_appleNamed 20 = .ok (.if_icmp .ge 30, 3) := dk_162 0 30 (dk_at dksX9_appleNamed_0 20 rfl rfl)
theorem dX9_appleNamed_23 : decode cX9_appleNamed 23 = .ok (.iload_n 2, 1) := dk_28 (dk_at dksX9_appleNamed_0 23 rfl rfl)
theorem dX9_appleNamed_24 : decode cX9_appleNamed 24 = .ok (.ifCond .lt 26, 3) := dk_155 0 26 (dk_at dksX9_appleNamed_1 0 rfl rfl)
theorem dX9_appleNamed_27 : decode cX9_appleNamed 27 = .ok (.aload_n 0, 1) := dk_42 (dk_at dksX9_appleNamed_1 3 rfl rfl)
theorem dX9_appleNamed_28 : decode cX9_appleNamed 28 = .ok (.getfield 23, 3) := dk_180 0 23 (dk_at dksX9_appleNamed_1 4 rfl rfl)
theorem dX9_appleNamed_31 : decode cX9_appleNamed 31 = .ok (.bipush 10, 2) := dk_16 10 (dk_at dksX9_appleNamed_1 7 rfl rfl)
theorem dX9_appleNamed_33 : decode cX9_appleNamed 33 = .ok (.iload_n 1, 1) := dk_27 (dk_at dksX9_appleNamed_1 9 rfl rfl)
theorem dX9_appleNamed_34 : decode cX9_appleNamed 34 = .ok (.imul, 1) := dk_104 (dk_at dksX9_appleNamed_1 10 rfl rfl)
theorem dX9_appleNamed_35 : decode cX9_appleNamed 35 = .ok (.iload_n 3, 1) := dk_29 (dk_at dksX9_appleNamed_1 11 rfl rfl)
theorem dX9_appleNamed_36 : decode cX9_appleNamed 36 = .ok (.iadd, 1) := dk_96 (dk_at dksX9_appleNamed_1 12 rfl rfl)
theorem dX9_appleNamed_37 : decode cX9_appleNamed 37 = .ok (.iaload, 1) := dk_46 (dk_at dksX9_appleNamed_1 13 rfl rfl)
theorem dX9_appleNamed_38 : decode cX9_appleNamed 38 = .ok (.iload_n 2, 1) := dk_28 (dk_at dksX9_appleNamed_1 14 rfl rfl)
theorem dX9_appleNamed_39 : decode cX9_appleNamed 39 = .ok (.if_icmp .ne 5, 3) := dk_160 0 5 (dk_at dksX9_appleNamed_1 15 rfl rfl)
theorem dX9_appleNamed_42 : decode cX9_appleNamed 42 = .ok (.iload_n 3, 1) := dk_29 (dk_at dksX9_appleNamed_1 18 rfl rfl)
theorem dX9_appleNamed_43 : decode cX9_appleNamed 43 = .ok (.ireturn, 1) := dk_172 (dk_at dksX9_appleNamed_1 19 rfl rfl)
theorem dX9_appleNamed_44 : decode cX9_appleNamed 44 = .ok (.iinc 3 1, 3) := dk_132 3 1 (dk_at dksX9_appleNamed_1 20 rfl rfl)
theorem dX9_appleNamed_47 : decode cX9_appleNamed 47 = .ok (.goto (-39), 3) := dk_167 255 217 (dk_at dksX9_appleNamed_2 0 rfl rfl)
theorem dX9_appleNamed_50 : decode cX9_appleNamed 50 = .ok (.iconst (-1), 1) := dk_2 (dk_at dksX9_appleNamed_2 3 rfl rfl)
theorem dX9_appleNamed_51 : decode cX9_appleNamed 51 = .ok (.ireturn, 1) := dk_172 (dk_at dksX9_appleNamed_2 4 rfl rfl)
abbrev cX9_readsOther : ByteArray := prog_35_method_34_code
def yX9_readsOther : MethodName := ⟨RX9, "readsOther", "()Z"⟩
def dkwX9_readsOther_2 : List UInt8 := [182, 1, 126, 42, 182, 1, 34, 42, 182, 1, 130, 172]
abbrev dktX9_readsOther_2 : List UInt8 := dkwX9_readsOther_2 ++ []
def dkwX9_readsOther_1 : List UInt8 := [182, 1, 27, 172, 42, 182, 1, 34, 42, 182, 1, 119, 154, 0, 5, 3, 172, 42, 42, 180, 0, 230]
abbrev dktX9_readsOther_1 : List UInt8 := dkwX9_readsOther_1 ++ dktX9_readsOther_2
def dkwX9_readsOther_0 : List UInt8 := [42, 180, 0, 13, 16, 7, 46, 42, 180, 0, 13, 16, 6, 46, 100, 16, 6, 160, 0, 9, 42, 8]
abbrev dktX9_readsOther_0 : List UInt8 := dkwX9_readsOther_0 ++ dktX9_readsOther_1
theorem dksX9_readsOther_0 : cX9_readsOther.data.toList.drop 0 = dktX9_readsOther_0 := by decide +kernel
theorem dksX9_readsOther_1 : cX9_readsOther.data.toList.drop 22 = dktX9_readsOther_1 := dk_seg dksX9_readsOther_0 22 rfl rfl
theorem dksX9_readsOther_2 : cX9_readsOther.data.toList.drop 44 = dktX9_readsOther_2 := dk_seg dksX9_readsOther_1 22 rfl rfl
theorem dX9_readsOther_0 : decode cX9_readsOther 0 = .ok (.aload_n 0, 1) := dk_42 (dk_at dksX9_readsOther_0 0 rfl rfl)
theorem dX9_readsOther_1 : decode cX9_readsOther 1 = .ok (.getfield 13, 3) := dk_180 0 13 (dk_at dksX9_readsOther_0 1 rfl rfl)
theorem dX9_readsOther_4 : decode cX9_readsOther 4 = .ok (.bipush 7, 2) := dk_16 7 (dk_at dksX9_readsOther_0 4 rfl rfl)
theorem dX9_readsOther_6 : decode cX9_readsOther 6 = .ok (.iaload, 1) := dk_46 (dk_at dksX9_readsOther_0 6 rfl rfl)
theorem dX9_readsOther_7 : decode cX9_readsOther 7 = .ok (.aload_n 0, 1) := dk_42 (dk_at dksX9_readsOther_0 7 rfl rfl)
theorem dX9_readsOther_8 : decode cX9_readsOther 8 = .ok (.getfield 13, 3) := dk_180 0 13 (dk_at dksX9_readsOther_0 8 rfl rfl)
theorem dX9_readsOther_11 : decode cX9_readsOther 11 = .ok (.bipush 6, 2) := dk_16 6 (dk_at dksX9_readsOther_0 11 rfl rfl)
theorem dX9_readsOther_13 : decode cX9_readsOther 13 = .ok (.iaload, 1) := dk_46 (dk_at dksX9_readsOther_0 13 rfl rfl)
theorem dX9_readsOther_14 : decode cX9_readsOther 14 = .ok (.isub, 1) := dk_100 (dk_at dksX9_readsOther_0 14 rfl rfl)
theorem dX9_readsOther_15 : decode cX9_readsOther 15 = .ok (.bipush 6, 2) := dk_16 6 (dk_at dksX9_readsOther_0 15 rfl rfl)
theorem dX9_readsOther_17 : decode cX9_readsOther 17 = .ok (.if_icmp .ne 9, 3) := dk_160 0 9 (dk_at dksX9_readsOther_0 17 rfl rfl)
theorem dX9_readsOther_20 : decode cX9_readsOther 20 = .ok (.aload_n 0, 1) := dk_42 (dk_at dksX9_readsOther_0 20 rfl rfl)
theorem dX9_readsOther_21 : decode cX9_readsOther 21 = .ok (.iconst 5, 1) := dk_8 (dk_at dksX9_readsOther_0 21 rfl rfl)
theorem dX9_readsOther_22 : decode cX9_readsOther 22 = .ok (.invokevirtual 283, 3) := dk_182 1 27 (dk_at dksX9_readsOther_1 0 rfl rfl)
theorem dX9_readsOther_25 : decode cX9_readsOther 25 = .ok (.ireturn, 1) := dk_172 (dk_at dksX9_readsOther_1 3 rfl rfl)
theorem dX9_readsOther_26 : decode cX9_readsOther 26 = .ok (.aload_n 0, 1) := dk_42 (dk_at dksX9_readsOther_1 4 rfl rfl)
theorem dX9_readsOther_27 : decode cX9_readsOther 27 = .ok (.invokevirtual 290, 3) := dk_182 1 34 (dk_at dksX9_readsOther_1 5 rfl rfl)
theorem dX9_readsOther_30 : decode cX9_readsOther 30 = .ok (.aload_n 0, 1) := dk_42 (dk_at dksX9_readsOther_1 8 rfl rfl)
theorem dX9_readsOther_31 : decode cX9_readsOther 31 = .ok (.invokevirtual 375, 3) := dk_182 1 119 (dk_at dksX9_readsOther_1 9 rfl rfl)
theorem dX9_readsOther_34 : decode cX9_readsOther 34 = .ok (.ifCond .ne 5, 3) := dk_154 0 5 (dk_at dksX9_readsOther_1 12 rfl rfl)
theorem dX9_readsOther_37 : decode cX9_readsOther 37 = .ok (.iconst 0, 1) := dk_3 (dk_at dksX9_readsOther_1 15 rfl rfl)
theorem dX9_readsOther_38 : decode cX9_readsOther 38 = .ok (.ireturn, 1) := dk_172 (dk_at dksX9_readsOther_1 16 rfl rfl)
theorem dX9_readsOther_39 : decode cX9_readsOther 39 = .ok (.aload_n 0, 1) := dk_42 (dk_at dksX9_readsOther_1 17 rfl rfl)
theorem dX9_readsOther_40 : decode cX9_readsOther 40 = .ok (.aload_n 0, 1) := dk_42 (dk_at dksX9_readsOther_1 18 rfl rfl)
theorem dX9_readsOther_41 : decode cX9_readsOther 41 = .ok (.getfield 230, 3) := dk_180 0 230 (dk_at dksX9_readsOther_1 19 rfl rfl)
theorem dX9_readsOther_44 : decode cX9_readsOther 44 = .ok (.invokevirtual 382, 3) := dk_182 1 126 (dk_at dksX9_readsOther_2 0 rfl rfl)
theorem dX9_readsOther_47 : decode cX9_readsOther 47 = .ok (.aload_n 0, 1) := dk_42 (dk_at dksX9_readsOther_2 3 rfl rfl)
theorem dX9_readsOther_48 : decode cX9_readsOther 48 = .ok (.invokevirtual 290, 3) := dk_182 1 34 (dk_at dksX9_readsOther_2 4 rfl rfl)
theorem dX9_readsOther_51 : decode cX9_readsOther 51 = .ok (.aload_n 0, 1) := dk_42 (dk_at dksX9_readsOther_2 7 rfl rfl)
theorem dX9_readsOther_52 : decode cX9_readsOther 52 = .ok (.invokevirtual 386, 3) := dk_182 1 130 (dk_at dksX9_readsOther_2 8 rfl rfl)
theorem dX9_readsOther_55 : decode cX9_readsOther 55 = .ok (.ireturn, 1) := dk_172 (dk_at dksX9_readsOther_2 11 rfl rfl)
abbrev cX9_readsPerson : ByteArray := prog_35_method_36_code
def yX9_readsPerson : MethodName := ⟨RX9, "readsPerson", "()Z"⟩
def dkwX9_readsPerson_7 : List UInt8 := [182, 1, 130, 172]
abbrev dktX9_readsPerson_7 : List UInt8 := dkwX9_readsPerson_7 ++ []
def dkwX9_readsPerson_6 : List UInt8 := [182, 1, 34, 42, 180, 0, 20, 27, 32, 80, 42, 180, 0, 13, 16, 8, 92, 46, 4, 96, 79, 42]
abbrev dktX9_readsPerson_6 : List UInt8 := dkwX9_readsPerson_6 ++ dktX9_readsPerson_7
def dkwX9_readsPerson_5 : List UInt8 := [182, 1, 138, 154, 0, 5, 3, 172, 42, 180, 0, 50, 27, 42, 180, 0, 230, 184, 1, 141, 79, 42]
abbrev dktX9_readsPerson_5 : List UInt8 := dkwX9_readsPerson_5 ++ dktX9_readsPerson_6
def dkwX9_readsPerson_4 : List UInt8 := [79, 42, 180, 0, 50, 27, 3, 79, 42, 20, 1, 17, 182, 1, 19, 153, 0, 34, 42, 182, 1, 34, 42, 4]
abbrev dktX9_readsPerson_4 : List UInt8 := dkwX9_readsPerson_4 ++ dktX9_readsPerson_5
def dkwX9_readsPerson_3 : List UInt8 := [42, 20, 1, 66, 3, 16, 6, 182, 1, 122, 154, 0, 5, 3, 172, 42, 180, 0, 47, 27, 42, 180, 1, 99]
abbrev dktX9_readsPerson_3 : List UInt8 := dkwX9_readsPerson_3 ++ dktX9_readsPerson_4
def dkwX9_readsPerson_2 : List UInt8 := [20, 1, 64, 3, 16, 11, 182, 1, 122, 154, 0, 5, 3, 172, 42, 180, 0, 44, 27, 42, 180, 1, 99, 79]
abbrev dktX9_readsPerson_2 : List UInt8 := dkwX9_readsPerson_2 ++ dktX9_readsPerson_3
def dkwX9_readsPerson_1 : List UInt8 := [182, 1, 34, 42, 182, 1, 119, 154, 0, 5, 3, 172, 42, 180, 0, 230, 65, 42, 182, 1, 34, 42]
abbrev dktX9_readsPerson_1 : List UInt8 := dkwX9_readsPerson_1 ++ dktX9_readsPerson_2
def dkwX9_readsPerson_0 : List UInt8 := [8, 42, 180, 0, 13, 16, 8, 46, 96, 60, 27, 16, 10, 160, 0, 9, 42, 8, 182, 1, 27, 172, 42]
abbrev dktX9_readsPerson_0 : List UInt8 := dkwX9_readsPerson_0 ++ dktX9_readsPerson_1
theorem dksX9_readsPerson_0 : cX9_readsPerson.data.toList.drop 0 = dktX9_readsPerson_0 := by decide +kernel
theorem dksX9_readsPerson_1 : cX9_readsPerson.data.toList.drop 23 = dktX9_readsPerson_1 := dk_seg dksX9_readsPerson_0 23 rfl rfl
theorem dksX9_readsPerson_2 : cX9_readsPerson.data.toList.drop 45 = dktX9_readsPerson_2 := dk_seg dksX9_readsPerson_1 22 rfl rfl
theorem dksX9_readsPerson_3 : cX9_readsPerson.data.toList.drop 69 = dktX9_readsPerson_3 := dk_seg dksX9_readsPerson_2 24 rfl rfl
theorem dksX9_readsPerson_4 : cX9_readsPerson.data.toList.drop 93 = dktX9_readsPerson_4 := dk_seg dksX9_readsPerson_3 24 rfl rfl
theorem dksX9_readsPerson_5 : cX9_readsPerson.data.toList.drop 117 = dktX9_readsPerson_5 := dk_seg dksX9_readsPerson_4 24 rfl rfl
theorem dksX9_readsPerson_6 : cX9_readsPerson.data.toList.drop 139 = dktX9_readsPerson_6 := dk_seg dksX9_readsPerson_5 22 rfl rfl
theorem dksX9_readsPerson_7 : cX9_readsPerson.data.toList.drop 161 = dktX9_readsPerson_7 := dk_seg dksX9_readsPerson_6 22 rfl rfl
theorem dX9_readsPerson_0 : decode cX9_readsPerson 0 = .ok (.iconst 5, 1) := dk_8 (dk_at dksX9_readsPerson_0 0 rfl rfl)
theorem dX9_readsPerson_1 : decode cX9_readsPerson 1 = .ok (.aload_n 0, 1) := dk_42 (dk_at dksX9_readsPerson_0 1 rfl rfl)
theorem dX9_readsPerson_2 : decode cX9_readsPerson 2 = .ok (.getfield 13, 3) := dk_180 0 13 (dk_at dksX9_readsPerson_0 2 rfl rfl)
theorem dX9_readsPerson_5 : decode cX9_readsPerson 5 = .ok (.bipush 8, 2) := dk_16 8 (dk_at dksX9_readsPerson_0 5 rfl rfl)
theorem dX9_readsPerson_7 : decode cX9_readsPerson 7 = .ok (.iaload, 1) := dk_46 (dk_at dksX9_readsPerson_0 7 rfl rfl)
theorem dX9_readsPerson_8 : decode cX9_readsPerson 8 = .ok (.iadd, 1) := dk_96 (dk_at dksX9_readsPerson_0 8 rfl rfl)
theorem dX9_readsPerson_9 : decode cX9_readsPerson 9 = .ok (.istore_n 1, 1) := dk_60 (dk_at dksX9_readsPerson_0 9 rfl rfl)
theorem dX9_readsPerson_10 : decode cX9_readsPerson 10 = .ok (.iload_n 1, 1) := dk_27 (dk_at dksX9_readsPerson_0 10 rfl rfl)
theorem dX9_readsPerson_11 : decode cX9_readsPerson 11 = .ok (.bipush 10, 2) := dk_16 10 (dk_at dksX9_readsPerson_0 11 rfl rfl)
theorem dX9_readsPerson_13 : decode cX9_readsPerson 13 = .ok (.if_icmp .ne 9, 3) := dk_160 0 9 (dk_at dksX9_readsPerson_0 13 rfl rfl)
theorem dX9_readsPerson_16 : decode cX9_readsPerson 16 = .ok (.aload_n 0, 1) := dk_42 (dk_at dksX9_readsPerson_0 16 rfl rfl)
theorem dX9_readsPerson_17 : decode cX9_readsPerson 17 = .ok (.iconst 5, 1) := dk_8 (dk_at dksX9_readsPerson_0 17 rfl rfl)
theorem dX9_readsPerson_18 : decode cX9_readsPerson 18 = .ok (.invokevirtual 283, 3) := dk_182 1 27 (dk_at dksX9_readsPerson_0 18 rfl rfl)
theorem dX9_readsPerson_21 : decode cX9_readsPerson 21 = .ok (.ireturn, 1) := dk_172 (dk_at dksX9_readsPerson_0 21 rfl rfl)
theorem dX9_readsPerson_22 : decode cX9_readsPerson 22 = .ok (.aload_n 0, 1) := dk_42 (dk_at dksX9_readsPerson_0 22 rfl rfl)
theorem dX9_readsPerson_23 : decode cX9_readsPerson 23 = .ok (.invokevirtual 290, 3) := dk_182 1 34 (dk_at dksX9_readsPerson_1 0 rfl rfl)
theorem dX9_readsPerson_26 : decode cX9_readsPerson 26 = .ok (.aload_n 0, 1) := dk_42 (dk_at dksX9_readsPerson_1 3 rfl rfl)
theorem dX9_readsPerson_27 : decode cX9_readsPerson 27 = .ok (.invokevirtual 375, 3) := dk_182 1 119 (dk_at dksX9_readsPerson_1 4 rfl rfl)
theorem dX9_readsPerson_30 : decode cX9_readsPerson 30 = .ok (.ifCond .ne 5, 3) := dk_154 0 5 (dk_at dksX9_readsPerson_1 7 rfl rfl)
theorem dX9_readsPerson_33 : decode cX9_readsPerson 33 = .ok (.iconst 0, 1) := dk_3 (dk_at dksX9_readsPerson_1 10 rfl rfl)
theorem dX9_readsPerson_34 : decode cX9_readsPerson 34 = .ok (.ireturn, 1) := dk_172 (dk_at dksX9_readsPerson_1 11 rfl rfl)
theorem dX9_readsPerson_35 : decode cX9_readsPerson 35 = .ok (.aload_n 0, 1) := dk_42 (dk_at dksX9_readsPerson_1 12 rfl rfl)
theorem dX9_readsPerson_36 : decode cX9_readsPerson 36 = .ok (.getfield 230, 3) := dk_180 0 230 (dk_at dksX9_readsPerson_1 13 rfl rfl)
theorem dX9_readsPerson_39 : decode cX9_readsPerson 39 = .ok (.lstore_n 2, 1) := dk_65 (dk_at dksX9_readsPerson_1 16 rfl rfl)
theorem dX9_readsPerson_40 : decode cX9_readsPerson 40 = .ok (.aload_n 0, 1) := dk_42 (dk_at dksX9_readsPerson_1 17 rfl rfl)
theorem dX9_readsPerson_41 : decode cX9_readsPerson 41 = .ok (.invokevirtual 290, 3) := dk_182 1 34 (dk_at dksX9_readsPerson_1 18 rfl rfl)
theorem dX9_readsPerson_44 : decode cX9_readsPerson 44 = .ok (.aload_n 0, 1) := dk_42 (dk_at dksX9_readsPerson_1 21 rfl rfl)
theorem dX9_readsPerson_45 : decode cX9_readsPerson 45 = .ok (.ldc2_w 320, 3) := dk_20 1 64 (dk_at dksX9_readsPerson_2 0 rfl rfl)
theorem dX9_readsPerson_48 : decode cX9_readsPerson 48 = .ok (.iconst 0, 1) := dk_3 (dk_at dksX9_readsPerson_2 3 rfl rfl)
theorem dX9_readsPerson_49 : decode cX9_readsPerson 49 = .ok (.bipush 11, 2) := dk_16 11 (dk_at dksX9_readsPerson_2 4 rfl rfl)
theorem dX9_readsPerson_51 : decode cX9_readsPerson 51 = .ok (.invokevirtual 378, 3) := dk_182 1 122 (dk_at dksX9_readsPerson_2 6 rfl rfl)
theorem dX9_readsPerson_54 : decode cX9_readsPerson 54 = .ok (.ifCond .ne 5, 3) := dk_154 0 5 (dk_at dksX9_readsPerson_2 9 rfl rfl)
theorem dX9_readsPerson_57 : decode cX9_readsPerson 57 = .ok (.iconst 0, 1) := dk_3 (dk_at dksX9_readsPerson_2 12 rfl rfl)
theorem dX9_readsPerson_58 : decode cX9_readsPerson 58 = .ok (.ireturn, 1) := dk_172 (dk_at dksX9_readsPerson_2 13 rfl rfl)
theorem dX9_readsPerson_59 : decode cX9_readsPerson 59 = .ok (.aload_n 0, 1) := dk_42 (dk_at dksX9_readsPerson_2 14 rfl rfl)
theorem dX9_readsPerson_60 : decode cX9_readsPerson 60 = .ok (.getfield 44, 3) := dk_180 0 44 (dk_at dksX9_readsPerson_2 15 rfl rfl)
theorem dX9_readsPerson_63 : decode cX9_readsPerson 63 = .ok (.iload_n 1, 1) := dk_27 (dk_at dksX9_readsPerson_2 18 rfl rfl)
theorem dX9_readsPerson_64 : decode cX9_readsPerson 64 = .ok (.aload_n 0, 1) := dk_42 (dk_at dksX9_readsPerson_2 19 rfl rfl)
theorem dX9_readsPerson_65 : decode cX9_readsPerson 65 = .ok (.getfield 355, 3) := dk_180 1 99 (dk_at dksX9_readsPerson_2 20 rfl rfl)
theorem dX9_readsPerson_68 : decode cX9_readsPerson 68 = .ok (.iastore, 1) := dk_79 (dk_at dksX9_readsPerson_2 23 rfl rfl)
theorem dX9_readsPerson_69 : decode cX9_readsPerson 69 = .ok (.aload_n 0, 1) := dk_42 (dk_at dksX9_readsPerson_3 0 rfl rfl)
theorem dX9_readsPerson_70 : decode cX9_readsPerson 70 = .ok (.ldc2_w 322, 3) := dk_20 1 66 (dk_at dksX9_readsPerson_3 1 rfl rfl)
theorem dX9_readsPerson_73 : decode cX9_readsPerson 73 = .ok (.iconst 0, 1) := dk_3 (dk_at dksX9_readsPerson_3 4 rfl rfl)
theorem dX9_readsPerson_74 : decode cX9_readsPerson 74 = .ok (.bipush 6, 2) := dk_16 6 (dk_at dksX9_readsPerson_3 5 rfl rfl)
theorem dX9_readsPerson_76 : decode cX9_readsPerson 76 = .ok (.invokevirtual 378, 3) := dk_182 1 122 (dk_at dksX9_readsPerson_3 7 rfl rfl)
theorem dX9_readsPerson_79 : decode cX9_readsPerson 79 = .ok (.ifCond .ne 5, 3) := dk_154 0 5 (dk_at dksX9_readsPerson_3 10 rfl rfl)
theorem dX9_readsPerson_82 : decode cX9_readsPerson 82 = .ok (.iconst 0, 1) := dk_3 (dk_at dksX9_readsPerson_3 13 rfl rfl)
theorem dX9_readsPerson_83 : decode cX9_readsPerson 83 = .ok (.ireturn, 1) := dk_172 (dk_at dksX9_readsPerson_3 14 rfl rfl)
theorem dX9_readsPerson_84 : decode cX9_readsPerson 84 = .ok (.aload_n 0, 1) := dk_42 (dk_at dksX9_readsPerson_3 15 rfl rfl)
theorem dX9_readsPerson_85 : decode cX9_readsPerson 85 = .ok (.getfield 47, 3) := dk_180 0 47 (dk_at dksX9_readsPerson_3 16 rfl rfl)
theorem dX9_readsPerson_88 : decode cX9_readsPerson 88 = .ok (.iload_n 1, 1) := dk_27 (dk_at dksX9_readsPerson_3 19 rfl rfl)
theorem dX9_readsPerson_89 : decode cX9_readsPerson 89 = .ok (.aload_n 0, 1) := dk_42 (dk_at dksX9_readsPerson_3 20 rfl rfl)
theorem dX9_readsPerson_90 : decode cX9_readsPerson 90 = .ok (.getfield 355, 3) := dk_180 1 99 (dk_at dksX9_readsPerson_3 21 rfl rfl)
theorem dX9_readsPerson_93 : decode cX9_readsPerson 93 = .ok (.iastore, 1) := dk_79 (dk_at dksX9_readsPerson_4 0 rfl rfl)
theorem dX9_readsPerson_94 : decode cX9_readsPerson 94 = .ok (.aload_n 0, 1) := dk_42 (dk_at dksX9_readsPerson_4 1 rfl rfl)
theorem dX9_readsPerson_95 : decode cX9_readsPerson 95 = .ok (.getfield 50, 3) := dk_180 0 50 (dk_at dksX9_readsPerson_4 2 rfl rfl)
theorem dX9_readsPerson_98 : decode cX9_readsPerson 98 = .ok (.iload_n 1, 1) := dk_27 (dk_at dksX9_readsPerson_4 5 rfl rfl)
theorem dX9_readsPerson_99 : decode cX9_readsPerson 99 = .ok (.iconst 0, 1) := dk_3 (dk_at dksX9_readsPerson_4 6 rfl rfl)
theorem dX9_readsPerson_100 : decode cX9_readsPerson 100 = .ok (.iastore, 1) := dk_79 (dk_at dksX9_readsPerson_4 7 rfl rfl)
theorem dX9_readsPerson_101 : decode cX9_readsPerson 101 = .ok (.aload_n 0, 1) := dk_42 (dk_at dksX9_readsPerson_4 8 rfl rfl)
theorem dX9_readsPerson_102 : decode cX9_readsPerson 102 = .ok (.ldc2_w 273, 3) := dk_20 1 17 (dk_at dksX9_readsPerson_4 9 rfl rfl)
theorem dX9_readsPerson_105 : decode cX9_readsPerson 105 = .ok (.invokevirtual 275, 3) := dk_182 1 19 (dk_at dksX9_readsPerson_4 12 rfl rfl)
theorem dX9_readsPerson_108 : decode cX9_readsPerson 108 = .ok (.ifCond .eq 34, 3) := dk_153 0 34 (dk_at dksX9_readsPerson_4 15 rfl rfl)
theorem dX9_readsPerson_111 : decode cX9_readsPerson 111 = .ok (.aload_n 0, 1) := dk_42 (dk_at dksX9_readsPerson_4 18 rfl rfl)
theorem dX9_readsPerson_112 : decode cX9_readsPerson 112 = .ok (.invokevirtual 290, 3) := dk_182 1 34 (dk_at dksX9_readsPerson_4 19 rfl rfl)
theorem dX9_readsPerson_115 : decode cX9_readsPerson 115 = .ok (.aload_n 0, 1) := dk_42 (dk_at dksX9_readsPerson_4 22 rfl rfl)
theorem dX9_readsPerson_116 : decode cX9_readsPerson 116 = .ok (.iconst 1, 1) := dk_4 (dk_at dksX9_readsPerson_4 23 rfl rfl)
theorem dX9_readsPerson_117 : decode cX9_readsPerson 117 = .ok (.invokevirtual 394, 3) := dk_182 1 138 (dk_at dksX9_readsPerson_5 0 rfl rfl)
theorem dX9_readsPerson_120 : decode cX9_readsPerson 120 = .ok (.ifCond .ne 5, 3) := dk_154 0 5 (dk_at dksX9_readsPerson_5 3 rfl rfl)
theorem dX9_readsPerson_123 : decode cX9_readsPerson 123 = .ok (.iconst 0, 1) := dk_3 (dk_at dksX9_readsPerson_5 6 rfl rfl)
theorem dX9_readsPerson_124 : decode cX9_readsPerson 124 = .ok (.ireturn, 1) := dk_172 (dk_at dksX9_readsPerson_5 7 rfl rfl)
theorem dX9_readsPerson_125 : decode cX9_readsPerson 125 = .ok (.aload_n 0, 1) := dk_42 (dk_at dksX9_readsPerson_5 8 rfl rfl)
theorem dX9_readsPerson_126 : decode cX9_readsPerson 126 = .ok (.getfield 50, 3) := dk_180 0 50 (dk_at dksX9_readsPerson_5 9 rfl rfl)
theorem dX9_readsPerson_129 : decode cX9_readsPerson 129 = .ok (.iload_n 1, 1) := dk_27 (dk_at dksX9_readsPerson_5 12 rfl rfl)
theorem dX9_readsPerson_130 : decode cX9_readsPerson 130 = .ok (.aload_n 0, 1) := dk_42 (dk_at dksX9_readsPerson_5 13 rfl rfl)
theorem dX9_readsPerson_131 : decode cX9_readsPerson 131 = .ok (.getfield 230, 3) := dk_180 0 230 (dk_at dksX9_readsPerson_5 14 rfl rfl)
theorem dX9_readsPerson_134 : decode cX9_readsPerson 134 = .ok (.invokestatic 397, 3) := dk_184 1 141 (dk_at dksX9_readsPerson_5 17 rfl rfl)
theorem dX9_readsPerson_137 : decode cX9_readsPerson 137 = .ok (.iastore, 1) := dk_79 (dk_at dksX9_readsPerson_5 20 rfl rfl)
theorem dX9_readsPerson_138 : decode cX9_readsPerson 138 = .ok (.aload_n 0, 1) := dk_42 (dk_at dksX9_readsPerson_5 21 rfl rfl)
theorem dX9_readsPerson_139 : decode cX9_readsPerson 139 = .ok (.invokevirtual 290, 3) := dk_182 1 34 (dk_at dksX9_readsPerson_6 0 rfl rfl)
theorem dX9_readsPerson_142 : decode cX9_readsPerson 142 = .ok (.aload_n 0, 1) := dk_42 (dk_at dksX9_readsPerson_6 3 rfl rfl)
theorem dX9_readsPerson_143 : decode cX9_readsPerson 143 = .ok (.getfield 20, 3) := dk_180 0 20 (dk_at dksX9_readsPerson_6 4 rfl rfl)
theorem dX9_readsPerson_146 : decode cX9_readsPerson 146 = .ok (.iload_n 1, 1) := dk_27 (dk_at dksX9_readsPerson_6 7 rfl rfl)
theorem dX9_readsPerson_147 : decode cX9_readsPerson 147 = .ok (.lload_n 2, 1) := dk_32 (dk_at dksX9_readsPerson_6 8 rfl rfl)
theorem dX9_readsPerson_148 : decode cX9_readsPerson 148 = .ok (.lastore, 1) := dk_80 (dk_at dksX9_readsPerson_6 9 rfl rfl)
theorem dX9_readsPerson_149 : decode cX9_readsPerson 149 = .ok (.aload_n 0, 1) := dk_42 (dk_at dksX9_readsPerson_6 10 rfl rfl)
theorem dX9_readsPerson_150 : decode cX9_readsPerson 150 = .ok (.getfield 13, 3) := dk_180 0 13 (dk_at dksX9_readsPerson_6 11 rfl rfl)
theorem dX9_readsPerson_153 : decode cX9_readsPerson 153 = .ok (.bipush 8, 2) := dk_16 8 (dk_at dksX9_readsPerson_6 14 rfl rfl)
theorem dX9_readsPerson_155 : decode cX9_readsPerson 155 = .ok (.dup2, 1) := dk_92 (dk_at dksX9_readsPerson_6 16 rfl rfl)
theorem dX9_readsPerson_156 : decode cX9_readsPerson 156 = .ok (.iaload, 1) := dk_46 (dk_at dksX9_readsPerson_6 17 rfl rfl)
theorem dX9_readsPerson_157 : decode cX9_readsPerson 157 = .ok (.iconst 1, 1) := dk_4 (dk_at dksX9_readsPerson_6 18 rfl rfl)
theorem dX9_readsPerson_158 : decode cX9_readsPerson 158 = .ok (.iadd, 1) := dk_96 (dk_at dksX9_readsPerson_6 19 rfl rfl)
theorem dX9_readsPerson_159 : decode cX9_readsPerson 159 = .ok (.iastore, 1) := dk_79 (dk_at dksX9_readsPerson_6 20 rfl rfl)
theorem dX9_readsPerson_160 : decode cX9_readsPerson 160 = .ok (.aload_n 0, 1) := dk_42 (dk_at dksX9_readsPerson_6 21 rfl rfl)
theorem dX9_readsPerson_161 : decode cX9_readsPerson 161 = .ok (.invokevirtual 386, 3) := dk_182 1 130 (dk_at dksX9_readsPerson_7 0 rfl rfl)
theorem dX9_readsPerson_164 : decode cX9_readsPerson 164 = .ok (.ireturn, 1) := dk_172 (dk_at dksX9_readsPerson_7 3 rfl rfl)
abbrev cX9_needsSound : ByteArray := prog_35_method_29_code
def yX9_needsSound : MethodName := ⟨RX9, "needsSound", "(I)Z"⟩
def dkwX9_needsSound_1 : List UInt8 := [180, 1, 99, 156, 0, 11, 42, 5, 182, 1, 27, 153, 0, 7, 4, 167, 0, 4, 3, 172]
abbrev dktX9_needsSound_1 : List UInt8 := dkwX9_needsSound_1 ++ []
def dkwX9_needsSound_0 : List UInt8 := [42, 182, 1, 109, 153, 0, 9, 42, 4, 182, 1, 27, 172, 42, 42, 27, 182, 1, 92, 181, 1, 99, 42]
abbrev dktX9_needsSound_0 : List UInt8 := dkwX9_needsSound_0 ++ dktX9_needsSound_1
theorem dksX9_needsSound_0 : cX9_needsSound.data.toList.drop 0 = dktX9_needsSound_0 := by decide +kernel
theorem dksX9_needsSound_1 : cX9_needsSound.data.toList.drop 23 = dktX9_needsSound_1 := dk_seg dksX9_needsSound_0 23 rfl rfl
theorem dX9_needsSound_0 : decode cX9_needsSound 0 = .ok (.aload_n 0, 1) := dk_42 (dk_at dksX9_needsSound_0 0 rfl rfl)
theorem dX9_needsSound_1 : decode cX9_needsSound 1 = .ok (.invokevirtual 365, 3) := dk_182 1 109 (dk_at dksX9_needsSound_0 1 rfl rfl)
theorem dX9_needsSound_4 : decode cX9_needsSound 4 = .ok (.ifCond .eq 9, 3) := dk_153 0 9 (dk_at dksX9_needsSound_0 4 rfl rfl)
theorem dX9_needsSound_7 : decode cX9_needsSound 7 = .ok (.aload_n 0, 1) := dk_42 (dk_at dksX9_needsSound_0 7 rfl rfl)
theorem dX9_needsSound_8 : decode cX9_needsSound 8 = .ok (.iconst 1, 1) := dk_4 (dk_at dksX9_needsSound_0 8 rfl rfl)
theorem dX9_needsSound_9 : decode cX9_needsSound 9 = .ok (.invokevirtual 283, 3) := dk_182 1 27 (dk_at dksX9_needsSound_0 9 rfl rfl)
theorem dX9_needsSound_12 : decode cX9_needsSound 12 = .ok (.ireturn, 1) := dk_172 (dk_at dksX9_needsSound_0 12 rfl rfl)
theorem dX9_needsSound_13 : decode cX9_needsSound 13 = .ok (.aload_n 0, 1) := dk_42 (dk_at dksX9_needsSound_0 13 rfl rfl)
theorem dX9_needsSound_14 : decode cX9_needsSound 14 = .ok (.aload_n 0, 1) := dk_42 (dk_at dksX9_needsSound_0 14 rfl rfl)
theorem dX9_needsSound_15 : decode cX9_needsSound 15 = .ok (.iload_n 1, 1) := dk_27 (dk_at dksX9_needsSound_0 15 rfl rfl)
theorem dX9_needsSound_16 : decode cX9_needsSound 16 = .ok (.invokevirtual 348, 3) := dk_182 1 92 (dk_at dksX9_needsSound_0 16 rfl rfl)
theorem dX9_needsSound_19 : decode cX9_needsSound 19 = .ok (.putfield 355, 3) := dk_181 1 99 (dk_at dksX9_needsSound_0 19 rfl rfl)
theorem dX9_needsSound_22 : decode cX9_needsSound 22 = .ok (.aload_n 0, 1) := dk_42 (dk_at dksX9_needsSound_0 22 rfl rfl)
theorem dX9_needsSound_23 : decode cX9_needsSound 23 = .ok (.getfield 355, 3) := dk_180 1 99 (dk_at dksX9_needsSound_1 0 rfl rfl)
theorem dX9_needsSound_26 : decode cX9_needsSound 26 = .ok (.ifCond .ge 11, 3) := dk_156 0 11 (dk_at dksX9_needsSound_1 3 rfl rfl)
theorem dX9_needsSound_29 : decode cX9_needsSound 29 = .ok (.aload_n 0, 1) := dk_42 (dk_at dksX9_needsSound_1 6 rfl rfl)
theorem dX9_needsSound_30 : decode cX9_needsSound 30 = .ok (.iconst 2, 1) := dk_5 (dk_at dksX9_needsSound_1 7 rfl rfl)
theorem dX9_needsSound_31 : decode cX9_needsSound 31 = .ok (.invokevirtual 283, 3) := dk_182 1 27 (dk_at dksX9_needsSound_1 8 rfl rfl)
theorem dX9_needsSound_34 : decode cX9_needsSound 34 = .ok (.ifCond .eq 7, 3) := dk_153 0 7 (dk_at dksX9_needsSound_1 11 rfl rfl)
theorem dX9_needsSound_37 : decode cX9_needsSound 37 = .ok (.iconst 1, 1) := dk_4 (dk_at dksX9_needsSound_1 14 rfl rfl)
theorem dX9_needsSound_38 : decode cX9_needsSound 38 = .ok (.goto 4, 3) := dk_167 0 4 (dk_at dksX9_needsSound_1 15 rfl rfl)
theorem dX9_needsSound_41 : decode cX9_needsSound 41 = .ok (.iconst 0, 1) := dk_3 (dk_at dksX9_needsSound_1 18 rfl rfl)
theorem dX9_needsSound_42 : decode cX9_needsSound 42 = .ok (.ireturn, 1) := dk_172 (dk_at dksX9_needsSound_1 19 rfl rfl)
abbrev cX9_firstLetter : ByteArray := prog_35_method_35_code
def yX9_firstLetter : MethodName := ⟨RX9, "firstLetter", "(J)I"⟩
def dkwX9_firstLetter_0 : List UInt8 := [30, 65, 32, 20, 1, 136, 148, 158, 0, 12, 32, 20, 0, 244, 109, 65, 167, 255, 242, 32, 136, 172]
abbrev dktX9_firstLetter_0 : List UInt8 := dkwX9_firstLetter_0 ++ []
theorem dksX9_firstLetter_0 : cX9_firstLetter.data.toList.drop 0 = dktX9_firstLetter_0 := by decide +kernel
theorem dX9_firstLetter_0 : decode cX9_firstLetter 0 = .ok (.lload_n 0, 1) := dk_30 (dk_at dksX9_firstLetter_0 0 rfl rfl)
theorem dX9_firstLetter_1 : decode cX9_firstLetter 1 = .ok (.lstore_n 2, 1) := dk_65 (dk_at dksX9_firstLetter_0 1 rfl rfl)
theorem dX9_firstLetter_2 : decode cX9_firstLetter 2 = .ok (.lload_n 2, 1) := dk_32 (dk_at dksX9_firstLetter_0 2 rfl rfl)
theorem dX9_firstLetter_3 : decode cX9_firstLetter 3 = .ok (.ldc2_w 392, 3) := dk_20 1 136 (dk_at dksX9_firstLetter_0 3 rfl rfl)
theorem dX9_firstLetter_6 : decode cX9_firstLetter 6 = .ok (.lcmp, 1) := dk_148 (dk_at dksX9_firstLetter_0 6 rfl rfl)
theorem dX9_firstLetter_7 : decode cX9_firstLetter 7 = .ok (.ifCond .le 12, 3) := dk_158 0 12 (dk_at dksX9_firstLetter_0 7 rfl rfl)
theorem dX9_firstLetter_10 : decode cX9_firstLetter 10 = .ok (.lload_n 2, 1) := dk_32 (dk_at dksX9_firstLetter_0 10 rfl rfl)
theorem dX9_firstLetter_11 : decode cX9_firstLetter 11 = .ok (.ldc2_w 244, 3) := dk_20 0 244 (dk_at dksX9_firstLetter_0 11 rfl rfl)
theorem dX9_firstLetter_14 : decode cX9_firstLetter 14 = .ok (.ldiv, 1) := dk_109 (dk_at dksX9_firstLetter_0 14 rfl rfl)
theorem dX9_firstLetter_15 : decode cX9_firstLetter 15 = .ok (.lstore_n 2, 1) := dk_65 (dk_at dksX9_firstLetter_0 15 rfl rfl)
theorem dX9_firstLetter_16 : decode cX9_firstLetter 16 = .ok (.goto (-14), 3) := dk_167 255 242 (dk_at dksX9_firstLetter_0 16 rfl rfl)
theorem dX9_firstLetter_19 : decode cX9_firstLetter 19 = .ok (.lload_n 2, 1) := dk_32 (dk_at dksX9_firstLetter_0 19 rfl rfl)
theorem dX9_firstLetter_20 : decode cX9_firstLetter 20 = .ok (.l2i, 1) := dk_136 (dk_at dksX9_firstLetter_0 20 rfl rfl)
theorem dX9_firstLetter_21 : decode cX9_firstLetter 21 = .ok (.ireturn, 1) := dk_172 (dk_at dksX9_firstLetter_0 21 rfl rfl)
abbrev cX9_readsStranger : ByteArray := prog_35_method_37_code
def yX9_readsStranger : MethodName := ⟨RX9, "readsStranger", "()Z"⟩
def dkwX9_readsStranger_5 : List UInt8 := [182, 1, 130, 172]
abbrev dktX9_readsStranger_5 : List UInt8 := dkwX9_readsStranger_5 ++ []
def dkwX9_readsStranger_4 : List UInt8 := [3, 172, 42, 180, 0, 56, 27, 42, 180, 1, 99, 79, 42, 180, 0, 13, 16, 9, 92, 46, 4, 96, 79, 42]
abbrev dktX9_readsStranger_4 : List UInt8 := dkwX9_readsStranger_4 ++ dktX9_readsStranger_5
def dkwX9_readsStranger_3 : List UInt8 := [42, 180, 0, 53, 27, 42, 180, 1, 99, 79, 42, 182, 1, 34, 42, 3, 16, 10, 182, 1, 105, 154, 0, 5]
abbrev dktX9_readsStranger_3 : List UInt8 := dkwX9_readsStranger_3 ++ dktX9_readsStranger_4
def dkwX9_readsStranger_2 : List UInt8 := [180, 0, 53, 28, 46, 42, 180, 1, 99, 160, 0, 9, 42, 6, 182, 1, 27, 172, 132, 2, 1, 167, 255, 229]
abbrev dktX9_readsStranger_2 : List UInt8 := dkwX9_readsStranger_2 ++ dktX9_readsStranger_3
def dkwX9_readsStranger_1 : List UInt8 := [182, 1, 34, 42, 4, 182, 1, 138, 154, 0, 5, 3, 172, 16, 6, 61, 28, 27, 162, 0, 28, 42]
abbrev dktX9_readsStranger_1 : List UInt8 := dkwX9_readsStranger_1 ++ dktX9_readsStranger_2
def dkwX9_readsStranger_0 : List UInt8 := [16, 6, 42, 180, 0, 13, 16, 9, 46, 96, 60, 27, 16, 12, 160, 0, 9, 42, 8, 182, 1, 27, 172, 42]
abbrev dktX9_readsStranger_0 : List UInt8 := dkwX9_readsStranger_0 ++ dktX9_readsStranger_1
theorem dksX9_readsStranger_0 : cX9_readsStranger.data.toList.drop 0 = dktX9_readsStranger_0 := by decide +kernel
theorem dksX9_readsStranger_1 : cX9_readsStranger.data.toList.drop 24 = dktX9_readsStranger_1 := dk_seg dksX9_readsStranger_0 24 rfl rfl
theorem dksX9_readsStranger_2 : cX9_readsStranger.data.toList.drop 46 = dktX9_readsStranger_2 := dk_seg dksX9_readsStranger_1 22 rfl rfl
theorem dksX9_readsStranger_3 : cX9_readsStranger.data.toList.drop 70 = dktX9_readsStranger_3 := dk_seg dksX9_readsStranger_2 24 rfl rfl
theorem dksX9_readsStranger_4 : cX9_readsStranger.data.toList.drop 94 = dktX9_readsStranger_4 := dk_seg dksX9_readsStranger_3 24 rfl rfl
theorem dksX9_readsStranger_5 : cX9_readsStranger.data.toList.drop 118 = dktX9_readsStranger_5 := dk_seg dksX9_readsStranger_4 24 rfl rfl
theorem dX9_readsStranger_0 : decode cX9_readsStranger 0 = .ok (.bipush 6, 2) := dk_16 6 (dk_at dksX9_readsStranger_0 0 rfl rfl)
theorem dX9_readsStranger_2 : decode cX9_readsStranger 2 = .ok (.aload_n 0, 1) := dk_42 (dk_at dksX9_readsStranger_0 2 rfl rfl)
theorem dX9_readsStranger_3 : decode cX9_readsStranger 3 = .ok (.getfield 13, 3) := dk_180 0 13 (dk_at dksX9_readsStranger_0 3 rfl rfl)
theorem dX9_readsStranger_6 : decode cX9_readsStranger 6 = .ok (.bipush 9, 2) := dk_16 9 (dk_at dksX9_readsStranger_0 6 rfl rfl)
theorem dX9_readsStranger_8 : decode cX9_readsStranger 8 = .ok (.iaload, 1) := dk_46 (dk_at dksX9_readsStranger_0 8 rfl rfl)
theorem dX9_readsStranger_9 : decode cX9_readsStranger 9 = .ok (.iadd, 1) := dk_96 (dk_at dksX9_readsStranger_0 9 rfl rfl)
theorem dX9_readsStranger_10 : decode cX9_readsStranger 10 = .ok (.istore_n 1, 1) := dk_60 (dk_at dksX9_readsStranger_0 10 rfl rfl)
theorem dX9_readsStranger_11 : decode cX9_readsStranger 11 = .ok (.iload_n 1, 1) := dk_27 (dk_at dksX9_readsStranger_0 11 rfl rfl)
theorem dX9_readsStranger_12 : decode cX9_readsStranger 12 = .ok (.bipush 12, 2) := dk_16 12 (dk_at dksX9_readsStranger_0 12 rfl rfl)
theorem dX9_readsStranger_14 : decode cX9_readsStranger 14 = .ok (.if_icmp .ne 9, 3) := dk_160 0 9 (dk_at dksX9_readsStranger_0 14 rfl rfl)
theorem dX9_readsStranger_17 : decode cX9_readsStranger 17 = .ok (.aload_n 0, 1) := dk_42 (dk_at dksX9_readsStranger_0 17 rfl rfl)
theorem dX9_readsStranger_18 : decode cX9_readsStranger 18 = .ok (.iconst 5, 1) := dk_8 (dk_at dksX9_readsStranger_0 18 rfl rfl)
theorem dX9_readsStranger_19 : decode cX9_readsStranger 19 = .ok (.invokevirtual 283, 3) := dk_182 1 27 (dk_at dksX9_readsStranger_0 19 rfl rfl)
theorem dX9_readsStranger_22 : decode cX9_readsStranger 22 = .ok (.ireturn, 1) := dk_172 (dk_at dksX9_readsStranger_0 22 rfl rfl)
theorem dX9_readsStranger_23 : decode cX9_readsStranger 23 = .ok (.aload_n 0, 1) := dk_42 (dk_at dksX9_readsStranger_0 23 rfl rfl)
theorem dX9_readsStranger_24 : decode cX9_readsStranger 24 = .ok (.invokevirtual 290, 3) := dk_182 1 34 (dk_at dksX9_readsStranger_1 0 rfl rfl)
theorem dX9_readsStranger_27 : decode cX9_readsStranger 27 = .ok (.aload_n 0, 1) := dk_42 (dk_at dksX9_readsStranger_1 3 rfl rfl)
theorem dX9_readsStranger_28 : decode cX9_readsStranger 28 = .ok (.iconst 1, 1) := dk_4 (dk_at dksX9_readsStranger_1 4 rfl rfl)
theorem dX9_readsStranger_29 : decode cX9_readsStranger 29 = .ok (.invokevirtual 394, 3) := dk_182 1 138 (dk_at dksX9_readsStranger_1 5 rfl rfl)
theorem dX9_readsStranger_32 : decode cX9_readsStranger 32 = .ok (.ifCond .ne 5, 3) := dk_154 0 5 (dk_at dksX9_readsStranger_1 8 rfl rfl)
theorem dX9_readsStranger_35 : decode cX9_readsStranger 35 = .ok (.iconst 0, 1) := dk_3 (dk_at dksX9_readsStranger_1 11 rfl rfl)
theorem dX9_readsStranger_36 : decode cX9_readsStranger 36 = .ok (.ireturn, 1) := dk_172 (dk_at dksX9_readsStranger_1 12 rfl rfl)
theorem dX9_readsStranger_37 : decode cX9_readsStranger 37 = .ok (.bipush 6, 2) := dk_16 6 (dk_at dksX9_readsStranger_1 13 rfl rfl)
theorem dX9_readsStranger_39 : decode cX9_readsStranger 39 = .ok (.istore_n 2, 1) := dk_61 (dk_at dksX9_readsStranger_1 15 rfl rfl)
theorem dX9_readsStranger_40 : decode cX9_readsStranger 40 = .ok (.iload_n 2, 1) := dk_28 (dk_at dksX9_readsStranger_1 16 rfl rfl)
theorem dX9_readsStranger_41 : decode cX9_readsStranger 41 = .ok (.iload_n 1, 1) := dk_27 (dk_at dksX9_readsStranger_1 17 rfl rfl)
theorem dX9_readsStranger_42 : decode cX9_readsStranger 42 = .ok (.if_icmp .ge 28, 3) := dk_162 0 28 (dk_at dksX9_readsStranger_1 18 rfl rfl)
theorem dX9_readsStranger_45 : decode cX9_readsStranger 45 = .ok (.aload_n 0, 1) := dk_42 (dk_at dksX9_readsStranger_1 21 rfl rfl)
theorem dX9_readsStranger_46 : decode cX9_readsStranger 46 = .ok (.getfield 53, 3) := dk_180 0 53 (dk_at dksX9_readsStranger_2 0 rfl rfl)
theorem dX9_readsStranger_49 : decode cX9_readsStranger 49 = .ok (.iload_n 2, 1) := dk_28 (dk_at dksX9_readsStranger_2 3 rfl rfl)
theorem dX9_readsStranger_50 : decode cX9_readsStranger 50 = .ok (.iaload, 1) := dk_46 (dk_at dksX9_readsStranger_2 4 rfl rfl)
theorem dX9_readsStranger_51 : decode cX9_readsStranger 51 = .ok (.aload_n 0, 1) := dk_42 (dk_at dksX9_readsStranger_2 5 rfl rfl)
theorem dX9_readsStranger_52 : decode cX9_readsStranger 52 = .ok (.getfield 355, 3) := dk_180 1 99 (dk_at dksX9_readsStranger_2 6 rfl rfl)
theorem dX9_readsStranger_55 : decode cX9_readsStranger 55 = .ok (.if_icmp .ne 9, 3) := dk_160 0 9 (dk_at dksX9_readsStranger_2 9 rfl rfl)
theorem dX9_readsStranger_58 : decode cX9_readsStranger 58 = .ok (.aload_n 0, 1) := dk_42 (dk_at dksX9_readsStranger_2 12 rfl rfl)
theorem dX9_readsStranger_59 : decode cX9_readsStranger 59 = .ok (.iconst 3, 1) := dk_6 (dk_at dksX9_readsStranger_2 13 rfl rfl)
theorem dX9_readsStranger_60 : decode cX9_readsStranger 60 = .ok (.invokevirtual 283, 3) := dk_182 1 27 (dk_at dksX9_readsStranger_2 14 rfl rfl)
theorem dX9_readsStranger_63 : decode cX9_readsStranger 63 = .ok (.ireturn, 1) := dk_172 (dk_at dksX9_readsStranger_2 17 rfl rfl)
theorem dX9_readsStranger_64 : decode cX9_readsStranger 64 = .ok (.iinc 2 1, 3) := dk_132 2 1 (dk_at dksX9_readsStranger_2 18 rfl rfl)
theorem dX9_readsStranger_67 : decode cX9_readsStranger 67 = .ok (.goto (-27), 3) := dk_167 255 229 (dk_at dksX9_readsStranger_2 21 rfl rfl)
theorem dX9_readsStranger_70 : decode cX9_readsStranger 70 = .ok (.aload_n 0, 1) := dk_42 (dk_at dksX9_readsStranger_3 0 rfl rfl)
theorem dX9_readsStranger_71 : decode cX9_readsStranger 71 = .ok (.getfield 53, 3) := dk_180 0 53 (dk_at dksX9_readsStranger_3 1 rfl rfl)
theorem dX9_readsStranger_74 : decode cX9_readsStranger 74 = .ok (.iload_n 1, 1) := dk_27 (dk_at dksX9_readsStranger_3 4 rfl rfl)
theorem dX9_readsStranger_75 : decode cX9_readsStranger 75 = .ok (.aload_n 0, 1) := dk_42 (dk_at dksX9_readsStranger_3 5 rfl rfl)
theorem dX9_readsStranger_76 : decode cX9_readsStranger 76 = .ok (.getfield 355, 3) := dk_180 1 99 (dk_at dksX9_readsStranger_3 6 rfl rfl)
theorem dX9_readsStranger_79 : decode cX9_readsStranger 79 = .ok (.iastore, 1) := dk_79 (dk_at dksX9_readsStranger_3 9 rfl rfl)
theorem dX9_readsStranger_80 : decode cX9_readsStranger 80 = .ok (.aload_n 0, 1) := dk_42 (dk_at dksX9_readsStranger_3 10 rfl rfl)
theorem dX9_readsStranger_81 : decode cX9_readsStranger 81 = .ok (.invokevirtual 290, 3) := dk_182 1 34 (dk_at dksX9_readsStranger_3 11 rfl rfl)
theorem dX9_readsStranger_84 : decode cX9_readsStranger 84 = .ok (.aload_n 0, 1) := dk_42 (dk_at dksX9_readsStranger_3 14 rfl rfl)
theorem dX9_readsStranger_85 : decode cX9_readsStranger 85 = .ok (.iconst 0, 1) := dk_3 (dk_at dksX9_readsStranger_3 15 rfl rfl)
theorem dX9_readsStranger_86 : decode cX9_readsStranger 86 = .ok (.bipush 10, 2) := dk_16 10 (dk_at dksX9_readsStranger_3 16 rfl rfl)
theorem dX9_readsStranger_88 : decode cX9_readsStranger 88 = .ok (.invokevirtual 361, 3) := dk_182 1 105 (dk_at dksX9_readsStranger_3 18 rfl rfl)
theorem dX9_readsStranger_91 : decode cX9_readsStranger 91 = .ok (.ifCond .ne 5, 3) := dk_154 0 5 (dk_at dksX9_readsStranger_3 21 rfl rfl)
theorem dX9_readsStranger_94 : decode cX9_readsStranger 94 = .ok (.iconst 0, 1) := dk_3 (dk_at dksX9_readsStranger_4 0 rfl rfl)
theorem dX9_readsStranger_95 : decode cX9_readsStranger 95 = .ok (.ireturn, 1) := dk_172 (dk_at dksX9_readsStranger_4 1 rfl rfl)
theorem dX9_readsStranger_96 : decode cX9_readsStranger 96 = .ok (.aload_n 0, 1) := dk_42 (dk_at dksX9_readsStranger_4 2 rfl rfl)
theorem dX9_readsStranger_97 : decode cX9_readsStranger 97 = .ok (.getfield 56, 3) := dk_180 0 56 (dk_at dksX9_readsStranger_4 3 rfl rfl)
theorem dX9_readsStranger_100 : decode cX9_readsStranger 100 = .ok (.iload_n 1, 1) := dk_27 (dk_at dksX9_readsStranger_4 6 rfl rfl)
theorem dX9_readsStranger_101 : decode cX9_readsStranger 101 = .ok (.aload_n 0, 1) := dk_42 (dk_at dksX9_readsStranger_4 7 rfl rfl)
theorem dX9_readsStranger_102 : decode cX9_readsStranger 102 = .ok (.getfield 355, 3) := dk_180 1 99 (dk_at dksX9_readsStranger_4 8 rfl rfl)
theorem dX9_readsStranger_105 : decode cX9_readsStranger 105 = .ok (.iastore, 1) := dk_79 (dk_at dksX9_readsStranger_4 11 rfl rfl)
theorem dX9_readsStranger_106 : decode cX9_readsStranger 106 = .ok (.aload_n 0, 1) := dk_42 (dk_at dksX9_readsStranger_4 12 rfl rfl)
theorem dX9_readsStranger_107 : decode cX9_readsStranger 107 = .ok (.getfield 13, 3) := dk_180 0 13 (dk_at dksX9_readsStranger_4 13 rfl rfl)
theorem dX9_readsStranger_110 : decode cX9_readsStranger 110 = .ok (.bipush 9, 2) := dk_16 9 (dk_at dksX9_readsStranger_4 16 rfl rfl)
theorem dX9_readsStranger_112 : decode cX9_readsStranger 112 = .ok (.dup2, 1) := dk_92 (dk_at dksX9_readsStranger_4 18 rfl rfl)
theorem dX9_readsStranger_113 : decode cX9_readsStranger 113 = .ok (.iaload, 1) := dk_46 (dk_at dksX9_readsStranger_4 19 rfl rfl)
theorem dX9_readsStranger_114 : decode cX9_readsStranger 114 = .ok (.iconst 1, 1) := dk_4 (dk_at dksX9_readsStranger_4 20 rfl rfl)
theorem dX9_readsStranger_115 : decode cX9_readsStranger 115 = .ok (.iadd, 1) := dk_96 (dk_at dksX9_readsStranger_4 21 rfl rfl)
theorem dX9_readsStranger_116 : decode cX9_readsStranger 116 = .ok (.iastore, 1) := dk_79 (dk_at dksX9_readsStranger_4 22 rfl rfl)
theorem dX9_readsStranger_117 : decode cX9_readsStranger 117 = .ok (.aload_n 0, 1) := dk_42 (dk_at dksX9_readsStranger_4 23 rfl rfl)
theorem dX9_readsStranger_118 : decode cX9_readsStranger 118 = .ok (.invokevirtual 386, 3) := dk_182 1 130 (dk_at dksX9_readsStranger_5 0 rfl rfl)
theorem dX9_readsStranger_121 : decode cX9_readsStranger 121 = .ok (.ireturn, 1) := dk_172 (dk_at dksX9_readsStranger_5 3 rfl rfl)
abbrev cX9_readsPage : ByteArray := prog_35_method_38_code
def yX9_readsPage : MethodName := ⟨RX9, "readsPage", "()Z"⟩
def dkwX9_readsPage_6 : List UInt8 := [172]
abbrev dktX9_readsPage_6 : List UInt8 := dkwX9_readsPage_6 ++ []
def dkwX9_readsPage_5 : List UInt8 := [96, 79, 42, 182, 1, 34, 167, 255, 167, 42, 180, 0, 13, 16, 10, 92, 46, 4, 96, 79, 42, 182, 1, 130]
abbrev dktX9_readsPage_5 : List UInt8 := dkwX9_readsPage_5 ++ dktX9_readsPage_6
def dkwX9_readsPage_4 : List UInt8 := [16, 10, 27, 104, 42, 180, 0, 62, 27, 46, 96, 42, 180, 1, 99, 79, 42, 180, 0, 62, 27, 92, 46, 4]
abbrev dktX9_readsPage_4 : List UInt8 := dkwX9_readsPage_4 ++ dktX9_readsPage_5
def dkwX9_readsPage_3 : List UInt8 := [4, 160, 0, 9, 42, 6, 182, 1, 27, 172, 28, 4, 42, 180, 1, 99, 120, 128, 61, 42, 180, 0, 59]
abbrev dktX9_readsPage_3 : List UInt8 := dkwX9_readsPage_3 ++ dktX9_readsPage_4
def dkwX9_readsPage_2 : List UInt8 := [182, 1, 23, 154, 0, 77, 42, 4, 182, 1, 133, 154, 0, 5, 3, 172, 28, 42, 180, 1, 99, 122, 4, 126]
abbrev dktX9_readsPage_2 : List UInt8 := dkwX9_readsPage_2 ++ dktX9_readsPage_3
def dkwX9_readsPage_1 : List UInt8 := [182, 1, 34, 42, 180, 0, 62, 27, 3, 79, 3, 61, 42, 180, 0, 62, 27, 46, 153, 0, 12, 42, 16, 59]
abbrev dktX9_readsPage_1 : List UInt8 := dkwX9_readsPage_1 ++ dktX9_readsPage_2
def dkwX9_readsPage_0 : List UInt8 := [7, 42, 180, 0, 13, 16, 10, 46, 96, 60, 27, 16, 8, 160, 0, 9, 42, 8, 182, 1, 27, 172, 42]
abbrev dktX9_readsPage_0 : List UInt8 := dkwX9_readsPage_0 ++ dktX9_readsPage_1
theorem dksX9_readsPage_0 : cX9_readsPage.data.toList.drop 0 = dktX9_readsPage_0 := by decide +kernel
theorem dksX9_readsPage_1 : cX9_readsPage.data.toList.drop 23 = dktX9_readsPage_1 := dk_seg dksX9_readsPage_0 23 rfl rfl
theorem dksX9_readsPage_2 : cX9_readsPage.data.toList.drop 47 = dktX9_readsPage_2 := dk_seg dksX9_readsPage_1 24 rfl rfl
theorem dksX9_readsPage_3 : cX9_readsPage.data.toList.drop 71 = dktX9_readsPage_3 := dk_seg dksX9_readsPage_2 24 rfl rfl
theorem dksX9_readsPage_4 : cX9_readsPage.data.toList.drop 94 = dktX9_readsPage_4 := dk_seg dksX9_readsPage_3 23 rfl rfl
theorem dksX9_readsPage_5 : cX9_readsPage.data.toList.drop 118 = dktX9_readsPage_5 := dk_seg dksX9_readsPage_4 24 rfl rfl
theorem dksX9_readsPage_6 : cX9_readsPage.data.toList.drop 142 = dktX9_readsPage_6 := dk_seg dksX9_readsPage_5 24 rfl rfl
theorem dX9_readsPage_0 : decode cX9_readsPage 0 = .ok (.iconst 4, 1) := dk_7 (dk_at dksX9_readsPage_0 0 rfl rfl)
theorem dX9_readsPage_1 : decode cX9_readsPage 1 = .ok (.aload_n 0, 1) := dk_42 (dk_at dksX9_readsPage_0 1 rfl rfl)
theorem dX9_readsPage_2 : decode cX9_readsPage 2 = .ok (.getfield 13, 3) := dk_180 0 13 (dk_at dksX9_readsPage_0 2 rfl rfl)
theorem dX9_readsPage_5 : decode cX9_readsPage 5 = .ok (.bipush 10, 2) := dk_16 10 (dk_at dksX9_readsPage_0 5 rfl rfl)
theorem dX9_readsPage_7 : decode cX9_readsPage 7 = .ok (.iaload, 1) := dk_46 (dk_at dksX9_readsPage_0 7 rfl rfl)
theorem dX9_readsPage_8 : decode cX9_readsPage 8 = .ok (.iadd, 1) := dk_96 (dk_at dksX9_readsPage_0 8 rfl rfl)
theorem dX9_readsPage_9 : decode cX9_readsPage 9 = .ok (.istore_n 1, 1) := dk_60 (dk_at dksX9_readsPage_0 9 rfl rfl)
theorem dX9_readsPage_10 : decode cX9_readsPage 10 = .ok (.iload_n 1, 1) := dk_27 (dk_at dksX9_readsPage_0 10 rfl rfl)
theorem dX9_readsPage_11 : decode cX9_readsPage 11 = .ok (.bipush 8, 2) := dk_16 8 (dk_at dksX9_readsPage_0 11 rfl rfl)
theorem dX9_readsPage_13 : decode cX9_readsPage 13 = .ok (.if_icmp .ne 9, 3) := dk_160 0 9 (dk_at dksX9_readsPage_0 13 rfl rfl)
theorem dX9_readsPage_16 : decode cX9_readsPage 16 = .ok (.aload_n 0, 1) := dk_42 (dk_at dksX9_readsPage_0 16 rfl rfl)
theorem dX9_readsPage_17 : decode cX9_readsPage 17 = .ok (.iconst 5, 1) := dk_8 (dk_at dksX9_readsPage_0 17 rfl rfl)
theorem dX9_readsPage_18 : decode cX9_readsPage 18 = .ok (.invokevirtual 283, 3) := dk_182 1 27 (dk_at dksX9_readsPage_0 18 rfl rfl)
theorem dX9_readsPage_21 : decode cX9_readsPage 21 = .ok (.ireturn, 1) := dk_172 (dk_at dksX9_readsPage_0 21 rfl rfl)
theorem dX9_readsPage_22 : decode cX9_readsPage 22 = .ok (.aload_n 0, 1) := dk_42 (dk_at dksX9_readsPage_0 22 rfl rfl)
theorem dX9_readsPage_23 : decode cX9_readsPage 23 = .ok (.invokevirtual 290, 3) := dk_182 1 34 (dk_at dksX9_readsPage_1 0 rfl rfl)
theorem dX9_readsPage_26 : decode cX9_readsPage 26 = .ok (.aload_n 0, 1) := dk_42 (dk_at dksX9_readsPage_1 3 rfl rfl)
theorem dX9_readsPage_27 : decode cX9_readsPage 27 = .ok (.getfield 62, 3) := dk_180 0 62 (dk_at dksX9_readsPage_1 4 rfl rfl)
theorem dX9_readsPage_30 : decode cX9_readsPage 30 = .ok (.iload_n 1, 1) := dk_27 (dk_at dksX9_readsPage_1 7 rfl rfl)
theorem dX9_readsPage_31 : decode cX9_readsPage 31 = .ok (.iconst 0, 1) := dk_3 (dk_at dksX9_readsPage_1 8 rfl rfl)
theorem dX9_readsPage_32 : decode cX9_readsPage 32 = .ok (.iastore, 1) := dk_79 (dk_at dksX9_readsPage_1 9 rfl rfl)
theorem dX9_readsPage_33 : decode cX9_readsPage 33 = .ok (.iconst 0, 1) := dk_3 (dk_at dksX9_readsPage_1 10 rfl rfl)
theorem dX9_readsPage_34 : decode cX9_readsPage 34 = .ok (.istore_n 2, 1) := dk_61 (dk_at dksX9_readsPage_1 11 rfl rfl)
theorem dX9_readsPage_35 : decode cX9_readsPage 35 = .ok (.aload_n 0, 1) := dk_42 (dk_at dksX9_readsPage_1 12 rfl rfl)
theorem dX9_readsPage_36 : decode cX9_readsPage 36 = .ok (.getfield 62, 3) := dk_180 0 62 (dk_at dksX9_readsPage_1 13 rfl rfl)
theorem dX9_readsPage_39 : decode cX9_readsPage 39 = .ok (.iload_n 1, 1) := dk_27 (dk_at dksX9_readsPage_1 16 rfl rfl)
theorem dX9_readsPage_40 : decode cX9_readsPage 40 = .ok (.iaload, 1) := dk_46 (dk_at dksX9_readsPage_1 17 rfl rfl)
theorem dX9_readsPage_41 : decode cX9_readsPage 41 = .ok (.ifCond .eq 12, 3) := dk_153 0 12 (dk_at dksX9_readsPage_1 18 rfl rfl)
theorem dX9_readsPage_44 : decode cX9_readsPage 44 = .ok (.aload_n 0, 1) := dk_42 (dk_at dksX9_readsPage_1 21 rfl rfl)
theorem dX9_readsPage_45 : decode cX9_readsPage 45 = .ok (.bipush 59, 2) := dk_16 59 (dk_at dksX9_readsPage_1 22 rfl rfl)
theorem dX9_readsPage_47 : decode cX9_readsPage 47 = .ok (.invokevirtual 279, 3) := dk_182 1 23 (dk_at dksX9_readsPage_2 0 rfl rfl)
theorem dX9_readsPage_50 : decode cX9_readsPage 50 = .ok (.ifCond .ne 77, 3) := dk_154 0 77 (dk_at dksX9_readsPage_2 3 rfl rfl)
theorem dX9_readsPage_53 : decode cX9_readsPage 53 = .ok (.aload_n 0, 1) := dk_42 (dk_at dksX9_readsPage_2 6 rfl rfl)
theorem dX9_readsPage_54 : decode cX9_readsPage 54 = .ok (.iconst 1, 1) := dk_4 (dk_at dksX9_readsPage_2 7 rfl rfl)
theorem dX9_readsPage_55 : decode cX9_readsPage 55 = .ok (.invokevirtual 389, 3) := dk_182 1 133 (dk_at dksX9_readsPage_2 8 rfl rfl)
theorem dX9_readsPage_58 : decode cX9_readsPage 58 = .ok (.ifCond .ne 5, 3) := dk_154 0 5 (dk_at dksX9_readsPage_2 11 rfl rfl)
theorem dX9_readsPage_61 : decode cX9_readsPage 61 = .ok (.iconst 0, 1) := dk_3 (dk_at dksX9_readsPage_2 14 rfl rfl)
theorem dX9_readsPage_62 : decode cX9_readsPage 62 = .ok (.ireturn, 1) := dk_172 (dk_at dksX9_readsPage_2 15 rfl rfl)
theorem dX9_readsPage_63 : decode cX9_readsPage 63 = .ok (.iload_n 2, 1) := dk_28 (dk_at dksX9_readsPage_2 16 rfl rfl)
theorem dX9_readsPage_64 : decode cX9_readsPage 64 = .ok (.aload_n 0, 1) := dk_42 (dk_at dksX9_readsPage_2 17 rfl rfl)
theorem dX9_readsPage_65 : decode cX9_readsPage 65 = .ok (.getfield 355, 3) := dk_180 1 99 (dk_at dksX9_readsPage_2 18 rfl rfl)
theorem dX9_readsPage_68 : decode cX9_readsPage 68 = .ok (.ishr, 1) := dk_122 (dk_at dksX9_readsPage_2 21 rfl rfl)
theorem dX9_readsPage_69 : decode cX9_readsPage 69 = .ok (.iconst 1, 1) := dk_4 (dk_at dksX9_readsPage_2 22 rfl rfl)
theorem dX9_readsPage_70 : decode cX9_readsPage 70 = .ok (.iand, 1) := dk_126 (dk_at dksX9_readsPage_2 23 rfl rfl)
theorem dX9_readsPage_71 : decode cX9_readsPage 71 = .ok (.iconst 1, 1) := dk_4 (dk_at dksX9_readsPage_3 0 rfl rfl)
theorem dX9_readsPage_72 : decode cX9_readsPage 72 = .ok (.if_icmp .ne 9, 3) := dk_160 0 9 (dk_at dksX9_readsPage_3 1 rfl rfl)
theorem dX9_readsPage_75 : decode cX9_readsPage 75 = .ok (.aload_n 0, 1) := dk_42 (dk_at dksX9_readsPage_3 4 rfl rfl)
theorem dX9_readsPage_76 : decode cX9_readsPage 76 = .ok (.iconst 3, 1) := dk_6 (dk_at dksX9_readsPage_3 5 rfl rfl)
theorem dX9_readsPage_77 : decode cX9_readsPage 77 = .ok (.invokevirtual 283, 3) := dk_182 1 27 (dk_at dksX9_readsPage_3 6 rfl rfl)
theorem dX9_readsPage_80 : decode cX9_readsPage 80 = .ok (.ireturn, 1) := dk_172 (dk_at dksX9_readsPage_3 9 rfl rfl)
theorem dX9_readsPage_81 : decode cX9_readsPage 81 = .ok (.iload_n 2, 1) := dk_28 (dk_at dksX9_readsPage_3 10 rfl rfl)
theorem dX9_readsPage_82 : decode cX9_readsPage 82 = .ok (.iconst 1, 1) := dk_4 (dk_at dksX9_readsPage_3 11 rfl rfl)
theorem dX9_readsPage_83 : decode cX9_readsPage 83 = .ok (.aload_n 0, 1) := dk_42 (dk_at dksX9_readsPage_3 12 rfl rfl)
theorem dX9_readsPage_84 : decode cX9_readsPage 84 = .ok (.getfield 355, 3) := dk_180 1 99 (dk_at dksX9_readsPage_3 13 rfl rfl)
theorem dX9_readsPage_87 : decode cX9_readsPage 87 = .ok (.ishl, 1) := dk_120 (dk_at dksX9_readsPage_3 16 rfl rfl)
theorem dX9_readsPage_88 : decode cX9_readsPage 88 = .ok (.ior, 1) := dk_128 (dk_at dksX9_readsPage_3 17 rfl rfl)
theorem dX9_readsPage_89 : decode cX9_readsPage 89 = .ok (.istore_n 2, 1) := dk_61 (dk_at dksX9_readsPage_3 18 rfl rfl)
theorem dX9_readsPage_90 : decode cX9_readsPage 90 = .ok (.aload_n 0, 1) := dk_42 (dk_at dksX9_readsPage_3 19 rfl rfl)
theorem dX9_readsPage_91 : decode cX9_readsPage 91 = .ok (.getfield 59, 3) := dk_180 0 59 (dk_at dksX9_readsPage_3 20 rfl rfl)
theorem dX9_readsPage_94 : decode cX9_readsPage 94 = .ok (.bipush 10, 2) := dk_16 10 (dk_at dksX9_readsPage_4 0 rfl rfl)
theorem dX9_readsPage_96 : decode cX9_readsPage 96 = .ok (.iload_n 1, 1) := dk_27 (dk_at dksX9_readsPage_4 2 rfl rfl)
theorem dX9_readsPage_97 : decode cX9_readsPage 97 = .ok (.imul, 1) := dk_104 (dk_at dksX9_readsPage_4 3 rfl rfl)
theorem dX9_readsPage_98 : decode cX9_readsPage 98 = .ok (.aload_n 0, 1) := dk_42 (dk_at dksX9_readsPage_4 4 rfl rfl)
theorem dX9_readsPage_99 : decode cX9_readsPage 99 = .ok (.getfield 62, 3) := dk_180 0 62 (dk_at dksX9_readsPage_4 5 rfl rfl)
theorem dX9_readsPage_102 : decode cX9_readsPage 102 = .ok (.iload_n 1, 1) := dk_27 (dk_at dksX9_readsPage_4 8 rfl rfl)
theorem dX9_readsPage_103 : decode cX9_readsPage 103 = .ok (.iaload, 1) := dk_46 (dk_at dksX9_readsPage_4 9 rfl rfl)
theorem dX9_readsPage_104 : decode cX9_readsPage 104 = .ok (.iadd, 1) := dk_96 (dk_at dksX9_readsPage_4 10 rfl rfl)
theorem dX9_readsPage_105 : decode cX9_readsPage 105 = .ok (.aload_n 0, 1) := dk_42 (dk_at dksX9_readsPage_4 11 rfl rfl)
theorem dX9_readsPage_106 : decode cX9_readsPage 106 = .ok (.getfield 355, 3) := dk_180 1 99 (dk_at dksX9_readsPage_4 12 rfl rfl)
theorem dX9_readsPage_109 : decode cX9_readsPage 109 = .ok (.iastore, 1) := dk_79 (dk_at dksX9_readsPage_4 15 rfl rfl)
theorem dX9_readsPage_110 : decode cX9_readsPage 110 = .ok (.aload_n 0, 1) := dk_42 (dk_at dksX9_readsPage_4 16 rfl rfl)
theorem dX9_readsPage_111 : decode cX9_readsPage 111 = .ok (.getfield 62, 3) := dk_180 0 62 (dk_at dksX9_readsPage_4 17 rfl rfl)
theorem dX9_readsPage_114 : decode cX9_readsPage 114 = .ok (.iload_n 1, 1) := dk_27 (dk_at dksX9_readsPage_4 20 rfl rfl)
theorem dX9_readsPage_115 : decode cX9_readsPage 115 = .ok (.dup2, 1) := dk_92 (dk_at dksX9_readsPage_4 21 rfl rfl)
theorem dX9_readsPage_116 : decode cX9_readsPage 116 = .ok (.iaload, 1) := dk_46 (dk_at dksX9_readsPage_4 22 rfl rfl)
theorem dX9_readsPage_117 : decode cX9_readsPage 117 = .ok (.iconst 1, 1) := dk_4 (dk_at dksX9_readsPage_4 23 rfl rfl)
theorem dX9_readsPage_118 : decode cX9_readsPage 118 = .ok (.iadd, 1) := dk_96 (dk_at dksX9_readsPage_5 0 rfl rfl)
theorem dX9_readsPage_119 : decode cX9_readsPage 119 = .ok (.iastore, 1) := dk_79 (dk_at dksX9_readsPage_5 1 rfl rfl)
theorem dX9_readsPage_120 : decode cX9_readsPage 120 = .ok (.aload_n 0, 1) := dk_42 (dk_at dksX9_readsPage_5 2 rfl rfl)
theorem dX9_readsPage_121 : decode cX9_readsPage 121 = .ok (.invokevirtual 290, 3) := dk_182 1 34 (dk_at dksX9_readsPage_5 3 rfl rfl)
theorem dX9_readsPage_124 : decode cX9_readsPage 124 = .ok (.goto (-89), 3) := dk_167 255 167 (dk_at dksX9_readsPage_5 6 rfl rfl)
theorem dX9_readsPage_127 : decode cX9_readsPage 127 = .ok (.aload_n 0, 1) := dk_42 (dk_at dksX9_readsPage_5 9 rfl rfl)
theorem dX9_readsPage_128 : decode cX9_readsPage 128 = .ok (.getfield 13, 3) := dk_180 0 13 (dk_at dksX9_readsPage_5 10 rfl rfl)
theorem dX9_readsPage_131 : decode cX9_readsPage 131 = .ok (.bipush 10, 2) := dk_16 10 (dk_at dksX9_readsPage_5 13 rfl rfl)
theorem dX9_readsPage_133 : decode cX9_readsPage 133 = .ok (.dup2, 1) := dk_92 (dk_at dksX9_readsPage_5 15 rfl rfl)
theorem dX9_readsPage_134 : decode cX9_readsPage 134 = .ok (.iaload, 1) := dk_46 (dk_at dksX9_readsPage_5 16 rfl rfl)
theorem dX9_readsPage_135 : decode cX9_readsPage 135 = .ok (.iconst 1, 1) := dk_4 (dk_at dksX9_readsPage_5 17 rfl rfl)
theorem dX9_readsPage_136 : decode cX9_readsPage 136 = .ok (.iadd, 1) := dk_96 (dk_at dksX9_readsPage_5 18 rfl rfl)
theorem dX9_readsPage_137 : decode cX9_readsPage 137 = .ok (.iastore, 1) := dk_79 (dk_at dksX9_readsPage_5 19 rfl rfl)
theorem dX9_readsPage_138 : decode cX9_readsPage 138 = .ok (.aload_n 0, 1) := dk_42 (dk_at dksX9_readsPage_5 20 rfl rfl)
theorem dX9_readsPage_139 : decode cX9_readsPage 139 = .ok (.invokevirtual 386, 3) := dk_182 1 130 (dk_at dksX9_readsPage_5 21 rfl rfl)
theorem dX9_readsPage_142 : decode cX9_readsPage 142 = .ok (.ireturn, 1) := dk_172 (dk_at dksX9_readsPage_6 0 rfl rfl)
abbrev cX9_readsBann : ByteArray := prog_35_method_39_code
def yX9_readsBann : MethodName := ⟨RX9, "readsBann", "()Z"⟩
def dkwX9_readsBann_4 : List UInt8 := [180, 0, 13, 16, 11, 92, 46, 4, 96, 79, 42, 182, 1, 130, 172]
abbrev dktX9_readsBann_4 : List UInt8 := dkwX9_readsBann_4 ++ []
def dkwX9_readsBann_3 : List UInt8 := [160, 0, 9, 42, 6, 182, 1, 27, 172, 42, 180, 0, 68, 27, 42, 180, 1, 99, 79, 42, 182, 1, 34, 42]
abbrev dktX9_readsBann_3 : List UInt8 := dkwX9_readsBann_3 ++ dktX9_readsBann_4
def dkwX9_readsBann_2 : List UInt8 := [182, 1, 34, 42, 4, 182, 1, 138, 154, 0, 5, 3, 172, 42, 180, 1, 99, 42, 180, 0, 65, 27, 46]
abbrev dktX9_readsBann_2 : List UInt8 := dkwX9_readsBann_2 ++ dktX9_readsBann_3
def dkwX9_readsBann_1 : List UInt8 := [182, 1, 34, 42, 4, 182, 1, 138, 154, 0, 5, 3, 172, 42, 180, 0, 65, 27, 42, 180, 1, 99, 79, 42]
abbrev dktX9_readsBann_1 : List UInt8 := dkwX9_readsBann_1 ++ dktX9_readsBann_2
def dkwX9_readsBann_0 : List UInt8 := [7, 42, 180, 0, 13, 16, 11, 46, 96, 60, 27, 16, 8, 160, 0, 9, 42, 8, 182, 1, 27, 172, 42]
abbrev dktX9_readsBann_0 : List UInt8 := dkwX9_readsBann_0 ++ dktX9_readsBann_1
theorem dksX9_readsBann_0 : cX9_readsBann.data.toList.drop 0 = dktX9_readsBann_0 := by decide +kernel
theorem dksX9_readsBann_1 : cX9_readsBann.data.toList.drop 23 = dktX9_readsBann_1 := dk_seg dksX9_readsBann_0 23 rfl rfl
theorem dksX9_readsBann_2 : cX9_readsBann.data.toList.drop 47 = dktX9_readsBann_2 := dk_seg dksX9_readsBann_1 24 rfl rfl
theorem dksX9_readsBann_3 : cX9_readsBann.data.toList.drop 70 = dktX9_readsBann_3 := dk_seg dksX9_readsBann_2 23 rfl rfl
theorem dksX9_readsBann_4 : cX9_readsBann.data.toList.drop 94 = dktX9_readsBann_4 := dk_seg dksX9_readsBann_3 24 rfl rfl
theorem dX9_readsBann_0 : decode cX9_readsBann 0 = .ok (.iconst 4, 1) := dk_7 (dk_at dksX9_readsBann_0 0 rfl rfl)
theorem dX9_readsBann_1 : decode cX9_readsBann 1 = .ok (.aload_n 0, 1) := dk_42 (dk_at dksX9_readsBann_0 1 rfl rfl)
theorem dX9_readsBann_2 : decode cX9_readsBann 2 = .ok (.getfield 13, 3) := dk_180 0 13 (dk_at dksX9_readsBann_0 2 rfl rfl)
theorem dX9_readsBann_5 : decode cX9_readsBann 5 = .ok (.bipush 11, 2) := dk_16 11 (dk_at dksX9_readsBann_0 5 rfl rfl)
theorem dX9_readsBann_7 : decode cX9_readsBann 7 = .ok (.iaload, 1) := dk_46 (dk_at dksX9_readsBann_0 7 rfl rfl)
theorem dX9_readsBann_8 : decode cX9_readsBann 8 = .ok (.iadd, 1) := dk_96 (dk_at dksX9_readsBann_0 8 rfl rfl)
theorem dX9_readsBann_9 : decode cX9_readsBann 9 = .ok (.istore_n 1, 1) := dk_60 (dk_at dksX9_readsBann_0 9 rfl rfl)
theorem dX9_readsBann_10 : decode cX9_readsBann 10 = .ok (.iload_n 1, 1) := dk_27 (dk_at dksX9_readsBann_0 10 rfl rfl)
theorem dX9_readsBann_11 : decode cX9_readsBann 11 = .ok (.bipush 8, 2) := dk_16 8 (dk_at dksX9_readsBann_0 11 rfl rfl)
theorem dX9_readsBann_13 : decode cX9_readsBann 13 = .ok (.if_icmp .ne 9, 3) := dk_160 0 9 (dk_at dksX9_readsBann_0 13 rfl rfl)
theorem dX9_readsBann_16 : decode cX9_readsBann 16 = .ok (.aload_n 0, 1) := dk_42 (dk_at dksX9_readsBann_0 16 rfl rfl)
theorem dX9_readsBann_17 : decode cX9_readsBann 17 = .ok (.iconst 5, 1) := dk_8 (dk_at dksX9_readsBann_0 17 rfl rfl)
theorem dX9_readsBann_18 : decode cX9_readsBann 18 = .ok (.invokevirtual 283, 3) := dk_182 1 27 (dk_at dksX9_readsBann_0 18 rfl rfl)
theorem dX9_readsBann_21 : decode cX9_readsBann 21 = .ok (.ireturn, 1) := dk_172 (dk_at dksX9_readsBann_0 21 rfl rfl)
theorem dX9_readsBann_22 : decode cX9_readsBann 22 = .ok (.aload_n 0, 1) := dk_42 (dk_at dksX9_readsBann_0 22 rfl rfl)
theorem dX9_readsBann_23 : decode cX9_readsBann 23 = .ok (.invokevirtual 290, 3) := dk_182 1 34 (dk_at dksX9_readsBann_1 0 rfl rfl)
theorem dX9_readsBann_26 : decode cX9_readsBann 26 = .ok (.aload_n 0, 1) := dk_42 (dk_at dksX9_readsBann_1 3 rfl rfl)
theorem dX9_readsBann_27 : decode cX9_readsBann 27 = .ok (.iconst 1, 1) := dk_4 (dk_at dksX9_readsBann_1 4 rfl rfl)
theorem dX9_readsBann_28 : decode cX9_readsBann 28 = .ok (.invokevirtual 394, 3) := dk_182 1 138 (dk_at dksX9_readsBann_1 5 rfl rfl)
theorem dX9_readsBann_31 : decode cX9_readsBann 31 = .ok (.ifCond .ne 5, 3) := dk_154 0 5 (dk_at dksX9_readsBann_1 8 rfl rfl)
theorem dX9_readsBann_34 : decode cX9_readsBann 34 = .ok (.iconst 0, 1) := dk_3 (dk_at dksX9_readsBann_1 11 rfl rfl)
theorem dX9_readsBann_35 : decode cX9_readsBann 35 = .ok (.ireturn, 1) := dk_172 (dk_at dksX9_readsBann_1 12 rfl rfl)
theorem dX9_readsBann_36 : decode cX9_readsBann 36 = .ok (.aload_n 0, 1) := dk_42 (dk_at dksX9_readsBann_1 13 rfl rfl)
theorem dX9_readsBann_37 : decode cX9_readsBann 37 = .ok (.getfield 65, 3) := dk_180 0 65 (dk_at dksX9_readsBann_1 14 rfl rfl)
theorem dX9_readsBann_40 : decode cX9_readsBann 40 = .ok (.iload_n 1, 1) := dk_27 (dk_at dksX9_readsBann_1 17 rfl rfl)
theorem dX9_readsBann_41 : decode cX9_readsBann 41 = .ok (.aload_n 0, 1) := dk_42 (dk_at dksX9_readsBann_1 18 rfl rfl)
theorem dX9_readsBann_42 : decode cX9_readsBann 42 = .ok (.getfield 355, 3) := dk_180 1 99 (dk_at dksX9_readsBann_1 19 rfl rfl)
theorem dX9_readsBann_45 : decode cX9_readsBann 45 = .ok (.iastore, 1) := dk_79 (dk_at dksX9_readsBann_1 22 rfl rfl)
theorem dX9_readsBann_46 : decode cX9_readsBann 46 = .ok (.aload_n 0, 1) := dk_42 (dk_at dksX9_readsBann_1 23 rfl rfl)
theorem dX9_readsBann_47 : decode cX9_readsBann 47 = .ok (.invokevirtual 290, 3) := dk_182 1 34 (dk_at dksX9_readsBann_2 0 rfl rfl)
theorem dX9_readsBann_50 : decode cX9_readsBann 50 = .ok (.aload_n 0, 1) := dk_42 (dk_at dksX9_readsBann_2 3 rfl rfl)
theorem dX9_readsBann_51 : decode cX9_readsBann 51 = .ok (.iconst 1, 1) := dk_4 (dk_at dksX9_readsBann_2 4 rfl rfl)
theorem dX9_readsBann_52 : decode cX9_readsBann 52 = .ok (.invokevirtual 394, 3) := dk_182 1 138 (dk_at dksX9_readsBann_2 5 rfl rfl)
theorem dX9_readsBann_55 : decode cX9_readsBann 55 = .ok (.ifCond .ne 5, 3) := dk_154 0 5 (dk_at dksX9_readsBann_2 8 rfl rfl)
theorem dX9_readsBann_58 : decode cX9_readsBann 58 = .ok (.iconst 0, 1) := dk_3 (dk_at dksX9_readsBann_2 11 rfl rfl)
theorem dX9_readsBann_59 : decode cX9_readsBann 59 = .ok (.ireturn, 1) := dk_172 (dk_at dksX9_readsBann_2 12 rfl rfl)
theorem dX9_readsBann_60 : decode cX9_readsBann 60 = .ok (.aload_n 0, 1) := dk_42 (dk_at dksX9_readsBann_2 13 rfl rfl)
theorem dX9_readsBann_61 : decode cX9_readsBann 61 = .ok (.getfield 355, 3) := dk_180 1 99 (dk_at dksX9_readsBann_2 14 rfl rfl)
theorem dX9_readsBann_64 : decode cX9_readsBann 64 = .ok (.aload_n 0, 1) := dk_42 (dk_at dksX9_readsBann_2 17 rfl rfl)
theorem dX9_readsBann_65 : decode cX9_readsBann 65 = .ok (.getfield 65, 3) := dk_180 0 65 (dk_at dksX9_readsBann_2 18 rfl rfl)
theorem dX9_readsBann_68 : decode cX9_readsBann 68 = .ok (.iload_n 1, 1) := dk_27 (dk_at dksX9_readsBann_2 21 rfl rfl)
theorem dX9_readsBann_69 : decode cX9_readsBann 69 = .ok (.iaload, 1) := dk_46 (dk_at dksX9_readsBann_2 22 rfl rfl)
theorem dX9_readsBann_70 : decode cX9_readsBann 70 = .ok (.if_icmp .ne 9, 3) := dk_160 0 9 (dk_at dksX9_readsBann_3 0 rfl rfl)
theorem dX9_readsBann_73 : decode cX9_readsBann 73 = .ok (.aload_n 0, 1) := dk_42 (dk_at dksX9_readsBann_3 3 rfl rfl)
theorem dX9_readsBann_74 : decode cX9_readsBann 74 = .ok (.iconst 3, 1) := dk_6 (dk_at dksX9_readsBann_3 4 rfl rfl)
theorem dX9_readsBann_75 : decode cX9_readsBann 75 = .ok (.invokevirtual 283, 3) := dk_182 1 27 (dk_at dksX9_readsBann_3 5 rfl rfl)
theorem dX9_readsBann_78 : decode cX9_readsBann 78 = .ok (.ireturn, 1) := dk_172 (dk_at dksX9_readsBann_3 8 rfl rfl)
theorem dX9_readsBann_79 : decode cX9_readsBann 79 = .ok (.aload_n 0, 1) := dk_42 (dk_at dksX9_readsBann_3 9 rfl rfl)
theorem dX9_readsBann_80 : decode cX9_readsBann 80 = .ok (.getfield 68, 3) := dk_180 0 68 (dk_at dksX9_readsBann_3 10 rfl rfl)
theorem dX9_readsBann_83 : decode cX9_readsBann 83 = .ok (.iload_n 1, 1) := dk_27 (dk_at dksX9_readsBann_3 13 rfl rfl)
theorem dX9_readsBann_84 : decode cX9_readsBann 84 = .ok (.aload_n 0, 1) := dk_42 (dk_at dksX9_readsBann_3 14 rfl rfl)
theorem dX9_readsBann_85 : decode cX9_readsBann 85 = .ok (.getfield 355, 3) := dk_180 1 99 (dk_at dksX9_readsBann_3 15 rfl rfl)
theorem dX9_readsBann_88 : decode cX9_readsBann 88 = .ok (.iastore, 1) := dk_79 (dk_at dksX9_readsBann_3 18 rfl rfl)
theorem dX9_readsBann_89 : decode cX9_readsBann 89 = .ok (.aload_n 0, 1) := dk_42 (dk_at dksX9_readsBann_3 19 rfl rfl)
theorem dX9_readsBann_90 : decode cX9_readsBann 90 = .ok (.invokevirtual 290, 3) := dk_182 1 34 (dk_at dksX9_readsBann_3 20 rfl rfl)
theorem dX9_readsBann_93 : decode cX9_readsBann 93 = .ok (.aload_n 0, 1) := dk_42 (dk_at dksX9_readsBann_3 23 rfl rfl)
theorem dX9_readsBann_94 : decode cX9_readsBann 94 = .ok (.getfield 13, 3) := dk_180 0 13 (dk_at dksX9_readsBann_4 0 rfl rfl)
theorem dX9_readsBann_97 : decode cX9_readsBann 97 = .ok (.bipush 11, 2) := dk_16 11 (dk_at dksX9_readsBann_4 3 rfl rfl)
theorem dX9_readsBann_99 : decode cX9_readsBann 99 = .ok (.dup2, 1) := dk_92 (dk_at dksX9_readsBann_4 5 rfl rfl)
theorem dX9_readsBann_100 : decode cX9_readsBann 100 = .ok (.iaload, 1) := dk_46 (dk_at dksX9_readsBann_4 6 rfl rfl)
theorem dX9_readsBann_101 : decode cX9_readsBann 101 = .ok (.iconst 1, 1) := dk_4 (dk_at dksX9_readsBann_4 7 rfl rfl)
theorem dX9_readsBann_102 : decode cX9_readsBann 102 = .ok (.iadd, 1) := dk_96 (dk_at dksX9_readsBann_4 8 rfl rfl)
theorem dX9_readsBann_103 : decode cX9_readsBann 103 = .ok (.iastore, 1) := dk_79 (dk_at dksX9_readsBann_4 9 rfl rfl)
theorem dX9_readsBann_104 : decode cX9_readsBann 104 = .ok (.aload_n 0, 1) := dk_42 (dk_at dksX9_readsBann_4 10 rfl rfl)
theorem dX9_readsBann_105 : decode cX9_readsBann 105 = .ok (.invokevirtual 386, 3) := dk_182 1 130 (dk_at dksX9_readsBann_4 11 rfl rfl)
theorem dX9_readsBann_108 : decode cX9_readsBann 108 = .ok (.ireturn, 1) := dk_172 (dk_at dksX9_readsBann_4 14 rfl rfl)
abbrev cX9_readsLaw : ByteArray := prog_35_method_40_code
def yX9_readsLaw : MethodName := ⟨RX9, "readsLaw", "(I)Z"⟩
def dkwX9_readsLaw_2 : List UInt8 := [182, 1, 145, 154, 0, 5, 3, 172, 42, 180, 0, 74, 5, 27, 96, 42, 180, 0, 251, 79, 4, 172]
abbrev dktX9_readsLaw_2 : List UInt8 := dkwX9_readsLaw_2 ++ []
def dkwX9_readsLaw_1 : List UInt8 := [172, 42, 27, 181, 0, 254, 42, 182, 1, 34, 42, 180, 0, 71, 5, 27, 96, 42, 180, 0, 251, 79, 42]
abbrev dktX9_readsLaw_1 : List UInt8 := dkwX9_readsLaw_1 ++ dktX9_readsLaw_2
def dkwX9_readsLaw_0 : List UInt8 := [42, 180, 0, 74, 5, 27, 96, 46, 42, 180, 0, 71, 5, 27, 96, 46, 164, 0, 9, 42, 6, 182, 1, 27]
abbrev dktX9_readsLaw_0 : List UInt8 := dkwX9_readsLaw_0 ++ dktX9_readsLaw_1
theorem dksX9_readsLaw_0 : cX9_readsLaw.data.toList.drop 0 = dktX9_readsLaw_0 := by decide +kernel
theorem dksX9_readsLaw_1 : cX9_readsLaw.data.toList.drop 24 = dktX9_readsLaw_1 := dk_seg dksX9_readsLaw_0 24 rfl rfl
theorem dksX9_readsLaw_2 : cX9_readsLaw.data.toList.drop 47 = dktX9_readsLaw_2 := dk_seg dksX9_readsLaw_1 23 rfl rfl
theorem dX9_readsLaw_0 : decode cX9_readsLaw 0 = .ok (.aload_n 0, 1) := dk_42 (dk_at dksX9_readsLaw_0 0 rfl rfl)
theorem dX9_readsLaw_1 : decode cX9_readsLaw 1 = .ok (.getfield 74, 3) := dk_180 0 74 (dk_at dksX9_readsLaw_0 1 rfl rfl)
theorem dX9_readsLaw_4 : decode cX9_readsLaw 4 = .ok (.iconst 2, 1) := dk_5 (dk_at dksX9_readsLaw_0 4 rfl rfl)
theorem dX9_readsLaw_5 : decode cX9_readsLaw 5 = .ok (.iload_n 1, 1) := dk_27 (dk_at dksX9_readsLaw_0 5 rfl rfl)
theorem dX9_readsLaw_6 : decode cX9_readsLaw 6 = .ok (.iadd, 1) := dk_96 (dk_at dksX9_readsLaw_0 6 rfl rfl)
theorem dX9_readsLaw_7 : decode cX9_readsLaw 7 = .ok (.iaload, 1) := dk_46 (dk_at dksX9_readsLaw_0 7 rfl rfl)
theorem dX9_readsLaw_8 : decode cX9_readsLaw 8 = .ok (.aload_n 0, 1) := dk_42 (dk_at dksX9_readsLaw_0 8 rfl rfl)
theorem dX9_readsLaw_9 : decode cX9_readsLaw 9 = .ok (.getfield 71, 3) := dk_180 0 71 (dk_at dksX9_readsLaw_0 9 rfl rfl)
theorem dX9_readsLaw_12 : decode cX9_readsLaw 12 = .ok (.iconst 2, 1) := dk_5 (dk_at dksX9_readsLaw_0 12 rfl rfl)
theorem dX9_readsLaw_13 : decode cX9_readsLaw 13 = .ok (.iload_n 1, 1) := dk_27 (dk_at dksX9_readsLaw_0 13 rfl rfl)
theorem dX9_readsLaw_14 : decode cX9_readsLaw 14 = .ok (.iadd, 1) := dk_96 (dk_at dksX9_readsLaw_0 14 rfl rfl)
theorem dX9_readsLaw_15 : decode cX9_readsLaw 15 = .ok (.iaload, 1) := dk_46 (dk_at dksX9_readsLaw_0 15 rfl rfl)
theorem dX9_readsLaw_16 : decode cX9_readsLaw 16 = .ok (.if_icmp .le 9, 3) := dk_164 0 9 (dk_at dksX9_readsLaw_0 16 rfl rfl)
theorem dX9_readsLaw_19 : decode cX9_readsLaw 19 = .ok (.aload_n 0, 1) := dk_42 (dk_at dksX9_readsLaw_0 19 rfl rfl)
theorem dX9_readsLaw_20 : decode cX9_readsLaw 20 = .ok (.iconst 3, 1) := dk_6 (dk_at dksX9_readsLaw_0 20 rfl rfl)
theorem dX9_readsLaw_21 : decode cX9_readsLaw 21 = .ok (.invokevirtual 283, 3) := dk_182 1 27 (dk_at dksX9_readsLaw_0 21 rfl rfl)
theorem dX9_readsLaw_24 : decode cX9_readsLaw 24 = .ok (.ireturn, 1) := dk_172 (dk_at dksX9_readsLaw_1 0 rfl rfl)
theorem dX9_readsLaw_25 : decode cX9_readsLaw 25 = .ok (.aload_n 0, 1) := dk_42 (dk_at dksX9_readsLaw_1 1 rfl rfl)
theorem dX9_readsLaw_26 : decode cX9_readsLaw 26 = .ok (.iload_n 1, 1) := dk_27 (dk_at dksX9_readsLaw_1 2 rfl rfl)
theorem dX9_readsLaw_27 : decode cX9_readsLaw 27 = .ok (.putfield 254, 3) := dk_181 0 254 (dk_at dksX9_readsLaw_1 3 rfl rfl)
theorem dX9_readsLaw_30 : decode cX9_readsLaw 30 = .ok (.aload_n 0, 1) := dk_42 (dk_at dksX9_readsLaw_1 6 rfl rfl)
theorem dX9_readsLaw_31 : decode cX9_readsLaw 31 = .ok (.invokevirtual 290, 3) := dk_182 1 34 (dk_at dksX9_readsLaw_1 7 rfl rfl)
theorem dX9_readsLaw_34 : decode cX9_readsLaw 34 = .ok (.aload_n 0, 1) := dk_42 (dk_at dksX9_readsLaw_1 10 rfl rfl)
theorem dX9_readsLaw_35 : decode cX9_readsLaw 35 = .ok (.getfield 71, 3) := dk_180 0 71 (dk_at dksX9_readsLaw_1 11 rfl rfl)
theorem dX9_readsLaw_38 : decode cX9_readsLaw 38 = .ok (.iconst 2, 1) := dk_5 (dk_at dksX9_readsLaw_1 14 rfl rfl)
theorem dX9_readsLaw_39 : decode cX9_readsLaw 39 = .ok (.iload_n 1, 1) := dk_27 (dk_at dksX9_readsLaw_1 15 rfl rfl)
theorem dX9_readsLaw_40 : decode cX9_readsLaw 40 = .ok (.iadd, 1) := dk_96 (dk_at dksX9_readsLaw_1 16 rfl rfl)
theorem dX9_readsLaw_41 : decode cX9_readsLaw 41 = .ok (.aload_n 0, 1) := dk_42 (dk_at dksX9_readsLaw_1 17 rfl rfl)
theorem dX9_readsLaw_42 : decode cX9_readsLaw 42 = .ok (.getfield 251, 3) := dk_180 0 251 (dk_at dksX9_readsLaw_1 18 rfl rfl)
theorem dX9_readsLaw_45 : decode cX9_readsLaw 45 = .ok (.iastore, 1) := dk_79 (dk_at dksX9_readsLaw_1 21 rfl rfl)
theorem dX9_readsLaw_46 : decode cX9_readsLaw 46 = .ok (.aload_n 0, 1) := dk_42 (dk_at dksX9_readsLaw_1 22 rfl rfl)
theorem dX9_readsLaw_47 : decode cX9_readsLaw 47 = .ok (.invokevirtual 401, 3) := dk_182 1 145 (dk_at dksX9_readsLaw_2 0 rfl rfl)
theorem dX9_readsLaw_50 : decode cX9_readsLaw 50 = .ok (.ifCond .ne 5, 3) := dk_154 0 5 (dk_at dksX9_readsLaw_2 3 rfl rfl)
theorem dX9_readsLaw_53 : decode cX9_readsLaw 53 = .ok (.iconst 0, 1) := dk_3 (dk_at dksX9_readsLaw_2 6 rfl rfl)
theorem dX9_readsLaw_54 : decode cX9_readsLaw 54 = .ok (.ireturn, 1) := dk_172 (dk_at dksX9_readsLaw_2 7 rfl rfl)
theorem dX9_readsLaw_55 : decode cX9_readsLaw 55 = .ok (.aload_n 0, 1) := dk_42 (dk_at dksX9_readsLaw_2 8 rfl rfl)
theorem dX9_readsLaw_56 : decode cX9_readsLaw 56 = .ok (.getfield 74, 3) := dk_180 0 74 (dk_at dksX9_readsLaw_2 9 rfl rfl)
theorem dX9_readsLaw_59 : decode cX9_readsLaw 59 = .ok (.iconst 2, 1) := dk_5 (dk_at dksX9_readsLaw_2 12 rfl rfl)
theorem dX9_readsLaw_60 : decode cX9_readsLaw 60 = .ok (.iload_n 1, 1) := dk_27 (dk_at dksX9_readsLaw_2 13 rfl rfl)
theorem dX9_readsLaw_61 : decode cX9_readsLaw 61 = .ok (.iadd, 1) := dk_96 (dk_at dksX9_readsLaw_2 14 rfl rfl)
theorem dX9_readsLaw_62 : decode cX9_readsLaw 62 = .ok (.aload_n 0, 1) := dk_42 (dk_at dksX9_readsLaw_2 15 rfl rfl)
theorem dX9_readsLaw_63 : decode cX9_readsLaw 63 = .ok (.getfield 251, 3) := dk_180 0 251 (dk_at dksX9_readsLaw_2 16 rfl rfl)
theorem dX9_readsLaw_66 : decode cX9_readsLaw 66 = .ok (.iastore, 1) := dk_79 (dk_at dksX9_readsLaw_2 19 rfl rfl)
theorem dX9_readsLaw_67 : decode cX9_readsLaw 67 = .ok (.iconst 1, 1) := dk_4 (dk_at dksX9_readsLaw_2 20 rfl rfl)
theorem dX9_readsLaw_68 : decode cX9_readsLaw 68 = .ok (.ireturn, 1) := dk_172 (dk_at dksX9_readsLaw_2 21 rfl rfl)
abbrev cX9_reads : ByteArray := prog_35_method_15_code
def yX9_reads : MethodName := ⟨RX9, "reads", "()Z"⟩
def dkwX9_reads_18 : List UInt8 := [182, 1, 27, 172, 42, 182, 1, 34, 167, 254, 95]
abbrev dktX9_reads_18 : List UInt8 := dkwX9_reads_18 ++ []
def dkwX9_reads_17 : List UInt8 := [167, 255, 239, 27, 154, 0, 18, 42, 16, 59, 182, 1, 23, 153, 0, 9, 42, 182, 1, 34, 4, 172, 42, 4]
abbrev dktX9_reads_17 : List UInt8 := dkwX9_reads_17 ++ dktX9_reads_18
def dkwX9_reads_16 : List UInt8 := [182, 1, 30, 132, 1, 255, 27, 158, 0, 44, 42, 180, 0, 80, 27, 46, 4, 160, 0, 34, 132, 1, 255]
abbrev dktX9_reads_16 : List UInt8 := dkwX9_reads_16 ++ dktX9_reads_17
def dkwX9_reads_15 : List UInt8 := [27, 3, 84, 4, 61, 167, 0, 70, 42, 16, 41, 182, 1, 23, 153, 0, 36, 27, 158, 0, 32, 42, 16, 29]
abbrev dktX9_reads_15 : List UInt8 := dkwX9_reads_15 ++ dktX9_reads_16
def dkwX9_reads_14 : List UInt8 := [42, 20, 1, 37, 182, 1, 19, 153, 0, 8, 16, 26, 167, 0, 5, 16, 27, 182, 1, 30, 42, 180, 0, 83]
abbrev dktX9_reads_14 : List UInt8 := dkwX9_reads_14 ++ dktX9_reads_15
def dkwX9_reads_13 : List UInt8 := [167, 0, 123, 42, 20, 1, 37, 182, 1, 19, 154, 0, 13, 42, 20, 1, 39, 182, 1, 19, 153, 0, 36, 42]
abbrev dktX9_reads_13 : List UInt8 := dkwX9_reads_13 ++ dktX9_reads_14
def dkwX9_reads_12 : List UInt8 := [153, 0, 8, 16, 24, 167, 0, 5, 16, 25, 182, 1, 30, 42, 180, 0, 83, 27, 4, 84, 4, 61]
abbrev dktX9_reads_12 : List UInt8 := dkwX9_reads_12 ++ dktX9_reads_13
def dkwX9_reads_11 : List UInt8 := [16, 61, 182, 1, 23, 153, 0, 44, 42, 180, 0, 83, 27, 51, 154, 0, 35, 42, 42, 16, 60, 182, 1, 23]
abbrev dktX9_reads_11 : List UInt8 := dkwX9_reads_11 ++ dktX9_reads_12
def dkwX9_reads_10 : List UInt8 := [167, 0, 5, 16, 22, 182, 1, 30, 4, 61, 167, 0, 182, 42, 16, 60, 182, 1, 23, 154, 0, 12, 42]
abbrev dktX9_reads_10 : List UInt8 := dkwX9_reads_10 ++ dktX9_reads_11
def dkwX9_reads_9 : List UInt8 := [16, 43, 182, 1, 23, 153, 0, 8, 16, 20, 167, 0, 19, 42, 16, 45, 182, 1, 23, 153, 0, 8, 16, 21]
abbrev dktX9_reads_9 : List UInt8 := dkwX9_reads_9 ++ dktX9_reads_10
def dkwX9_reads_8 : List UInt8 := [154, 0, 21, 42, 16, 45, 182, 1, 23, 154, 0, 12, 42, 16, 42, 182, 1, 23, 153, 0, 42, 42, 42]
abbrev dktX9_reads_8 : List UInt8 := dkwX9_reads_8 ++ dktX9_reads_9
def dkwX9_reads_7 : List UInt8 := [160, 0, 9, 132, 1, 255, 167, 255, 239, 42, 182, 1, 34, 167, 255, 91, 42, 16, 43, 182, 1, 23]
abbrev dktX9_reads_7 : List UInt8 := dkwX9_reads_7 ++ dktX9_reads_8
def dkwX9_reads_6 : List UInt8 := [16, 100, 42, 180, 0, 234, 96, 182, 1, 30, 3, 61, 27, 158, 0, 19, 42, 180, 0, 80, 27, 46, 4]
abbrev dktX9_reads_6 : List UInt8 := dkwX9_reads_6 ++ dktX9_reads_7
def dkwX9_reads_5 : List UInt8 := [167, 0, 4, 5, 79, 42, 180, 0, 83, 27, 3, 84, 167, 0, 44, 42, 29, 158, 0, 7, 29, 167, 0, 10]
abbrev dktX9_reads_5 : List UInt8 := dkwX9_reads_5 ++ dktX9_reads_6
def dkwX9_reads_4 : List UInt8 := [167, 0, 5, 16, 28, 182, 1, 30, 132, 1, 1, 42, 180, 0, 80, 27, 21, 4, 153, 0, 7, 4]
abbrev dktX9_reads_4 : List UInt8 := dkwX9_reads_4 ++ dktX9_reads_5
def dkwX9_reads_3 : List UInt8 := [182, 1, 27, 172, 21, 4, 154, 0, 8, 21, 5, 153, 0, 48, 42, 21, 4, 153, 0, 8, 16, 30]
abbrev dktX9_reads_3 : List UInt8 := dkwX9_reads_3 ++ dktX9_reads_4
def dkwX9_reads_2 : List UInt8 := [154, 0, 17, 42, 180, 0, 237, 5, 159, 0, 9, 42, 4, 182, 1, 27, 172, 27, 8, 160, 0, 9, 42, 8]
abbrev dktX9_reads_2 : List UInt8 := dkwX9_reads_2 ++ dktX9_reads_3
def dkwX9_reads_1 : List UInt8 := [182, 1, 19, 54, 4, 42, 16, 40, 182, 1, 23, 54, 5, 29, 154, 0, 27, 21, 4, 154, 0, 22, 21, 5]
abbrev dktX9_reads_1 : List UInt8 := dkwX9_reads_1 ++ dktX9_reads_2
def dkwX9_reads_0 : List UInt8 := [3, 60, 4, 61, 42, 180, 0, 83, 3, 3, 84, 28, 153, 0, 167, 42, 182, 1, 13, 62, 42, 20, 1, 17]
abbrev dktX9_reads_0 : List UInt8 := dkwX9_reads_0 ++ dktX9_reads_1
theorem dksX9_reads_0 : cX9_reads.data.toList.drop 0 = dktX9_reads_0 := by decide +kernel
theorem dksX9_reads_1 : cX9_reads.data.toList.drop 24 = dktX9_reads_1 := dk_seg dksX9_reads_0 24 rfl rfl
theorem dksX9_reads_2 : cX9_reads.data.toList.drop 48 = dktX9_reads_2 := dk_seg dksX9_reads_1 24 rfl rfl
theorem dksX9_reads_3 : cX9_reads.data.toList.drop 72 = dktX9_reads_3 := dk_seg dksX9_reads_2 24 rfl rfl
theorem dksX9_reads_4 : cX9_reads.data.toList.drop 94 = dktX9_reads_4 := dk_seg dksX9_reads_3 22 rfl rfl
theorem dksX9_reads_5 : cX9_reads.data.toList.drop 116 = dktX9_reads_5 := dk_seg dksX9_reads_4 22 rfl rfl
theorem dksX9_reads_6 : cX9_reads.data.toList.drop 140 = dktX9_reads_6 := dk_seg dksX9_reads_5 24 rfl rfl
theorem dksX9_reads_7 : cX9_reads.data.toList.drop 163 = dktX9_reads_7 := dk_seg dksX9_reads_6 23 rfl rfl
theorem dksX9_reads_8 : cX9_reads.data.toList.drop 185 = dktX9_reads_8 := dk_seg dksX9_reads_7 22 rfl rfl
theorem dksX9_reads_9 : cX9_reads.data.toList.drop 208 = dktX9_reads_9 := dk_seg dksX9_reads_8 23 rfl rfl
theorem dksX9_reads_10 : cX9_reads.data.toList.drop 232 = dktX9_reads_10 := dk_seg dksX9_reads_9 24 rfl rfl
theorem dksX9_reads_11 : cX9_reads.data.toList.drop 255 = dktX9_reads_11 := dk_seg dksX9_reads_10 23 rfl rfl
theorem dksX9_reads_12 : cX9_reads.data.toList.drop 279 = dktX9_reads_12 := dk_seg dksX9_reads_11 24 rfl rfl
theorem dksX9_reads_13 : cX9_reads.data.toList.drop 301 = dktX9_reads_13 := dk_seg dksX9_reads_12 22 rfl rfl
theorem dksX9_reads_14 : cX9_reads.data.toList.drop 325 = dktX9_reads_14 := dk_seg dksX9_reads_13 24 rfl rfl
theorem dksX9_reads_15 : cX9_reads.data.toList.drop 349 = dktX9_reads_15 := dk_seg dksX9_reads_14 24 rfl rfl
theorem dksX9_reads_16 : cX9_reads.data.toList.drop 373 = dktX9_reads_16 := dk_seg dksX9_reads_15 24 rfl rfl
theorem dksX9_reads_17 : cX9_reads.data.toList.drop 396 = dktX9_reads_17 := dk_seg dksX9_reads_16 23 rfl rfl
theorem dksX9_reads_18 : cX9_reads.data.toList.drop 420 = dktX9_reads_18 := dk_seg dksX9_reads_17 24 rfl rfl
theorem dX9_reads_0 : decode cX9_reads 0 = .ok (.iconst 0, 1) := dk_3 (dk_at dksX9_reads_0 0 rfl rfl)
theorem dX9_reads_1 : decode cX9_reads 1 = .ok (.istore_n 1, 1) := dk_60 (dk_at dksX9_reads_0 1 rfl rfl)
theorem dX9_reads_2 : decode cX9_reads 2 = .ok (.iconst 1, 1) := dk_4 (dk_at dksX9_reads_0 2 rfl rfl)
theorem dX9_reads_3 : decode cX9_reads 3 = .ok (.istore_n 2, 1) := dk_61 (dk_at dksX9_reads_0 3 rfl rfl)
theorem dX9_reads_4 : decode cX9_reads 4 = .ok (.aload_n 0, 1) := dk_42 (dk_at dksX9_reads_0 4 rfl rfl)
theorem dX9_reads_5 : decode cX9_reads 5 = .ok (.getfield 83, 3) := dk_180 0 83 (dk_at dksX9_reads_0 5 rfl rfl)
theorem dX9_reads_8 : decode cX9_reads 8 = .ok (.iconst 0, 1) := dk_3 (dk_at dksX9_reads_0 8 rfl rfl)
theorem dX9_reads_9 : decode cX9_reads 9 = .ok (.iconst 0, 1) := dk_3 (dk_at dksX9_reads_0 9 rfl rfl)
theorem dX9_reads_10 : decode cX9_reads 10 = .ok (.bastore, 1) := dk_84 (dk_at dksX9_reads_0 10 rfl rfl)
theorem dX9_reads_11 : decode cX9_reads 11 = .ok (.iload_n 2, 1) := dk_28 (dk_at dksX9_reads_0 11 rfl rfl)
theorem dX9_reads_12 : decode cX9_reads 12 = .ok (.ifCond .eq 167, 3) := dk_153 0 167 (dk_at dksX9_reads_0 12 rfl rfl)
theorem dX9_reads_15 : decode cX9_reads 15 = .ok (.aload_n 0, 1) := dk_42 (dk_at dksX9_reads_0 15 rfl rfl)
theorem dX9_reads_16 : decode cX9_reads 16 = .ok (.invokevirtual 269, 3) := dk_182 1 13 (dk_at dksX9_reads_0 16 rfl rfl)
theorem dX9_reads_19 : decode cX9_reads 19 = .ok (.istore_n 3, 1) := dk_62 (dk_at dksX9_reads_0 19 rfl rfl)
theorem dX9_reads_20 : decode cX9_reads 20 = .ok (.aload_n 0, 1) := dk_42 (dk_at dksX9_reads_0 20 rfl rfl)
theorem dX9_reads_21 : decode cX9_reads 21 = .ok (.ldc2_w 273, 3) := dk_20 1 17 (dk_at dksX9_reads_0 21 rfl rfl)
theorem dX9_reads_24 : decode cX9_reads 24 = .ok (.invokevirtual 275, 3) := dk_182 1 19 (dk_at dksX9_reads_1 0 rfl rfl)
theorem dX9_reads_27 : decode cX9_reads 27 = .ok (.istore 4, 2) := dk_54 4 (dk_at dksX9_reads_1 3 rfl rfl)
theorem dX9_reads_29 : decode cX9_reads 29 = .ok (.aload_n 0, 1) := dk_42 (dk_at dksX9_reads_1 5 rfl rfl)
theorem dX9_reads_30 : decode cX9_reads 30 = .ok (.bipush 40, 2) := dk_16 40 (dk_at dksX9_reads_1 6 rfl rfl)
theorem dX9_reads_32 : decode cX9_reads 32 = .ok (.invokevirtual 279, 3) := dk_182 1 23 (dk_at dksX9_reads_1 8 rfl rfl)
theorem dX9_reads_35 : decode cX9_reads 35 = .ok (.istore 5, 2) := dk_54 5 (dk_at dksX9_reads_1 11 rfl rfl)
theorem dX9_reads_37 : decode cX9_reads 37 = .ok (.iload_n 3, 1) := dk_29 (dk_at dksX9_reads_1 13 rfl rfl)
theorem dX9_reads_38 : decode cX9_reads 38 = .ok (.ifCond .ne 27, 3) := dk_154 0 27 (dk_at dksX9_reads_1 14 rfl rfl)
theorem dX9_reads_41 : decode cX9_reads 41 = .ok (.iload 4, 2) := dk_21 4 (dk_at dksX9_reads_1 17 rfl rfl)
theorem dX9_reads_43 : decode cX9_reads 43 = .ok (.ifCond .ne 22, 3) := dk_154 0 22 (dk_at dksX9_reads_1 19 rfl rfl)
theorem dX9_reads_46 : decode cX9_reads 46 = .ok (.iload 5, 2) := dk_21 5 (dk_at dksX9_reads_1 22 rfl rfl)
theorem dX9_reads_48 : decode cX9_reads 48 = .ok (.ifCond .ne 17, 3) := dk_154 0 17 (dk_at dksX9_reads_2 0 rfl rfl)
theorem dX9_reads_51 : decode cX9_reads 51 = .ok (.aload_n 0, 1) := dk_42 (dk_at dksX9_reads_2 3 rfl rfl)
theorem dX9_reads_52 : decode cX9_reads 52 = .ok (.getfield 237, 3) := dk_180 0 237 (dk_at dksX9_reads_2 4 rfl rfl)
theorem dX9_reads_55 : decode cX9_reads 55 = .ok (.iconst 2, 1) := dk_5 (dk_at dksX9_reads_2 7 rfl rfl)
theorem dX9_reads_56 : decode cX9_reads 56 = .ok (.if_icmp .eq 9, 3) := dk_159 0 9 (dk_at dksX9_reads_2 8 rfl rfl)
theorem dX9_reads_59 : decode cX9_reads 59 = .ok (.aload_n 0, 1) := dk_42 (dk_at dksX9_reads_2 11 rfl rfl)
theorem dX9_reads_60 : decode cX9_reads 60 = .ok (.iconst 1, 1) := dk_4 (dk_at dksX9_reads_2 12 rfl rfl)
theorem dX9_reads_61 : decode cX9_reads 61 = .ok (.invokevirtual 283, 3) := dk_182 1 27 (dk_at dksX9_reads_2 13 rfl rfl)
theorem dX9_reads_64 : decode cX9_reads 64 = .ok (.ireturn, 1) := dk_172 (dk_at dksX9_reads_2 16 rfl rfl)
theorem dX9_reads_65 : decode cX9_reads 65 = .ok (.iload_n 1, 1) := dk_27 (dk_at dksX9_reads_2 17 rfl rfl)
theorem dX9_reads_66 : decode cX9_reads 66 = .ok (.iconst 5, 1) := dk_8 (dk_at dksX9_reads_2 18 rfl rfl)
theorem dX9_reads_67 : decode cX9_reads 67 = .ok (.if_icmp .ne 9, 3) := dk_160 0 9 (dk_at dksX9_reads_2 19 rfl rfl)
theorem dX9_reads_70 : decode cX9_reads 70 = .ok (.aload_n 0, 1) := dk_42 (dk_at dksX9_reads_2 22 rfl rfl)
theorem dX9_reads_71 : decode cX9_reads 71 = .ok (.iconst 5, 1) := dk_8 (dk_at dksX9_reads_2 23 rfl rfl)
theorem dX9_reads_72 : decode cX9_reads 72 = .ok (.invokevirtual 283, 3) := dk_182 1 27 (dk_at dksX9_reads_3 0 rfl rfl)
theorem dX9_reads_75 : decode cX9_reads 75 = .ok (.ireturn, 1) := dk_172 (dk_at dksX9_reads_3 3 rfl rfl)
theorem dX9_reads_76 : decode cX9_reads 76 = .ok (.iload 4, 2) := dk_21 4 (dk_at dksX9_reads_3 4 rfl rfl)
theorem dX9_reads_78 : decode cX9_reads 78 = .ok (.ifCond .ne 8, 3) := dk_154 0 8 (dk_at dksX9_reads_3 6 rfl rfl)
theorem dX9_reads_81 : decode cX9_reads 81 = .ok (.iload 5, 2) := dk_21 5 (dk_at dksX9_reads_3 9 rfl rfl)
theorem dX9_reads_83 : decode cX9_reads 83 = .ok (.ifCond .eq 48, 3) := dk_153 0 48 (dk_at dksX9_reads_3 11 rfl rfl)
theorem dX9_reads_86 : decode cX9_reads 86 = .ok (.aload_n 0, 1) := dk_42 (dk_at dksX9_reads_3 14 rfl rfl)
theorem dX9_reads_87 : decode cX9_reads 87 = .ok (.iload 4, 2) := dk_21 4 (dk_at dksX9_reads_3 15 rfl rfl)
theorem dX9_reads_89 : decode cX9_reads 89 = .ok (.ifCond .eq 8, 3) := dk_153 0 8 (dk_at dksX9_reads_3 17 rfl rfl)
theorem dX9_reads_92 : decode cX9_reads 92 = .ok (.bipush 30, 2) := dk_16 30 (dk_at dksX9_reads_3 20 rfl rfl)
theorem dX9_reads_94 : decode cX9_reads 94 = .ok (.goto 5, 3) := dk_167 0 5 (dk_at dksX9_reads_4 0 rfl rfl)
theorem dX9_reads_97 : decode cX9_reads 97 = .ok (.bipush 28, 2) := dk_16 28 (dk_at dksX9_reads_4 3 rfl rfl)
theorem dX9_reads_99 : decode cX9_reads 99 = .ok (.invokevirtual 286, 3) := dk_182 1 30 (dk_at dksX9_reads_4 5 rfl rfl)
theorem dX9_reads_102 : decode cX9_reads 102 = .ok (.iinc 1 1, 3) := dk_132 1 1 (dk_at dksX9_reads_4 8 rfl rfl)
theorem dX9_reads_105 : decode cX9_reads 105 = .ok (.aload_n 0, 1) := dk_42 (dk_at dksX9_reads_4 11 rfl rfl)
theorem dX9_reads_106 : decode cX9_reads 106 = .ok (.getfield 80, 3) := dk_180 0 80 (dk_at dksX9_reads_4 12 rfl rfl)
theorem dX9_reads_109 : decode cX9_reads 109 = .ok (.iload_n 1, 1) := dk_27 (dk_at dksX9_reads_4 15 rfl rfl)
theorem dX9_reads_110 : decode cX9_reads 110 = .ok (.iload 4, 2) := dk_21 4 (dk_at dksX9_reads_4 16 rfl rfl)
theorem dX9_reads_112 : decode cX9_reads 112 = .ok (.ifCond .eq 7, 3) := dk_153 0 7 (dk_at dksX9_reads_4 18 rfl rfl)
theorem dX9_reads_115 : decode cX9_reads 115 = .ok (.iconst 1, 1) := dk_4 (dk_at dksX9_reads_4 21 rfl rfl)
theorem dX9_reads_116 : decode cX9_reads 116 = .ok (.goto 4, 3) := dk_167 0 4 (dk_at dksX9_reads_5 0 rfl rfl)
theorem dX9_reads_119 : decode cX9_reads 119 = .ok (.iconst 2, 1) := dk_5 (dk_at dksX9_reads_5 3 rfl rfl)
theorem dX9_reads_120 : decode cX9_reads 120 = .ok (.iastore, 1) := dk_79 (dk_at dksX9_reads_5 4 rfl rfl)
theorem dX9_reads_121 : decode cX9_reads 121 = .ok (.aload_n 0, 1) := dk_42 (dk_at dksX9_reads_5 5 rfl rfl)
theorem dX9_reads_122 : decode cX9_reads 122 = .ok (.getfield 83, 3) := dk_180 0 83 (dk_at dksX9_reads_5 6 rfl rfl)
theorem dX9_reads_125 : decode cX9_reads 125 = .ok (.iload_n 1, 1) := dk_27 (dk_at dksX9_reads_5 9 rfl rfl)
theorem dX9_reads_126 : decode cX9_reads 126 = .ok (.iconst 0, 1) := dk_3 (dk_at dksX9_reads_5 10 rfl rfl)
theorem dX9_reads_127 : decode cX9_reads 127 = .ok (.bastore, 1) := dk_84 (dk_at dksX9_reads_5 11 rfl rfl)
theorem dX9_reads_128 : decode cX9_reads 128 = .ok (.goto 44, 3) := dk_167 0 44 (dk_at dksX9_reads_5 12 rfl rfl)
theorem dX9_reads_131 : decode cX9_reads 131 = .ok (.aload_n 0, 1) := dk_42 (dk_at dksX9_reads_5 15 rfl rfl)
theorem dX9_reads_132 : decode cX9_reads 132 = .ok (.iload_n 3, 1) := dk_29 (dk_at dksX9_reads_5 16 rfl rfl)
theorem dX9_reads_133 : decode cX9_reads 133 = .ok (.ifCond .le 7, 3) := dk_158 0 7 (dk_at dksX9_reads_5 17 rfl rfl)
theorem dX9_reads_136 : decode cX9_reads 136 = .ok (.iload_n 3, 1) := dk_29 (dk_at dksX9_reads_5 20 rfl rfl)
theorem dX9_reads_137 : decode cX9_reads 137 = .ok (.goto 10, 3) := dk_167 0 10 (dk_at dksX9_reads_5 21 rfl rfl)
theorem dX9_reads_140 : decode cX9_reads 140 = .ok (.bipush 100, 2) := dk_16 100 (dk_at dksX9_reads_6 0 rfl rfl)
theorem dX9_reads_142 : decode cX9_reads 142 = .ok (.aload_n 0, 1) := dk_42 (dk_at dksX9_reads_6 2 rfl rfl)
theorem dX9_reads_143 : decode cX9_reads 143 = .ok (.getfield 234, 3) := dk_180 0 234 (dk_at dksX9_reads_6 3 rfl rfl)
theorem dX9_reads_146 : decode cX9_reads 146 = .ok (.iadd, 1) := dk_96 (dk_at dksX9_reads_6 6 rfl rfl)
theorem dX9_reads_147 : decode cX9_reads 147 = .ok (.invokevirtual 286, 3) := dk_182 1 30 (dk_at dksX9_reads_6 7 rfl rfl)
theorem dX9_reads_150 : decode cX9_reads 150 = .ok (.iconst 0, 1) := dk_3 (dk_at dksX9_reads_6 10 rfl rfl)
theorem dX9_reads_151 : decode cX9_reads 151 = .ok (.istore_n 2, 1) := dk_61 (dk_at dksX9_reads_6 11 rfl rfl)
theorem dX9_reads_152 : decode cX9_reads 152 = .ok (.iload_n 1, 1) := dk_27 (dk_at dksX9_reads_6 12 rfl rfl)
theorem dX9_reads_153 : decode cX9_reads 153 = .ok (.ifCond .le 19, 3) := dk_158 0 19 (dk_at dksX9_reads_6 13 rfl rfl)
theorem dX9_reads_156 : decode cX9_reads 156 = .ok (.aload_n 0, 1) := dk_42 (dk_at dksX9_reads_6 16 rfl rfl)
theorem dX9_reads_157 : decode cX9_reads 157 = .ok (.getfield 80, 3) := dk_180 0 80 (dk_at dksX9_reads_6 17 rfl rfl)
theorem dX9_reads_160 : decode cX9_reads 160 = .ok (.iload_n 1, 1) := dk_27 (dk_at dksX9_reads_6 20 rfl rfl)
theorem dX9_reads_161 : decode cX9_reads 161 = .ok (.iaload, 1) := dk_46 (dk_at dksX9_reads_6 21 rfl rfl)
theorem dX9_reads_162 : decode cX9_reads 162 = .ok (.iconst 1, 1) := dk_4 (dk_at dksX9_reads_6 22 rfl rfl)
theorem dX9_reads_163 : decode cX9_reads 163 = .ok (.if_icmp .ne 9, 3) := dk_160 0 9 (dk_at dksX9_reads_7 0 rfl rfl)
theorem dX9_reads_166 : decode cX9_reads 166 = .ok (.iinc 1 (-1), 3) := dk_132 1 255 (dk_at dksX9_reads_7 3 rfl rfl)
theorem dX9_reads_169 : decode cX9_reads 169 = .ok (.goto (-17), 3) := dk_167 255 239 (dk_at dksX9_reads_7 6 rfl rfl)
theorem dX9_reads_172 : decode cX9_reads 172 = .ok (.aload_n 0, 1) := dk_42 (dk_at dksX9_reads_7 9 rfl rfl)
theorem dX9_reads_173 : decode cX9_reads 173 = .ok (.invokevirtual 290, 3) := dk_182 1 34 (dk_at dksX9_reads_7 10 rfl rfl)
theorem dX9_reads_176 : decode cX9_reads 176 = .ok (.goto (-165), 3) := dk_167 255 91 (dk_at dksX9_reads_7 13 rfl rfl)
theorem dX9_reads_179 : decode cX9_reads 179 = .ok (.aload_n 0, 1) := dk_42 (dk_at dksX9_reads_7 16 rfl rfl)
theorem dX9_reads_180 : decode cX9_reads 180 = .ok (.bipush 43, 2) := dk_16 43 (dk_at dksX9_reads_7 17 rfl rfl)
theorem dX9_reads_182 : decode cX9_reads 182 = .ok (.invokevirtual 279, 3) := dk_182 1 23 (dk_at dksX9_reads_7 19 rfl rfl)
theorem dX9_reads_185 : decode cX9_reads 185 = .ok (.ifCond .ne 21, 3) := dk_154 0 21 (dk_at dksX9_reads_8 0 rfl rfl)
theorem dX9_reads_188 : decode cX9_reads 188 = .ok (.aload_n 0, 1) := dk_42 (dk_at dksX9_reads_8 3 rfl rfl)
theorem dX9_reads_189 : decode cX9_reads 189 = .ok (.bipush 45, 2) := dk_16 45 (dk_at dksX9_reads_8 4 rfl rfl)
theorem dX9_reads_191 : decode cX9_reads 191 = .ok (.invokevirtual 279, 3) := dk_182 1 23 (dk_at dksX9_reads_8 6 rfl rfl)
theorem dX9_reads_194 : decode cX9_reads 194 = .ok (.ifCond .ne 12, 3) := dk_154 0 12 (dk_at dksX9_reads_8 9 rfl rfl)
theorem dX9_reads_197 : decode cX9_reads 197 = .ok (.aload_n 0, 1) := dk_42 (dk_at dksX9_reads_8 12 rfl rfl)
theorem dX9_reads_198 : decode cX9_reads 198 = .ok (.bipush 42, 2) := dk_16 42 (dk_at dksX9_reads_8 13 rfl rfl)
theorem dX9_reads_200 : decode cX9_reads 200 = .ok (.invokevirtual 279, 3) := dk_182 1 23 (dk_at dksX9_reads_8 15 rfl rfl)
theorem dX9_reads_203 : decode cX9_reads 203 = .ok (.ifCond .eq 42, 3) := dk_153 0 42 (dk_at dksX9_reads_8 18 rfl rfl)
theorem dX9_reads_206 : decode cX9_reads 206 = .ok (.aload_n 0, 1) := dk_42 (dk_at dksX9_reads_8 21 rfl rfl)
theorem dX9_reads_207 : decode cX9_reads 207 = .ok (.aload_n 0, 1) := dk_42 (dk_at dksX9_reads_8 22 rfl rfl)
theorem dX9_reads_208 : decode cX9_reads 208 = .ok (.bipush 43, 2) := dk_16 43 (dk_at dksX9_reads_9 0 rfl rfl)
theorem dX9_reads_210 : decode cX9_reads 210 = .ok (.invokevirtual 279, 3) := dk_182 1 23 (dk_at dksX9_reads_9 2 rfl rfl)
theorem dX9_reads_213 : decode cX9_reads 213 = .ok (.ifCond .eq 8, 3) := dk_153 0 8 (dk_at dksX9_reads_9 5 rfl rfl)
theorem dX9_reads_216 : decode cX9_reads 216 = .ok (.bipush 20, 2) := dk_16 20 (dk_at dksX9_reads_9 8 rfl rfl)
theorem dX9_reads_218 : decode cX9_reads 218 = .ok (.goto 19, 3) := dk_167 0 19 (dk_at dksX9_reads_9 10 rfl rfl)
theorem dX9_reads_221 : decode cX9_reads 221 = .ok (.aload_n 0, 1) := dk_42 (dk_at dksX9_reads_9 13 rfl rfl)
theorem dX9_reads_222 : decode cX9_reads 222 = .ok (.bipush 45, 2) := dk_16 45 (dk_at dksX9_reads_9 14 rfl rfl)
theorem dX9_reads_224 : decode cX9_reads 224 = .ok (.invokevirtual 279, 3) := dk_182 1 23 (dk_at dksX9_reads_9 16 rfl rfl)
theorem dX9_reads_227 : decode cX9_reads 227 = .ok (.ifCond .eq 8, 3) := dk_153 0 8 (dk_at dksX9_reads_9 19 rfl rfl)
theorem dX9_reads_230 : decode cX9_reads 230 = .ok (.bipush 21, 2) := dk_16 21 (dk_at dksX9_reads_9 22 rfl rfl)
theorem dX9_reads_232 : decode cX9_reads 232 = .ok (.goto 5, 3) := dk_167 0 5 (dk_at dksX9_reads_10 0 rfl rfl)
theorem dX9_reads_235 : decode cX9_reads 235 = .ok (.bipush 22, 2) := dk_16 22 (dk_at dksX9_reads_10 3 rfl rfl)
theorem dX9_reads_237 : decode cX9_reads 237 = .ok (.invokevirtual 286, 3) := dk_182 1 30 (dk_at dksX9_reads_10 5 rfl rfl)
theorem dX9_reads_240 : decode cX9_reads 240 = .ok (.iconst 1, 1) := dk_4 (dk_at dksX9_reads_10 8 rfl rfl)
theorem dX9_reads_241 : decode cX9_reads 241 = .ok (.istore_n 2, 1) := dk_61 (dk_at dksX9_reads_10 9 rfl rfl)
theorem dX9_reads_242 : decode cX9_reads 242 = .ok (.goto 182, 3) := dk_167 0 182 (dk_at dksX9_reads_10 10 rfl rfl)
theorem dX9_reads_245 : decode cX9_reads 245 = .ok (.aload_n 0, 1) := dk_42 (dk_at dksX9_reads_10 13 rfl rfl)
theorem dX9_reads_246 : decode cX9_reads 246 = .ok (.bipush 60, 2) := dk_16 60 (dk_at dksX9_reads_10 14 rfl rfl)
theorem dX9_reads_248 : decode cX9_reads 248 = .ok (.invokevirtual 279, 3) := dk_182 1 23 (dk_at dksX9_reads_10 16 rfl rfl)
theorem dX9_reads_251 : decode cX9_reads 251 = .ok (.ifCond .ne 12, 3) := dk_154 0 12 (dk_at dksX9_reads_10 19 rfl rfl)
theorem dX9_reads_254 : decode cX9_reads 254 = .ok (.aload_n 0, 1) := dk_42 (dk_at dksX9_reads_10 22 rfl rfl)
theorem dX9_reads_255 : decode cX9_reads 255 = .ok (.bipush 61, 2) := dk_16 61 (dk_at dksX9_reads_11 0 rfl rfl)
theorem dX9_reads_257 : decode cX9_reads 257 = .ok (.invokevirtual 279, 3) := dk_182 1 23 (dk_at dksX9_reads_11 2 rfl rfl)
theorem dX9_reads_260 : decode cX9_reads 260 = .ok (.ifCond .eq 44, 3) := dk_153 0 44 (dk_at dksX9_reads_11 5 rfl rfl)
theorem dX9_reads_263 : decode cX9_reads 263 = .ok (.aload_n 0, 1) := dk_42 (dk_at dksX9_reads_11 8 rfl rfl)
theorem dX9_reads_264 : decode cX9_reads 264 = .ok (.getfield 83, 3) := dk_180 0 83 (dk_at dksX9_reads_11 9 rfl rfl)
theorem dX9_reads_267 : decode cX9_reads 267 = .ok (.iload_n 1, 1) := dk_27 (dk_at dksX9_reads_11 12 rfl rfl)
theorem dX9_reads_268 : decode cX9_reads 268 = .ok (.baload, 1) := dk_51 (dk_at dksX9_reads_11 13 rfl rfl)
theorem dX9_reads_269 : decode cX9_reads 269 = .ok (.ifCond .ne 35, 3) := dk_154 0 35 (dk_at dksX9_reads_11 14 rfl rfl)
theorem dX9_reads_272 : decode cX9_reads 272 = .ok (.aload_n 0, 1) := dk_42 (dk_at dksX9_reads_11 17 rfl rfl)
theorem dX9_reads_273 : decode cX9_reads 273 = .ok (.aload_n 0, 1) := dk_42 (dk_at dksX9_reads_11 18 rfl rfl)
theorem dX9_reads_274 : decode cX9_reads 274 = .ok (.bipush 60, 2) := dk_16 60 (dk_at dksX9_reads_11 19 rfl rfl)
theorem dX9_reads_276 : decode cX9_reads 276 = .ok (.invokevirtual 279, 3) := dk_182 1 23 (dk_at dksX9_reads_11 21 rfl rfl)
theorem dX9_reads_279 : decode cX9_reads 279 = .ok (.ifCond .eq 8, 3) := dk_153 0 8 (dk_at dksX9_reads_12 0 rfl rfl)
theorem dX9_reads_282 : decode cX9_reads 282 = .ok (.bipush 24, 2) := dk_16 24 (dk_at dksX9_reads_12 3 rfl rfl)
theorem dX9_reads_284 : decode cX9_reads 284 = .ok (.goto 5, 3) := dk_167 0 5 (dk_at dksX9_reads_12 5 rfl rfl)
theorem dX9_reads_287 : decode cX9_reads 287 = .ok (.bipush 25, 2) := dk_16 25 (dk_at dksX9_reads_12 8 rfl rfl)
theorem dX9_reads_289 : decode cX9_reads 289 = .ok (.invokevirtual 286, 3) := dk_182 1 30 (dk_at dksX9_reads_12 10 rfl rfl)
theorem dX9_reads_292 : decode cX9_reads 292 = .ok (.aload_n 0, 1) := dk_42 (dk_at dksX9_reads_12 13 rfl rfl)
theorem dX9_reads_293 : decode cX9_reads 293 = .ok (.getfield 83, 3) := dk_180 0 83 (dk_at dksX9_reads_12 14 rfl rfl)
theorem dX9_reads_296 : decode cX9_reads 296 = .ok (.iload_n 1, 1) := dk_27 (dk_at dksX9_reads_12 17 rfl rfl)
theorem dX9_reads_297 : decode cX9_reads 297 = .ok (.iconst 1, 1) := dk_4 (dk_at dksX9_reads_12 18 rfl rfl)
theorem dX9_reads_298 : decode cX9_reads 298 = .ok (.bastore, 1) := dk_84 (dk_at dksX9_reads_12 19 rfl rfl)
theorem dX9_reads_299 : decode cX9_reads 299 = .ok (.iconst 1, 1) := dk_4 (dk_at dksX9_reads_12 20 rfl rfl)
theorem dX9_reads_300 : decode cX9_reads 300 = .ok (.istore_n 2, 1) := dk_61 (dk_at dksX9_reads_12 21 rfl rfl)
theorem dX9_reads_301 : decode cX9_reads 301 = .ok (.goto 123, 3) := dk_167 0 123 (dk_at dksX9_reads_13 0 rfl rfl)
theorem dX9_reads_304 : decode cX9_reads 304 = .ok (.aload_n 0, 1) := dk_42 (dk_at dksX9_reads_13 3 rfl rfl)
theorem dX9_reads_305 : decode cX9_reads 305 = .ok (.ldc2_w 293, 3) := dk_20 1 37 (dk_at dksX9_reads_13 4 rfl rfl)
theorem dX9_reads_308 : decode cX9_reads 308 = .ok (.invokevirtual 275, 3) := dk_182 1 19 (dk_at dksX9_reads_13 7 rfl rfl)
theorem dX9_reads_311 : decode cX9_reads 311 = .ok (.ifCond .ne 13, 3) := dk_154 0 13 (dk_at dksX9_reads_13 10 rfl rfl)
theorem dX9_reads_314 : decode cX9_reads 314 = .ok (.aload_n 0, 1) := dk_42 (dk_at dksX9_reads_13 13 rfl rfl)
theorem dX9_reads_315 : decode cX9_reads 315 = .ok (.ldc2_w 295, 3) := dk_20 1 39 (dk_at dksX9_reads_13 14 rfl rfl)
theorem dX9_reads_318 : decode cX9_reads 318 = .ok (.invokevirtual 275, 3) := dk_182 1 19 (dk_at dksX9_reads_13 17 rfl rfl)
theorem dX9_reads_321 : decode cX9_reads 321 = .ok (.ifCond .eq 36, 3) := dk_153 0 36 (dk_at dksX9_reads_13 20 rfl rfl)
theorem dX9_reads_324 : decode cX9_reads 324 = .ok (.aload_n 0, 1) := dk_42 (dk_at dksX9_reads_13 23 rfl rfl)
theorem dX9_reads_325 : decode cX9_reads 325 = .ok (.aload_n 0, 1) := dk_42 (dk_at dksX9_reads_14 0 rfl rfl)
theorem dX9_reads_326 : decode cX9_reads 326 = .ok (.ldc2_w 293, 3) := dk_20 1 37 (dk_at dksX9_reads_14 1 rfl rfl)
theorem dX9_reads_329 : decode cX9_reads 329 = .ok (.invokevirtual 275, 3) := dk_182 1 19 (dk_at dksX9_reads_14 4 rfl rfl)
theorem dX9_reads_332 : decode cX9_reads 332 = .ok (.ifCond .eq 8, 3) := dk_153 0 8 (dk_at dksX9_reads_14 7 rfl rfl)
theorem dX9_reads_335 : decode cX9_reads 335 = .ok (.bipush 26, 2) := dk_16 26 (dk_at dksX9_reads_14 10 rfl rfl)
theorem dX9_reads_337 : decode cX9_reads 337 = .ok (.goto 5, 3) := dk_167 0 5 (dk_at dksX9_reads_14 12 rfl rfl)
theorem dX9_reads_340 : decode cX9_reads 340 = .ok (.bipush 27, 2) := dk_16 27 (dk_at dksX9_reads_14 15 rfl rfl)
theorem dX9_reads_342 : decode cX9_reads 342 = .ok (.invokevirtual 286, 3) := dk_182 1 30 (dk_at dksX9_reads_14 17 rfl rfl)
theorem dX9_reads_345 : decode cX9_reads 345 = .ok (.aload_n 0, 1) := dk_42 (dk_at dksX9_reads_14 20 rfl rfl)
theorem dX9_reads_346 : decode cX9_reads 346 = .ok (.getfield 83, 3) := dk_180 0 83 (dk_at dksX9_reads_14 21 rfl rfl)
theorem dX9_reads_349 : decode cX9_reads 349 = .ok (.iload_n 1, 1) := dk_27 (dk_at dksX9_reads_15 0 rfl rfl)
theorem dX9_reads_350 : decode cX9_reads 350 = .ok (.iconst 0, 1) := dk_3 (dk_at dksX9_reads_15 1 rfl rfl)
theorem dX9_reads_351 : decode cX9_reads 351 = .ok (.bastore, 1) := dk_84 (dk_at dksX9_reads_15 2 rfl rfl)
theorem dX9_reads_352 : decode cX9_reads 352 = .ok (.iconst 1, 1) := dk_4 (dk_at dksX9_reads_15 3 rfl rfl)
theorem dX9_reads_353 : decode cX9_reads 353 = .ok (.istore_n 2, 1) := dk_61 (dk_at dksX9_reads_15 4 rfl rfl)
theorem dX9_reads_354 : decode cX9_reads 354 = .ok (.goto 70, 3) := dk_167 0 70 (dk_at dksX9_reads_15 5 rfl rfl)
theorem dX9_reads_357 : decode cX9_reads 357 = .ok (.aload_n 0, 1) := dk_42 (dk_at dksX9_reads_15 8 rfl rfl)
theorem dX9_reads_358 : decode cX9_reads 358 = .ok (.bipush 41, 2) := dk_16 41 (dk_at dksX9_reads_15 9 rfl rfl)
theorem dX9_reads_360 : decode cX9_reads 360 = .ok (.invokevirtual 279, 3) := dk_182 1 23 (dk_at dksX9_reads_15 11 rfl rfl)
theorem dX9_reads_363 : decode cX9_reads 363 = .ok (.ifCond .eq 36, 3) := dk_153 0 36 (dk_at dksX9_reads_15 14 rfl rfl)
theorem dX9_reads_366 : decode cX9_reads 366 = .ok (.iload_n 1, 1) := dk_27 (dk_at dksX9_reads_15 17 rfl rfl)
theorem dX9_reads_367 : decode cX9_reads 367 = .ok (.ifCond .le 32, 3) := dk_158 0 32 (dk_at dksX9_reads_15 18 rfl rfl)
theorem dX9_reads_370 : decode cX9_reads 370 = .ok (.aload_n 0, 1) := dk_42 (dk_at dksX9_reads_15 21 rfl rfl)
theorem dX9_reads_371 : decode cX9_reads 371 = .ok (.bipush 29, 2) := dk_16 29 (dk_at dksX9_reads_15 22 rfl rfl)
theorem dX9_reads_373 : decode cX9_reads 373 = .ok (.invokevirtual 286, 3) := dk_182 1 30 (dk_at dksX9_reads_16 0 rfl rfl)
theorem dX9_reads_376 : decode cX9_reads 376 = .ok (.iinc 1 (-1), 3) := dk_132 1 255 (dk_at dksX9_reads_16 3 rfl rfl)
theorem dX9_reads_379 : decode cX9_reads 379 = .ok (.iload_n 1, 1) := dk_27 (dk_at dksX9_reads_16 6 rfl rfl)
theorem dX9_reads_380 : decode cX9_reads 380 = .ok (.ifCond .le 44, 3) := dk_158 0 44 (dk_at dksX9_reads_16 7 rfl rfl)
theorem dX9_reads_383 : decode cX9_reads 383 = .ok (.aload_n 0, 1) := dk_42 (dk_at dksX9_reads_16 10 rfl rfl)
theorem dX9_reads_384 : decode cX9_reads 384 = .ok (.getfield 80, 3) := dk_180 0 80 (dk_at dksX9_reads_16 11 rfl rfl)
theorem dX9_reads_387 : decode cX9_reads 387 = .ok (.iload_n 1, 1) := dk_27 (dk_at dksX9_reads_16 14 rfl rfl)
theorem dX9_reads_388 : decode cX9_reads 388 = .ok (.iaload, 1) := dk_46 (dk_at dksX9_reads_16 15 rfl rfl)
theorem dX9_reads_389 : decode cX9_reads 389 = .ok (.iconst 1, 1) := dk_4 (dk_at dksX9_reads_16 16 rfl rfl)
theorem dX9_reads_390 : decode cX9_reads 390 = .ok (.if_icmp .ne 34, 3) := dk_160 0 34 (dk_at dksX9_reads_16 17 rfl rfl)
theorem dX9_reads_393 : decode cX9_reads 393 = .ok (.iinc 1 (-1), 3) := dk_132 1 255 (dk_at dksX9_reads_16 20 rfl rfl)
theorem dX9_reads_396 : decode cX9_reads 396 = .ok (.goto (-17), 3) := dk_167 255 239 (dk_at dksX9_reads_17 0 rfl rfl)
theorem dX9_reads_399 : decode cX9_reads 399 = .ok (.iload_n 1, 1) := dk_27 (dk_at dksX9_reads_17 3 rfl rfl)
theorem dX9_reads_400 : decode cX9_reads 400 = .ok (.ifCond .ne 18, 3) := dk_154 0 18 (dk_at dksX9_reads_17 4 rfl rfl)
theorem dX9_reads_403 : decode cX9_reads 403 = .ok (.aload_n 0, 1) := dk_42 (dk_at dksX9_reads_17 7 rfl rfl)
theorem dX9_reads_404 : decode cX9_reads 404 = .ok (.bipush 59, 2) := dk_16 59 (dk_at dksX9_reads_17 8 rfl rfl)
theorem dX9_reads_406 : decode cX9_reads 406 = .ok (.invokevirtual 279, 3) := dk_182 1 23 (dk_at dksX9_reads_17 10 rfl rfl)
theorem dX9_reads_409 : decode cX9_reads 409 = .ok (.ifCond .eq 9, 3) := dk_153 0 9 (dk_at dksX9_reads_17 13 rfl rfl)
theorem dX9_reads_412 : decode cX9_reads 412 = .ok (.aload_n 0, 1) := dk_42 (dk_at dksX9_reads_17 16 rfl rfl)
theorem dX9_reads_413 : decode cX9_reads 413 = .ok (.invokevirtual 290, 3) := dk_182 1 34 (dk_at dksX9_reads_17 17 rfl rfl)
theorem dX9_reads_416 : decode cX9_reads 416 = .ok (.iconst 1, 1) := dk_4 (dk_at dksX9_reads_17 20 rfl rfl)
theorem dX9_reads_417 : decode cX9_reads 417 = .ok (.ireturn, 1) := dk_172 (dk_at dksX9_reads_17 21 rfl rfl)
theorem dX9_reads_418 : decode cX9_reads 418 = .ok (.aload_n 0, 1) := dk_42 (dk_at dksX9_reads_17 22 rfl rfl)
theorem dX9_reads_419 : decode cX9_reads 419 = .ok (.iconst 1, 1) := dk_4 (dk_at dksX9_reads_17 23 rfl rfl)
theorem dX9_reads_420 : decode cX9_reads 420 = .ok (.invokevirtual 283, 3) := dk_182 1 27 (dk_at dksX9_reads_18 0 rfl rfl)
theorem dX9_reads_423 : decode cX9_reads 423 = .ok (.ireturn, 1) := dk_172 (dk_at dksX9_reads_18 3 rfl rfl)
theorem dX9_reads_424 : decode cX9_reads 424 = .ok (.aload_n 0, 1) := dk_42 (dk_at dksX9_reads_18 4 rfl rfl)
theorem dX9_reads_425 : decode cX9_reads 425 = .ok (.invokevirtual 290, 3) := dk_182 1 34 (dk_at dksX9_reads_18 5 rfl rfl)
theorem dX9_reads_428 : decode cX9_reads 428 = .ok (.goto (-417), 3) := dk_167 254 95 (dk_at dksX9_reads_18 8 rfl rfl)
abbrev cX9_fact : ByteArray := prog_35_method_14_code
def yX9_fact : MethodName := ⟨RX9, "fact", "()I"⟩
def dkwX9_fact_4 : List UInt8 := [167, 0, 19, 42, 180, 0, 230, 20, 1, 11, 148, 154, 0, 7, 7, 167, 0, 4, 3, 172]
abbrev dktX9_fact_4 : List UInt8 := dkwX9_fact_4 ++ []
def dkwX9_fact_3 : List UInt8 := [20, 1, 7, 148, 154, 0, 7, 5, 167, 0, 34, 42, 180, 0, 230, 20, 1, 9, 148, 154, 0, 7, 6]
abbrev dktX9_fact_3 : List UInt8 := dkwX9_fact_3 ++ dktX9_fact_4
def dkwX9_fact_2 : List UInt8 := [167, 0, 4, 3, 172, 42, 180, 0, 230, 20, 1, 5, 148, 154, 0, 7, 4, 167, 0, 49, 42, 180, 0, 230]
abbrev dktX9_fact_2 : List UInt8 := dkwX9_fact_2 ++ dktX9_fact_3
def dkwX9_fact_1 : List UInt8 := [20, 1, 1, 148, 154, 0, 7, 8, 167, 0, 20, 42, 180, 0, 230, 20, 1, 3, 148, 154, 0, 8, 16, 6]
abbrev dktX9_fact_1 : List UInt8 := dkwX9_fact_1 ++ dktX9_fact_2
def dkwX9_fact_0 : List UInt8 := [42, 180, 0, 237, 4, 159, 0, 5, 3, 172, 42, 180, 0, 254, 4, 160, 0, 36, 42, 180, 0, 230]
abbrev dktX9_fact_0 : List UInt8 := dkwX9_fact_0 ++ dktX9_fact_1
theorem dksX9_fact_0 : cX9_fact.data.toList.drop 0 = dktX9_fact_0 := by decide +kernel
theorem dksX9_fact_1 : cX9_fact.data.toList.drop 22 = dktX9_fact_1 := dk_seg dksX9_fact_0 22 rfl rfl
theorem dksX9_fact_2 : cX9_fact.data.toList.drop 46 = dktX9_fact_2 := dk_seg dksX9_fact_1 24 rfl rfl
theorem dksX9_fact_3 : cX9_fact.data.toList.drop 70 = dktX9_fact_3 := dk_seg dksX9_fact_2 24 rfl rfl
theorem dksX9_fact_4 : cX9_fact.data.toList.drop 93 = dktX9_fact_4 := dk_seg dksX9_fact_3 23 rfl rfl
theorem dX9_fact_0 : decode cX9_fact 0 = .ok (.aload_n 0, 1) := dk_42 (dk_at dksX9_fact_0 0 rfl rfl)
theorem dX9_fact_1 : decode cX9_fact 1 = .ok (.getfield 237, 3) := dk_180 0 237 (dk_at dksX9_fact_0 1 rfl rfl)
theorem dX9_fact_4 : decode cX9_fact 4 = .ok (.iconst 1, 1) := dk_4 (dk_at dksX9_fact_0 4 rfl rfl)
theorem dX9_fact_5 : decode cX9_fact 5 = .ok (.if_icmp .eq 5, 3) := dk_159 0 5 (dk_at dksX9_fact_0 5 rfl rfl)
theorem dX9_fact_8 : decode cX9_fact 8 = .ok (.iconst 0, 1) := dk_3 (dk_at dksX9_fact_0 8 rfl rfl)
theorem dX9_fact_9 : decode cX9_fact 9 = .ok (.ireturn, 1) := dk_172 (dk_at dksX9_fact_0 9 rfl rfl)
theorem dX9_fact_10 : decode cX9_fact 10 = .ok (.aload_n 0, 1) := dk_42 (dk_at dksX9_fact_0 10 rfl rfl)
theorem dX9_fact_11 : decode cX9_fact 11 = .ok (.getfield 254, 3) := dk_180 0 254 (dk_at dksX9_fact_0 11 rfl rfl)
theorem dX9_fact_14 : decode cX9_fact 14 = .ok (.iconst 1, 1) := dk_4 (dk_at dksX9_fact_0 14 rfl rfl)
theorem dX9_fact_15 : decode cX9_fact 15 = .ok (.if_icmp .ne 36, 3) := dk_160 0 36 (dk_at dksX9_fact_0 15 rfl rfl)
theorem dX9_fact_18 : decode cX9_fact 18 = .ok (.aload_n 0, 1) := dk_42 (dk_at dksX9_fact_0 18 rfl rfl)
theorem dX9_fact_19 : decode cX9_fact 19 = .ok (.getfield 230, 3) := dk_180 0 230 (dk_at dksX9_fact_0 19 rfl rfl)
theorem dX9_fact_22 : decode cX9_fact 22 = .ok (.ldc2_w 257, 3) := dk_20 1 1 (dk_at dksX9_fact_1 0 rfl rfl)
theorem dX9_fact_25 : decode cX9_fact 25 = .ok (.lcmp, 1) := dk_148 (dk_at dksX9_fact_1 3 rfl rfl)
theorem dX9_fact_26 : decode cX9_fact 26 = .ok (.ifCond .ne 7, 3) := dk_154 0 7 (dk_at dksX9_fact_1 4 rfl rfl)
theorem dX9_fact_29 : decode cX9_fact 29 = .ok (.iconst 5, 1) := dk_8 (dk_at dksX9_fact_1 7 rfl rfl)
theorem dX9_fact_30 : decode cX9_fact 30 = .ok (.goto 20, 3) := dk_167 0 20 (dk_at dksX9_fact_1 8 rfl rfl)
theorem dX9_fact_33 : decode cX9_fact 33 = .ok (.aload_n 0, 1) := dk_42 (dk_at dksX9_fact_1 11 rfl rfl)
theorem dX9_fact_34 : decode cX9_fact 34 = .ok (.getfield 230, 3) := dk_180 0 230 (dk_at dksX9_fact_1 12 rfl rfl)
theorem dX9_fact_37 : decode cX9_fact 37 = .ok (.ldc2_w 259, 3) := dk_20 1 3 (dk_at dksX9_fact_1 15 rfl rfl)
theorem dX9_fact_40 : decode cX9_fact 40 = .ok (.lcmp, 1) := dk_148 (dk_at dksX9_fact_1 18 rfl rfl)
theorem dX9_fact_41 : decode cX9_fact 41 = .ok (.ifCond .ne 8, 3) := dk_154 0 8 (dk_at dksX9_fact_1 19 rfl rfl)
theorem dX9_fact_44 : decode cX9_fact 44 = .ok (.bipush 6, 2) := dk_16 6 (dk_at dksX9_fact_1 22 rfl rfl)
theorem dX9_fact_46 : decode cX9_fact 46 = .ok (.goto 4, 3) := dk_167 0 4 (dk_at dksX9_fact_2 0 rfl rfl)
theorem dX9_fact_49 : decode cX9_fact 49 = .ok (.iconst 0, 1) := dk_3 (dk_at dksX9_fact_2 3 rfl rfl)
theorem dX9_fact_50 : decode cX9_fact 50 = .ok (.ireturn, 1) := dk_172 (dk_at dksX9_fact_2 4 rfl rfl)
theorem dX9_fact_51 : decode cX9_fact 51 = .ok (.aload_n 0, 1) := dk_42 (dk_at dksX9_fact_2 5 rfl rfl)
theorem dX9_fact_52 : decode cX9_fact 52 = .ok (.getfield 230, 3) := dk_180 0 230 (dk_at dksX9_fact_2 6 rfl rfl)
theorem dX9_fact_55 : decode cX9_fact 55 = .ok (.ldc2_w 261, 3) := dk_20 1 5 (dk_at dksX9_fact_2 9 rfl rfl)
theorem dX9_fact_58 : decode cX9_fact 58 = .ok (.lcmp, 1) := dk_148 (dk_at dksX9_fact_2 12 rfl rfl)
theorem dX9_fact_59 : decode cX9_fact 59 = .ok (.ifCond .ne 7, 3) := dk_154 0 7 (dk_at dksX9_fact_2 13 rfl rfl)
theorem dX9_fact_62 : decode cX9_fact 62 = .ok (.iconst 1, 1) := dk_4 (dk_at dksX9_fact_2 16 rfl rfl)
theorem dX9_fact_63 : decode cX9_fact 63 = .ok (.goto 49, 3) := dk_167 0 49 (dk_at dksX9_fact_2 17 rfl rfl)
theorem dX9_fact_66 : decode cX9_fact 66 = .ok (.aload_n 0, 1) := dk_42 (dk_at dksX9_fact_2 20 rfl rfl)
theorem dX9_fact_67 : decode cX9_fact 67 = .ok (.getfield 230, 3) := dk_180 0 230 (dk_at dksX9_fact_2 21 rfl rfl)
theorem dX9_fact_70 : decode cX9_fact 70 = .ok (.ldc2_w 263, 3) := dk_20 1 7 (dk_at dksX9_fact_3 0 rfl rfl)
theorem dX9_fact_73 : decode cX9_fact 73 = .ok (.lcmp, 1) := dk_148 (dk_at dksX9_fact_3 3 rfl rfl)
theorem dX9_fact_74 : decode cX9_fact 74 = .ok (.ifCond .ne 7, 3) := dk_154 0 7 (dk_at dksX9_fact_3 4 rfl rfl)
theorem dX9_fact_77 : decode cX9_fact 77 = .ok (.iconst 2, 1) := dk_5 (dk_at dksX9_fact_3 7 rfl rfl)
theorem dX9_fact_78 : decode cX9_fact 78 = .ok (.goto 34, 3) := dk_167 0 34 (dk_at dksX9_fact_3 8 rfl rfl)
theorem dX9_fact_81 : decode cX9_fact 81 = .ok (.aload_n 0, 1) := dk_42 (dk_at dksX9_fact_3 11 rfl rfl)
theorem dX9_fact_82 : decode cX9_fact 82 = .ok (.getfield 230, 3) := dk_180 0 230 (dk_at dksX9_fact_3 12 rfl rfl)
theorem dX9_fact_85 : decode cX9_fact 85 = .ok (.ldc2_w 265, 3) := dk_20 1 9 (dk_at dksX9_fact_3 15 rfl rfl)
theorem dX9_fact_88 : decode cX9_fact 88 = .ok (.lcmp, 1) := dk_148 (dk_at dksX9_fact_3 18 rfl rfl)
theorem dX9_fact_89 : decode cX9_fact 89 = .ok (.ifCond .ne 7, 3) := dk_154 0 7 (dk_at dksX9_fact_3 19 rfl rfl)
theorem dX9_fact_92 : decode cX9_fact 92 = .ok (.iconst 3, 1) := dk_6 (dk_at dksX9_fact_3 22 rfl rfl)
theorem dX9_fact_93 : decode cX9_fact 93 = .ok (.goto 19, 3) := dk_167 0 19 (dk_at dksX9_fact_4 0 rfl rfl)
theorem dX9_fact_96 : decode cX9_fact 96 = .ok (.aload_n 0, 1) := dk_42 (dk_at dksX9_fact_4 3 rfl rfl)
theorem dX9_fact_97 : decode cX9_fact 97 = .ok (.getfield 230, 3) := dk_180 0 230 (dk_at dksX9_fact_4 4 rfl rfl)
theorem dX9_fact_100 : decode cX9_fact 100 = .ok (.ldc2_w 267, 3) := dk_20 1 11 (dk_at dksX9_fact_4 7 rfl rfl)
theorem dX9_fact_103 : decode cX9_fact 103 = .ok (.lcmp, 1) := dk_148 (dk_at dksX9_fact_4 10 rfl rfl)
theorem dX9_fact_104 : decode cX9_fact 104 = .ok (.ifCond .ne 7, 3) := dk_154 0 7 (dk_at dksX9_fact_4 11 rfl rfl)
theorem dX9_fact_107 : decode cX9_fact 107 = .ok (.iconst 4, 1) := dk_7 (dk_at dksX9_fact_4 14 rfl rfl)
theorem dX9_fact_108 : decode cX9_fact 108 = .ok (.goto 4, 3) := dk_167 0 4 (dk_at dksX9_fact_4 15 rfl rfl)
theorem dX9_fact_111 : decode cX9_fact 111 = .ok (.iconst 0, 1) := dk_3 (dk_at dksX9_fact_4 18 rfl rfl)
theorem dX9_fact_112 : decode cX9_fact 112 = .ok (.ireturn, 1) := dk_172 (dk_at dksX9_fact_4 19 rfl rfl)
abbrev cX9_puts : ByteArray := prog_35_method_13_code
def yX9_puts : MethodName := ⟨RX9, "puts", "(I)V"⟩
def dkwX9_puts_0 : List UInt8 := [42, 180, 0, 77, 42, 180, 0, 251, 27, 79, 42, 89, 180, 0, 251, 4, 96, 181, 0, 251, 177]
abbrev dktX9_puts_0 : List UInt8 := dkwX9_puts_0 ++ []
theorem dksX9_puts_0 : cX9_puts.data.toList.drop 0 = dktX9_puts_0 := by decide +kernel
theorem dX9_puts_0 : decode cX9_puts 0 = .ok (.aload_n 0, 1) := dk_42 (dk_at dksX9_puts_0 0 rfl rfl)
theorem dX9_puts_1 : decode cX9_puts 1 = .ok (.getfield 77, 3) := dk_180 0 77 (dk_at dksX9_puts_0 1 rfl rfl)
theorem dX9_puts_4 : decode cX9_puts 4 = .ok (.aload_n 0, 1) := dk_42 (dk_at dksX9_puts_0 4 rfl rfl)
theorem dX9_puts_5 : decode cX9_puts 5 = .ok (.getfield 251, 3) := dk_180 0 251 (dk_at dksX9_puts_0 5 rfl rfl)
theorem dX9_puts_8 : decode cX9_puts 8 = .ok (.iload_n 1, 1) := dk_27 (dk_at dksX9_puts_0 8 rfl rfl)
theorem dX9_puts_9 : decode cX9_puts 9 = .ok (.iastore, 1) := dk_79 (dk_at dksX9_puts_0 9 rfl rfl)
theorem dX9_puts_10 : decode cX9_puts 10 = .ok (.aload_n 0, 1) := dk_42 (dk_at dksX9_puts_0 10 rfl rfl)
theorem dX9_puts_11 : decode cX9_puts 11 = .ok (.dup, 1) := dk_89 (dk_at dksX9_puts_0 11 rfl rfl)
theorem dX9_puts_12 : decode cX9_puts 12 = .ok (.getfield 251, 3) := dk_180 0 251 (dk_at dksX9_puts_0 12 rfl rfl)
theorem dX9_puts_15 : decode cX9_puts 15 = .ok (.iconst 1, 1) := dk_4 (dk_at dksX9_puts_0 15 rfl rfl)
theorem dX9_puts_16 : decode cX9_puts 16 = .ok (.iadd, 1) := dk_96 (dk_at dksX9_puts_0 16 rfl rfl)
theorem dX9_puts_17 : decode cX9_puts 17 = .ok (.putfield 251, 3) := dk_181 0 251 (dk_at dksX9_puts_0 17 rfl rfl)
theorem dX9_puts_20 : decode cX9_puts 20 = .ok (.return_, 1) := dk_177 (dk_at dksX9_puts_0 20 rfl rfl)
abbrev cX9_lays : ByteArray := prog_35_method_45_code
def yX9_lays : MethodName := ⟨RX9, "lays", "()V"⟩
def dkwX9_lays_11 : List UInt8 := [167, 255, 237, 132, 1, 1, 167, 255, 219, 177]
abbrev dktX9_lays_11 : List UInt8 := dkwX9_lays_11 ++ []
def dkwX9_lays_10 : List UInt8 := [162, 0, 33, 3, 61, 28, 42, 180, 0, 13, 4, 46, 162, 0, 15, 42, 27, 28, 182, 1, 183, 132, 2, 1]
abbrev dktX9_lays_10 : List UInt8 := dkwX9_lays_10 ++ dktX9_lays_11
def dkwX9_lays_9 : List UInt8 := [27, 96, 46, 17, 3, 232, 100, 79, 132, 1, 1, 167, 255, 212, 3, 60, 27, 42, 180, 0, 13, 4, 46]
abbrev dktX9_lays_9 : List UInt8 := dkwX9_lays_9 ++ dktX9_lays_10
def dkwX9_lays_8 : List UInt8 := [27, 42, 180, 0, 71, 5, 27, 96, 46, 17, 3, 232, 100, 79, 42, 180, 0, 74, 27, 42, 180, 0, 74, 5]
abbrev dktX9_lays_8 : List UInt8 := dkwX9_lays_8 ++ dktX9_lays_9
def dkwX9_lays_7 : List UInt8 := [184, 1, 175, 42, 180, 0, 77, 17, 3, 232, 184, 1, 175, 3, 60, 27, 5, 162, 0, 45, 42, 180, 0, 71]
abbrev dktX9_lays_7 : List UInt8 := dkwX9_lays_7 ++ dktX9_lays_8
def dkwX9_lays_6 : List UInt8 := [184, 1, 175, 42, 180, 0, 62, 7, 184, 1, 175, 42, 180, 0, 65, 7, 184, 1, 175, 42, 180, 0, 68, 7]
abbrev dktX9_lays_6 : List UInt8 := dkwX9_lays_6 ++ dktX9_lays_7
def dkwX9_lays_5 : List UInt8 := [180, 0, 53, 16, 6, 184, 1, 175, 42, 180, 0, 56, 16, 6, 184, 1, 175, 42, 180, 0, 59, 16, 40]
abbrev dktX9_lays_5 : List UInt8 := dkwX9_lays_5 ++ dktX9_lays_6
def dkwX9_lays_4 : List UInt8 := [180, 0, 44, 8, 184, 1, 175, 42, 180, 0, 47, 8, 184, 1, 175, 42, 180, 0, 50, 8, 184, 1, 175, 42]
abbrev dktX9_lays_4 : List UInt8 := dkwX9_lays_4 ++ dktX9_lays_5
def dkwX9_lays_3 : List UInt8 := [184, 1, 175, 42, 180, 0, 38, 16, 10, 184, 1, 175, 42, 180, 0, 41, 16, 10, 184, 1, 175, 42]
abbrev dktX9_lays_3 : List UInt8 := dkwX9_lays_3 ++ dktX9_lays_4
def dkwX9_lays_2 : List UInt8 := [180, 0, 29, 16, 10, 184, 1, 175, 42, 180, 0, 32, 16, 10, 184, 1, 175, 42, 180, 0, 35, 16, 10]
abbrev dktX9_lays_2 : List UInt8 := dkwX9_lays_2 ++ dktX9_lays_3
def dkwX9_lays_1 : List UInt8 := [184, 1, 179, 42, 180, 0, 23, 16, 10, 184, 1, 175, 42, 180, 0, 26, 16, 10, 184, 1, 175, 42]
abbrev dktX9_lays_1 : List UInt8 := dkwX9_lays_1 ++ dktX9_lays_2
def dkwX9_lays_0 : List UInt8 := [42, 180, 0, 13, 16, 6, 184, 1, 175, 42, 180, 0, 16, 16, 16, 184, 1, 179, 42, 180, 0, 20, 8]
abbrev dktX9_lays_0 : List UInt8 := dkwX9_lays_0 ++ dktX9_lays_1
theorem dksX9_lays_0 : cX9_lays.data.toList.drop 0 = dktX9_lays_0 := by decide +kernel
theorem dksX9_lays_1 : cX9_lays.data.toList.drop 23 = dktX9_lays_1 := dk_seg dksX9_lays_0 23 rfl rfl
theorem dksX9_lays_2 : cX9_lays.data.toList.drop 45 = dktX9_lays_2 := dk_seg dksX9_lays_1 22 rfl rfl
theorem dksX9_lays_3 : cX9_lays.data.toList.drop 68 = dktX9_lays_3 := dk_seg dksX9_lays_2 23 rfl rfl
theorem dksX9_lays_4 : cX9_lays.data.toList.drop 90 = dktX9_lays_4 := dk_seg dksX9_lays_3 22 rfl rfl
theorem dksX9_lays_5 : cX9_lays.data.toList.drop 114 = dktX9_lays_5 := dk_seg dksX9_lays_4 24 rfl rfl
theorem dksX9_lays_6 : cX9_lays.data.toList.drop 137 = dktX9_lays_6 := dk_seg dksX9_lays_5 23 rfl rfl
theorem dksX9_lays_7 : cX9_lays.data.toList.drop 161 = dktX9_lays_7 := dk_seg dksX9_lays_6 24 rfl rfl
theorem dksX9_lays_8 : cX9_lays.data.toList.drop 185 = dktX9_lays_8 := dk_seg dksX9_lays_7 24 rfl rfl
theorem dksX9_lays_9 : cX9_lays.data.toList.drop 209 = dktX9_lays_9 := dk_seg dksX9_lays_8 24 rfl rfl
theorem dksX9_lays_10 : cX9_lays.data.toList.drop 232 = dktX9_lays_10 := dk_seg dksX9_lays_9 23 rfl rfl
theorem dksX9_lays_11 : cX9_lays.data.toList.drop 256 = dktX9_lays_11 := dk_seg dksX9_lays_10 24 rfl rfl
theorem dX9_lays_0 : decode cX9_lays 0 = .ok (.aload_n 0, 1) := dk_42 (dk_at dksX9_lays_0 0 rfl rfl)
theorem dX9_lays_1 : decode cX9_lays 1 = .ok (.getfield 13, 3) := dk_180 0 13 (dk_at dksX9_lays_0 1 rfl rfl)
theorem dX9_lays_4 : decode cX9_lays 4 = .ok (.bipush 6, 2) := dk_16 6 (dk_at dksX9_lays_0 4 rfl rfl)
theorem dX9_lays_6 : decode cX9_lays 6 = .ok (.invokestatic 431, 3) := dk_184 1 175 (dk_at dksX9_lays_0 6 rfl rfl)
theorem dX9_lays_9 : decode cX9_lays 9 = .ok (.aload_n 0, 1) := dk_42 (dk_at dksX9_lays_0 9 rfl rfl)
theorem dX9_lays_10 : decode cX9_lays 10 = .ok (.getfield 16, 3) := dk_180 0 16 (dk_at dksX9_lays_0 10 rfl rfl)
theorem dX9_lays_13 : decode cX9_lays 13 = .ok (.bipush 16, 2) := dk_16 16 (dk_at dksX9_lays_0 13 rfl rfl)
theorem dX9_lays_15 : decode cX9_lays 15 = .ok (.invokestatic 435, 3) := dk_184 1 179 (dk_at dksX9_lays_0 15 rfl rfl)
theorem dX9_lays_18 : decode cX9_lays 18 = .ok (.aload_n 0, 1) := dk_42 (dk_at dksX9_lays_0 18 rfl rfl)
theorem dX9_lays_19 : decode cX9_lays 19 = .ok (.getfield 20, 3) := dk_180 0 20 (dk_at dksX9_lays_0 19 rfl rfl)
theorem dX9_lays_22 : decode cX9_lays 22 = .ok (.iconst 5, 1) := dk_8 (dk_at dksX9_lays_0 22 rfl rfl)
theorem dX9_lays_23 : decode cX9_lays 23 = .ok (.invokestatic 435, 3) := dk_184 1 179 (dk_at dksX9_lays_1 0 rfl rfl)
theorem dX9_lays_26 : decode cX9_lays 26 = .ok (.aload_n 0, 1) := dk_42 (dk_at dksX9_lays_1 3 rfl rfl)
theorem dX9_lays_27 : decode cX9_lays 27 = .ok (.getfield 23, 3) := dk_180 0 23 (dk_at dksX9_lays_1 4 rfl rfl)
theorem dX9_lays_30 : decode cX9_lays 30 = .ok (.bipush 10, 2) := dk_16 10 (dk_at dksX9_lays_1 7 rfl rfl)
theorem dX9_lays_32 : decode cX9_lays 32 = .ok (.invokestatic 431, 3) := dk_184 1 175 (dk_at dksX9_lays_1 9 rfl rfl)
theorem dX9_lays_35 : decode cX9_lays 35 = .ok (.aload_n 0, 1) := dk_42 (dk_at dksX9_lays_1 12 rfl rfl)
theorem dX9_lays_36 : decode cX9_lays 36 = .ok (.getfield 26, 3) := dk_180 0 26 (dk_at dksX9_lays_1 13 rfl rfl)
theorem dX9_lays_39 : decode cX9_lays 39 = .ok (.bipush 10, 2) := dk_16 10 (dk_at dksX9_lays_1 16 rfl rfl)
theorem dX9_lays_41 : decode cX9_lays 41 = .ok (.invokestatic 431, 3) := dk_184 1 175 (dk_at dksX9_lays_1 18 rfl rfl)
theorem dX9_lays_44 : decode cX9_lays 44 = .ok (.aload_n 0, 1) := dk_42 (dk_at dksX9_lays_1 21 rfl rfl)
theorem dX9_lays_45 : decode cX9_lays 45 = .ok (.getfield 29, 3) := dk_180 0 29 (dk_at dksX9_lays_2 0 rfl rfl)
theorem dX9_lays_48 : decode cX9_lays 48 = .ok (.bipush 10, 2) := dk_16 10 (dk_at dksX9_lays_2 3 rfl rfl)
theorem dX9_lays_50 : decode cX9_lays 50 = .ok (.invokestatic 431, 3) := dk_184 1 175 (dk_at dksX9_lays_2 5 rfl rfl)
theorem dX9_lays_53 : decode cX9_lays 53 = .ok (.aload_n 0, 1) := dk_42 (dk_at dksX9_lays_2 8 rfl rfl)
theorem dX9_lays_54 : decode cX9_lays 54 = .ok (.getfield 32, 3) := dk_180 0 32 (dk_at dksX9_lays_2 9 rfl rfl)
theorem dX9_lays_57 : decode cX9_lays 57 = .ok (.bipush 10, 2) := dk_16 10 (dk_at dksX9_lays_2 12 rfl rfl)
theorem dX9_lays_59 : decode cX9_lays 59 = .ok (.invokestatic 431, 3) := dk_184 1 175 (dk_at dksX9_lays_2 14 rfl rfl)
theorem dX9_lays_62 : decode cX9_lays 62 = .ok (.aload_n 0, 1) := dk_42 (dk_at dksX9_lays_2 17 rfl rfl)
theorem dX9_lays_63 : decode cX9_lays 63 = .ok (.getfield 35, 3) := dk_180 0 35 (dk_at dksX9_lays_2 18 rfl rfl)
theorem dX9_lays_66 : decode cX9_lays 66 = .ok (.bipush 10, 2) := dk_16 10 (dk_at dksX9_lays_2 21 rfl rfl)
theorem dX9_lays_68 : decode cX9_lays 68 = .ok (.invokestatic 431, 3) := dk_184 1 175 (dk_at dksX9_lays_3 0 rfl rfl)
theorem dX9_lays_71 : decode cX9_lays 71 = .ok (.aload_n 0, 1) := dk_42 (dk_at dksX9_lays_3 3 rfl rfl)
theorem dX9_lays_72 : decode cX9_lays 72 = .ok (.getfield 38, 3) := dk_180 0 38 (dk_at dksX9_lays_3 4 rfl rfl)
theorem dX9_lays_75 : decode cX9_lays 75 = .ok (.bipush 10, 2) := dk_16 10 (dk_at dksX9_lays_3 7 rfl rfl)
theorem dX9_lays_77 : decode cX9_lays 77 = .ok (.invokestatic 431, 3) := dk_184 1 175 (dk_at dksX9_lays_3 9 rfl rfl)
theorem dX9_lays_80 : decode cX9_lays 80 = .ok (.aload_n 0, 1) := dk_42 (dk_at dksX9_lays_3 12 rfl rfl)
theorem dX9_lays_81 : decode cX9_lays 81 = .ok (.getfield 41, 3) := dk_180 0 41 (dk_at dksX9_lays_3 13 rfl rfl)
theorem dX9_lays_84 : decode cX9_lays 84 = .ok (.bipush 10, 2) := dk_16 10 (dk_at dksX9_lays_3 16 rfl rfl)
theorem dX9_lays_86 : decode cX9_lays 86 = .ok (.invokestatic 431, 3) := dk_184 1 175 (dk_at dksX9_lays_3 18 rfl rfl)
theorem dX9_lays_89 : decode cX9_lays 89 = .ok (.aload_n 0, 1) := dk_42 (dk_at dksX9_lays_3 21 rfl rfl)
theorem dX9_lays_90 : decode cX9_lays 90 = .ok (.getfield 44, 3) := dk_180 0 44 (dk_at dksX9_lays_4 0 rfl rfl)
theorem dX9_lays_93 : decode cX9_lays 93 = .ok (.iconst 5, 1) := dk_8 (dk_at dksX9_lays_4 3 rfl rfl)
theorem dX9_lays_94 : decode cX9_lays 94 = .ok (.invokestatic 431, 3) := dk_184 1 175 (dk_at dksX9_lays_4 4 rfl rfl)
theorem dX9_lays_97 : decode cX9_lays 97 = .ok (.aload_n 0, 1) := dk_42 (dk_at dksX9_lays_4 7 rfl rfl)
theorem dX9_lays_98 : decode cX9_lays 98 = .ok (.getfield 47, 3) := dk_180 0 47 (dk_at dksX9_lays_4 8 rfl rfl)
theorem dX9_lays_101 : decode cX9_lays 101 = .ok (.iconst 5, 1) := dk_8 (dk_at dksX9_lays_4 11 rfl rfl)
theorem dX9_lays_102 : decode cX9_lays 102 = .ok (.invokestatic 431, 3) := dk_184 1 175 (dk_at dksX9_lays_4 12 rfl rfl)
theorem dX9_lays_105 : decode cX9_lays 105 = .ok (.aload_n 0, 1) := dk_42 (dk_at dksX9_lays_4 15 rfl rfl)
theorem dX9_lays_106 : decode cX9_lays 106 = .ok (.getfield 50, 3) := dk_180 0 50 (dk_at dksX9_lays_4 16 rfl rfl)
theorem dX9_lays_109 : decode cX9_lays 109 = .ok (.iconst 5, 1) := dk_8 (dk_at dksX9_lays_4 19 rfl rfl)
theorem dX9_lays_110 : decode cX9_lays 110 = .ok (.invokestatic 431, 3) := dk_184 1 175 (dk_at dksX9_lays_4 20 rfl rfl)
theorem dX9_lays_113 : decode cX9_lays 113 = .ok (.aload_n 0, 1) := dk_42 (dk_at dksX9_lays_4 23 rfl rfl)
theorem dX9_lays_114 : decode cX9_lays 114 = .ok (.getfield 53, 3) := dk_180 0 53 (dk_at dksX9_lays_5 0 rfl rfl)
theorem dX9_lays_117 : decode cX9_lays 117 = .ok (.bipush 6, 2) := dk_16 6 (dk_at dksX9_lays_5 3 rfl rfl)
theorem dX9_lays_119 : decode cX9_lays 119 = .ok (.invokestatic 431, 3) := dk_184 1 175 (dk_at dksX9_lays_5 5 rfl rfl)
theorem dX9_lays_122 : decode cX9_lays 122 = .ok (.aload_n 0, 1) := dk_42 (dk_at dksX9_lays_5 8 rfl rfl)
theorem dX9_lays_123 : decode cX9_lays 123 = .ok (.getfield 56, 3) := dk_180 0 56 (dk_at dksX9_lays_5 9 rfl rfl)
theorem dX9_lays_126 : decode cX9_lays 126 = .ok (.bipush 6, 2) := dk_16 6 (dk_at dksX9_lays_5 12 rfl rfl)
theorem dX9_lays_128 : decode cX9_lays 128 = .ok (.invokestatic 431, 3) := dk_184 1 175 (dk_at dksX9_lays_5 14 rfl rfl)
theorem dX9_lays_131 : decode cX9_lays 131 = .ok (.aload_n 0, 1) := dk_42 (dk_at dksX9_lays_5 17 rfl rfl)
theorem dX9_lays_132 : decode cX9_lays 132 = .ok (.getfield 59, 3) := dk_180 0 59 (dk_at dksX9_lays_5 18 rfl rfl)
theorem dX9_lays_135 : decode cX9_lays 135 = .ok (.bipush 40, 2) := dk_16 40 (dk_at dksX9_lays_5 21 rfl rfl)
theorem dX9_lays_137 : decode cX9_lays 137 = .ok (.invokestatic 431, 3) := dk_184 1 175 (dk_at dksX9_lays_6 0 rfl rfl)
theorem dX9_lays_140 : decode cX9_lays 140 = .ok (.aload_n 0, 1) := dk_42 (dk_at dksX9_lays_6 3 rfl rfl)
theorem dX9_lays_141 : decode cX9_lays 141 = .ok (.getfield 62, 3) := dk_180 0 62 (dk_at dksX9_lays_6 4 rfl rfl)
theorem dX9_lays_144 : decode cX9_lays 144 = .ok (.iconst 4, 1) := dk_7 (dk_at dksX9_lays_6 7 rfl rfl)
theorem dX9_lays_145 : decode cX9_lays 145 = .ok (.invokestatic 431, 3) := dk_184 1 175 (dk_at dksX9_lays_6 8 rfl rfl)
theorem dX9_lays_148 : decode cX9_lays 148 = .ok (.aload_n 0, 1) := dk_42 (dk_at dksX9_lays_6 11 rfl rfl)
theorem dX9_lays_149 : decode cX9_lays 149 = .ok (.getfield 65, 3) := dk_180 0 65 (dk_at dksX9_lays_6 12 rfl rfl)
theorem dX9_lays_152 : decode cX9_lays 152 = .ok (.iconst 4, 1) := dk_7 (dk_at dksX9_lays_6 15 rfl rfl)
theorem dX9_lays_153 : decode cX9_lays 153 = .ok (.invokestatic 431, 3) := dk_184 1 175 (dk_at dksX9_lays_6 16 rfl rfl)
theorem dX9_lays_156 : decode cX9_lays 156 = .ok (.aload_n 0, 1) := dk_42 (dk_at dksX9_lays_6 19 rfl rfl)
theorem dX9_lays_157 : decode cX9_lays 157 = .ok (.getfield 68, 3) := dk_180 0 68 (dk_at dksX9_lays_6 20 rfl rfl)
theorem dX9_lays_160 : decode cX9_lays 160 = .ok (.iconst 4, 1) := dk_7 (dk_at dksX9_lays_6 23 rfl rfl)
theorem dX9_lays_161 : decode cX9_lays 161 = .ok (.invokestatic 431, 3) := dk_184 1 175 (dk_at dksX9_lays_7 0 rfl rfl)
theorem dX9_lays_164 : decode cX9_lays 164 = .ok (.aload_n 0, 1) := dk_42 (dk_at dksX9_lays_7 3 rfl rfl)
theorem dX9_lays_165 : decode cX9_lays 165 = .ok (.getfield 77, 3) := dk_180 0 77 (dk_at dksX9_lays_7 4 rfl rfl)
theorem dX9_lays_168 : decode cX9_lays 168 = .ok (.sipush 1000, 3) := dk_17 3 232 (dk_at dksX9_lays_7 7 rfl rfl)
theorem dX9_lays_171 : decode cX9_lays 171 = .ok (.invokestatic 431, 3) := dk_184 1 175 (dk_at dksX9_lays_7 10 rfl rfl)
theorem dX9_lays_174 : decode cX9_lays 174 = .ok (.iconst 0, 1) := dk_3 (dk_at dksX9_lays_7 13 rfl rfl)
theorem dX9_lays_175 : decode cX9_lays 175 = .ok (.istore_n 1, 1) := dk_60 (dk_at dksX9_lays_7 14 rfl rfl)
theorem dX9_lays_176 : decode cX9_lays 176 = .ok (.iload_n 1, 1) := dk_27 (dk_at dksX9_lays_7 15 rfl rfl)
theorem dX9_lays_177 : decode cX9_lays 177 = .ok (.iconst 2, 1) := dk_5 (dk_at dksX9_lays_7 16 rfl rfl)
theorem dX9_lays_178 : decode cX9_lays 178 = .ok (.if_icmp .ge 45, 3) := dk_162 0 45 (dk_at dksX9_lays_7 17 rfl rfl)
theorem dX9_lays_181 : decode cX9_lays 181 = .ok (.aload_n 0, 1) := dk_42 (dk_at dksX9_lays_7 20 rfl rfl)
theorem dX9_lays_182 : decode cX9_lays 182 = .ok (.getfield 71, 3) := dk_180 0 71 (dk_at dksX9_lays_7 21 rfl rfl)
theorem dX9_lays_185 : decode cX9_lays 185 = .ok (.iload_n 1, 1) := dk_27 (dk_at dksX9_lays_8 0 rfl rfl)
theorem dX9_lays_186 : decode cX9_lays 186 = .ok (.aload_n 0, 1) := dk_42 (dk_at dksX9_lays_8 1 rfl rfl)
theorem dX9_lays_187 : decode cX9_lays 187 = .ok (.getfield 71, 3) := dk_180 0 71 (dk_at dksX9_lays_8 2 rfl rfl)
theorem dX9_lays_190 : decode cX9_lays 190 = .ok (.iconst 2, 1) := dk_5 (dk_at dksX9_lays_8 5 rfl rfl)
theorem dX9_lays_191 : decode cX9_lays 191 = .ok (.iload_n 1, 1) := dk_27 (dk_at dksX9_lays_8 6 rfl rfl)
theorem dX9_lays_192 : decode cX9_lays 192 = .ok (.iadd, 1) := dk_96 (dk_at dksX9_lays_8 7 rfl rfl)
theorem dX9_lays_193 : decode cX9_lays 193 = .ok (.iaload, 1) := dk_46 (dk_at dksX9_lays_8 8 rfl rfl)
theorem dX9_lays_194 : decode cX9_lays 194 = .ok (.sipush 1000, 3) := dk_17 3 232 (dk_at dksX9_lays_8 9 rfl rfl)
theorem dX9_lays_197 : decode cX9_lays 197 = .ok (.isub, 1) := dk_100 (dk_at dksX9_lays_8 12 rfl rfl)
theorem dX9_lays_198 : decode cX9_lays 198 = .ok (.iastore, 1) := dk_79 (dk_at dksX9_lays_8 13 rfl rfl)
theorem dX9_lays_199 : decode cX9_lays 199 = .ok (.aload_n 0, 1) := dk_42 (dk_at dksX9_lays_8 14 rfl rfl)
theorem dX9_lays_200 : decode cX9_lays 200 = .ok (.getfield 74, 3) := dk_180 0 74 (dk_at dksX9_lays_8 15 rfl rfl)
theorem dX9_lays_203 : decode cX9_lays 203 = .ok (.iload_n 1, 1) := dk_27 (dk_at dksX9_lays_8 18 rfl rfl)
theorem dX9_lays_204 : decode cX9_lays 204 = .ok (.aload_n 0, 1) := dk_42 (dk_at dksX9_lays_8 19 rfl rfl)
theorem dX9_lays_205 : decode cX9_lays 205 = .ok (.getfield 74, 3) := dk_180 0 74 (dk_at dksX9_lays_8 20 rfl rfl)
theorem dX9_lays_208 : decode cX9_lays 208 = .ok (.iconst 2, 1) := dk_5 (dk_at dksX9_lays_8 23 rfl rfl)
theorem dX9_lays_209 : decode cX9_lays 209 = .ok (.iload_n 1, 1) := dk_27 (dk_at dksX9_lays_9 0 rfl rfl)
theorem dX9_lays_210 : decode cX9_lays 210 = .ok (.iadd, 1) := dk_96 (dk_at dksX9_lays_9 1 rfl rfl)
theorem dX9_lays_211 : decode cX9_lays 211 = .ok (.iaload, 1) := dk_46 (dk_at dksX9_lays_9 2 rfl rfl)
theorem dX9_lays_212 : decode cX9_lays 212 = .ok (.sipush 1000, 3) := dk_17 3 232 (dk_at dksX9_lays_9 3 rfl rfl)
theorem dX9_lays_215 : decode cX9_lays 215 = .ok (.isub, 1) := dk_100 (dk_at dksX9_lays_9 6 rfl rfl)
theorem dX9_lays_216 : decode cX9_lays 216 = .ok (.iastore, 1) := dk_79 (dk_at dksX9_lays_9 7 rfl rfl)
theorem dX9_lays_217 : decode cX9_lays 217 = .ok (.iinc 1 1, 3) := dk_132 1 1 (dk_at dksX9_lays_9 8 rfl rfl)
theorem dX9_lays_220 : decode cX9_lays 220 = .ok (.goto (-44), 3) := dk_167 255 212 (dk_at dksX9_lays_9 11 rfl rfl)
theorem dX9_lays_223 : decode cX9_lays 223 = .ok (.iconst 0, 1) := dk_3 (dk_at dksX9_lays_9 14 rfl rfl)
theorem dX9_lays_224 : decode cX9_lays 224 = .ok (.istore_n 1, 1) := dk_60 (dk_at dksX9_lays_9 15 rfl rfl)
theorem dX9_lays_225 : decode cX9_lays 225 = .ok (.iload_n 1, 1) := dk_27 (dk_at dksX9_lays_9 16 rfl rfl)
theorem dX9_lays_226 : decode cX9_lays 226 = .ok (.aload_n 0, 1) := dk_42 (dk_at dksX9_lays_9 17 rfl rfl)
theorem dX9_lays_227 : decode cX9_lays 227 = .ok (.getfield 13, 3) := dk_180 0 13 (dk_at dksX9_lays_9 18 rfl rfl)
theorem dX9_lays_230 : decode cX9_lays 230 = .ok (.iconst 1, 1) := dk_4 (dk_at dksX9_lays_9 21 rfl rfl)
theorem dX9_lays_231 : decode cX9_lays 231 = .ok (.iaload, 1) := dk_46 (dk_at dksX9_lays_9 22 rfl rfl)
theorem dX9_lays_232 : decode cX9_lays 232 = .ok (.if_icmp .ge 33, 3) := dk_162 0 33 (dk_at dksX9_lays_10 0 rfl rfl)
theorem dX9_lays_235 : decode cX9_lays 235 = .ok (.iconst 0, 1) := dk_3 (dk_at dksX9_lays_10 3 rfl rfl)
theorem dX9_lays_236 : decode cX9_lays 236 = .ok (.istore_n 2, 1) := dk_61 (dk_at dksX9_lays_10 4 rfl rfl)
theorem dX9_lays_237 : decode cX9_lays 237 = .ok (.iload_n 2, 1) := dk_28 (dk_at dksX9_lays_10 5 rfl rfl)
theorem dX9_lays_238 : decode cX9_lays 238 = .ok (.aload_n 0, 1) := dk_42 (dk_at dksX9_lays_10 6 rfl rfl)
theorem dX9_lays_239 : decode cX9_lays 239 = .ok (.getfield 13, 3) := dk_180 0 13 (dk_at dksX9_lays_10 7 rfl rfl)
theorem dX9_lays_242 : decode cX9_lays 242 = .ok (.iconst 1, 1) := dk_4 (dk_at dksX9_lays_10 10 rfl rfl)
theorem dX9_lays_243 : decode cX9_lays 243 = .ok (.iaload, 1) := dk_46 (dk_at dksX9_lays_10 11 rfl rfl)
theorem dX9_lays_244 : decode cX9_lays 244 = .ok (.if_icmp .ge 15, 3) := dk_162 0 15 (dk_at dksX9_lays_10 12 rfl rfl)
theorem dX9_lays_247 : decode cX9_lays 247 = .ok (.aload_n 0, 1) := dk_42 (dk_at dksX9_lays_10 15 rfl rfl)
theorem dX9_lays_248 : decode cX9_lays 248 = .ok (.iload_n 1, 1) := dk_27 (dk_at dksX9_lays_10 16 rfl rfl)
theorem dX9_lays_249 : decode cX9_lays 249 = .ok (.iload_n 2, 1) := dk_28 (dk_at dksX9_lays_10 17 rfl rfl)
theorem dX9_lays_250 : decode cX9_lays 250 = .ok (.invokevirtual 439, 3) := dk_182 1 183 (dk_at dksX9_lays_10 18 rfl rfl)
theorem dX9_lays_253 : decode cX9_lays 253 = .ok (.iinc 2 1, 3) := dk_132 2 1 (dk_at dksX9_lays_10 21 rfl rfl)
theorem dX9_lays_256 : decode cX9_lays 256 = .ok (.goto (-19), 3) := dk_167 255 237 (dk_at dksX9_lays_11 0 rfl rfl)
theorem dX9_lays_259 : decode cX9_lays 259 = .ok (.iinc 1 1, 3) := dk_132 1 1 (dk_at dksX9_lays_11 3 rfl rfl)
theorem dX9_lays_262 : decode cX9_lays 262 = .ok (.goto (-37), 3) := dk_167 255 219 (dk_at dksX9_lays_11 6 rfl rfl)
theorem dX9_lays_265 : decode cX9_lays 265 = .ok (.return_, 1) := dk_177 (dk_at dksX9_lays_11 9 rfl rfl)
abbrev cX9_moves : ByteArray := prog_35_method_43_code
def yX9_moves : MethodName := ⟨RX9, "moves", "([II)V"⟩
def dkwX9_moves_0 : List UInt8 := [3, 61, 28, 27, 162, 0, 17, 42, 28, 42, 27, 28, 96, 46, 79, 132, 2, 1, 167, 255, 240, 177]
abbrev dktX9_moves_0 : List UInt8 := dkwX9_moves_0 ++ []
theorem dksX9_moves_0 : cX9_moves.data.toList.drop 0 = dktX9_moves_0 := by decide +kernel
theorem dX9_moves_0 : decode cX9_moves 0 = .ok (.iconst 0, 1) := dk_3 (dk_at dksX9_moves_0 0 rfl rfl)
theorem dX9_moves_1 : decode cX9_moves 1 = .ok (.istore_n 2, 1) := dk_61 (dk_at dksX9_moves_0 1 rfl rfl)
theorem dX9_moves_2 : decode cX9_moves 2 = .ok (.iload_n 2, 1) := dk_28 (dk_at dksX9_moves_0 2 rfl rfl)
theorem dX9_moves_3 : decode cX9_moves 3 = .ok (.iload_n 1, 1) := dk_27 (dk_at dksX9_moves_0 3 rfl rfl)
theorem dX9_moves_4 : decode cX9_moves 4 = .ok (.if_icmp .ge 17, 3) := dk_162 0 17 (dk_at dksX9_moves_0 4 rfl rfl)
theorem dX9_moves_7 : decode cX9_moves 7 = .ok (.aload_n 0, 1) := dk_42 (dk_at dksX9_moves_0 7 rfl rfl)
theorem dX9_moves_8 : decode cX9_moves 8 = .ok (.iload_n 2, 1) := dk_28 (dk_at dksX9_moves_0 8 rfl rfl)
theorem dX9_moves_9 : decode cX9_moves 9 = .ok (.aload_n 0, 1) := dk_42 (dk_at dksX9_moves_0 9 rfl rfl)
theorem dX9_moves_10 : decode cX9_moves 10 = .ok (.iload_n 1, 1) := dk_27 (dk_at dksX9_moves_0 10 rfl rfl)
theorem dX9_moves_11 : decode cX9_moves 11 = .ok (.iload_n 2, 1) := dk_28 (dk_at dksX9_moves_0 11 rfl rfl)
theorem dX9_moves_12 : decode cX9_moves 12 = .ok (.iadd, 1) := dk_96 (dk_at dksX9_moves_0 12 rfl rfl)
theorem dX9_moves_13 : decode cX9_moves 13 = .ok (.iaload, 1) := dk_46 (dk_at dksX9_moves_0 13 rfl rfl)
theorem dX9_moves_14 : decode cX9_moves 14 = .ok (.iastore, 1) := dk_79 (dk_at dksX9_moves_0 14 rfl rfl)
theorem dX9_moves_15 : decode cX9_moves 15 = .ok (.iinc 2 1, 3) := dk_132 2 1 (dk_at dksX9_moves_0 15 rfl rfl)
theorem dX9_moves_18 : decode cX9_moves 18 = .ok (.goto (-16), 3) := dk_167 255 240 (dk_at dksX9_moves_0 18 rfl rfl)
theorem dX9_moves_21 : decode cX9_moves 21 = .ok (.return_, 1) := dk_177 (dk_at dksX9_moves_0 21 rfl rfl)
abbrev cX9_movesNames : ByteArray := prog_35_method_44_code
def yX9_movesNames : MethodName := ⟨RX9, "movesNames", "([JI)V"⟩
def dkwX9_movesNames_0 : List UInt8 := [3, 61, 28, 27, 162, 0, 17, 42, 28, 42, 27, 28, 96, 47, 80, 132, 2, 1, 167, 255, 240, 177]
abbrev dktX9_movesNames_0 : List UInt8 := dkwX9_movesNames_0 ++ []
theorem dksX9_movesNames_0 : cX9_movesNames.data.toList.drop 0 = dktX9_movesNames_0 := by decide +kernel
theorem dX9_movesNames_0 : decode cX9_movesNames 0 = .ok (.iconst 0, 1) := dk_3 (dk_at dksX9_movesNames_0 0 rfl rfl)
theorem dX9_movesNames_1 : decode cX9_movesNames 1 = .ok (.istore_n 2, 1) := dk_61 (dk_at dksX9_movesNames_0 1 rfl rfl)
theorem dX9_movesNames_2 : decode cX9_movesNames 2 = .ok (.iload_n 2, 1) := dk_28 (dk_at dksX9_movesNames_0 2 rfl rfl)
theorem dX9_movesNames_3 : decode cX9_movesNames 3 = .ok (.iload_n 1, 1) := dk_27 (dk_at dksX9_movesNames_0 3 rfl rfl)
theorem dX9_movesNames_4 : decode cX9_movesNames 4 = .ok (.if_icmp .ge 17, 3) := dk_162 0 17 (dk_at dksX9_movesNames_0 4 rfl rfl)
theorem dX9_movesNames_7 : decode cX9_movesNames 7 = .ok (.aload_n 0, 1) := dk_42 (dk_at dksX9_movesNames_0 7 rfl rfl)
theorem dX9_movesNames_8 : decode cX9_movesNames 8 = .ok (.iload_n 2, 1) := dk_28 (dk_at dksX9_movesNames_0 8 rfl rfl)
theorem dX9_movesNames_9 : decode cX9_movesNames 9 = .ok (.aload_n 0, 1) := dk_42 (dk_at dksX9_movesNames_0 9 rfl rfl)
theorem dX9_movesNames_10 : decode cX9_movesNames 10 = .ok (.iload_n 1, 1) := dk_27 (dk_at dksX9_movesNames_0 10 rfl rfl)
theorem dX9_movesNames_11 : decode cX9_movesNames 11 = .ok (.iload_n 2, 1) := dk_28 (dk_at dksX9_movesNames_0 11 rfl rfl)
theorem dX9_movesNames_12 : decode cX9_movesNames 12 = .ok (.iadd, 1) := dk_96 (dk_at dksX9_movesNames_0 12 rfl rfl)
theorem dX9_movesNames_13 : decode cX9_movesNames 13 = .ok (.laload, 1) := dk_47 (dk_at dksX9_movesNames_0 13 rfl rfl)
theorem dX9_movesNames_14 : decode cX9_movesNames 14 = .ok (.lastore, 1) := dk_80 (dk_at dksX9_movesNames_0 14 rfl rfl)
theorem dX9_movesNames_15 : decode cX9_movesNames 15 = .ok (.iinc 2 1, 3) := dk_132 2 1 (dk_at dksX9_movesNames_0 15 rfl rfl)
theorem dX9_movesNames_18 : decode cX9_movesNames 18 = .ok (.goto (-16), 3) := dk_167 255 240 (dk_at dksX9_movesNames_0 18 rfl rfl)
theorem dX9_movesNames_21 : decode cX9_movesNames 21 = .ok (.return_, 1) := dk_177 (dk_at dksX9_movesNames_0 21 rfl rfl)
abbrev cX9_compares : ByteArray := prog_35_method_47_code
def yX9_compares : MethodName := ⟨RX9, "compares", "(II)V"⟩
def dkwX9_compares_18 : List UInt8 := [3, 84, 177]
abbrev dktX9_compares_18 : List UInt8 := dkwX9_compares_18 ++ []
def dkwX9_compares_17 : List UInt8 := [180, 0, 114, 7, 21, 4, 79, 42, 180, 0, 126, 29, 42, 3, 182, 1, 197, 153, 0, 7, 4, 167, 0, 4]
abbrev dktX9_compares_17 : List UInt8 := dkwX9_compares_17 ++ dktX9_compares_18
def dkwX9_compares_16 : List UInt8 := [180, 0, 114, 5, 42, 180, 0, 120, 29, 46, 79, 42, 180, 0, 114, 6, 42, 180, 0, 123, 29, 46, 79, 42]
abbrev dktX9_compares_16 : List UInt8 := dkwX9_compares_16 ++ dktX9_compares_17
def dkwX9_compares_15 : List UInt8 := [46, 154, 0, 7, 4, 167, 0, 4, 3, 84, 177, 42, 180, 0, 114, 4, 42, 180, 0, 117, 29, 46, 79, 42]
abbrev dktX9_compares_15 : List UInt8 := dkwX9_compares_15 ++ dktX9_compares_16
def dkwX9_compares_14 : List UInt8 := [180, 0, 74, 3, 46, 42, 180, 0, 71, 3, 46, 160, 0, 24, 42, 180, 0, 126, 29, 42, 180, 0, 117, 29]
abbrev dktX9_compares_14 : List UInt8 := dkwX9_compares_14 ++ dktX9_compares_15
def dkwX9_compares_13 : List UInt8 := [100, 21, 6, 100, 46, 160, 0, 9, 132, 6, 1, 167, 255, 212, 42, 180, 0, 123, 29, 21, 6, 79, 42]
abbrev dktX9_compares_13 : List UInt8 := dkwX9_compares_13 ++ dktX9_compares_14
def dkwX9_compares_12 : List UInt8 := [21, 5, 162, 0, 36, 42, 180, 0, 129, 21, 4, 4, 100, 21, 6, 100, 46, 42, 180, 0, 132, 21, 5, 4]
abbrev dktX9_compares_12 : List UInt8 := dkwX9_compares_12 ++ dktX9_compares_13
def dkwX9_compares_11 : List UInt8 := [167, 255, 222, 42, 180, 0, 120, 29, 21, 6, 79, 3, 54, 6, 21, 6, 21, 4, 162, 0, 43, 21, 6]
abbrev dktX9_compares_11 : List UInt8 := dkwX9_compares_11 ++ dktX9_compares_12
def dkwX9_compares_10 : List UInt8 := [162, 0, 26, 42, 180, 0, 129, 21, 6, 46, 42, 180, 0, 132, 21, 6, 46, 160, 0, 9, 132, 6, 1]
abbrev dktX9_compares_10 : List UInt8 := dkwX9_compares_10 ++ dktX9_compares_11
def dkwX9_compares_9 : List UInt8 := [21, 4, 104, 21, 5, 96, 46, 79, 3, 54, 6, 21, 6, 21, 4, 162, 0, 33, 21, 6, 21, 5]
abbrev dktX9_compares_9 : List UInt8 := dkwX9_compares_9 ++ dktX9_compares_10
def dkwX9_compares_8 : List UInt8 := [132, 7, 1, 167, 255, 116, 132, 6, 1, 167, 255, 100, 42, 180, 0, 117, 29, 42, 180, 0, 135, 16, 9]
abbrev dktX9_compares_8 : List UInt8 := dkwX9_compares_8 ++ dktX9_compares_9
def dkwX9_compares_7 : List UInt8 := [180, 0, 135, 16, 9, 21, 6, 104, 21, 7, 96, 4, 100, 46, 184, 1, 191, 96, 184, 1, 191, 79]
abbrev dktX9_compares_7 : List UInt8 := dkwX9_compares_7 ++ dktX9_compares_8
def dkwX9_compares_6 : List UInt8 := [104, 21, 7, 96, 21, 8, 4, 42, 180, 0, 135, 16, 9, 21, 6, 4, 100, 104, 21, 7, 96, 46, 42]
abbrev dktX9_compares_6 : List UInt8 := dkwX9_compares_6 ++ dktX9_compares_7
def dkwX9_compares_5 : List UInt8 := [21, 7, 4, 100, 46, 160, 0, 7, 3, 167, 0, 4, 4, 96, 54, 8, 42, 180, 0, 135, 16, 9, 21, 6]
abbrev dktX9_compares_5 : List UInt8 := dkwX9_compares_5 ++ dktX9_compares_6
def dkwX9_compares_4 : List UInt8 := [21, 6, 4, 100, 104, 21, 7, 96, 4, 100, 46, 42, 180, 0, 129, 21, 6, 4, 100, 46, 42, 180, 0, 132]
abbrev dktX9_compares_4 : List UInt8 := dkwX9_compares_4 ++ dktX9_compares_5
def dkwX9_compares_3 : List UInt8 := [16, 9, 21, 6, 104, 21, 7, 96, 21, 6, 21, 7, 96, 79, 167, 0, 102, 42, 180, 0, 135, 16, 9]
abbrev dktX9_compares_3 : List UInt8 := dkwX9_compares_3 ++ dktX9_compares_4
def dkwX9_compares_2 : List UInt8 := [3, 54, 7, 21, 7, 21, 5, 163, 0, 139, 21, 6, 153, 0, 8, 21, 7, 154, 0, 24, 42, 180, 0, 135]
abbrev dktX9_compares_2 : List UInt8 := dkwX9_compares_2 ++ dktX9_compares_3
def dkwX9_compares_1 : List UInt8 := [180, 0, 16, 28, 47, 42, 180, 0, 132, 184, 1, 187, 54, 5, 3, 54, 6, 21, 6, 21, 4, 163, 0, 155]
abbrev dktX9_compares_1 : List UInt8 := dkwX9_compares_1 ++ dktX9_compares_2
def dkwX9_compares_0 : List UInt8 := [16, 16, 27, 104, 28, 96, 62, 42, 180, 0, 16, 27, 47, 42, 180, 0, 129, 184, 1, 187, 54, 4, 42]
abbrev dktX9_compares_0 : List UInt8 := dkwX9_compares_0 ++ dktX9_compares_1
theorem dksX9_compares_0 : cX9_compares.data.toList.drop 0 = dktX9_compares_0 := by decide +kernel
theorem dksX9_compares_1 : cX9_compares.data.toList.drop 23 = dktX9_compares_1 := dk_seg dksX9_compares_0 23 rfl rfl
theorem dksX9_compares_2 : cX9_compares.data.toList.drop 47 = dktX9_compares_2 := dk_seg dksX9_compares_1 24 rfl rfl
theorem dksX9_compares_3 : cX9_compares.data.toList.drop 71 = dktX9_compares_3 := dk_seg dksX9_compares_2 24 rfl rfl
theorem dksX9_compares_4 : cX9_compares.data.toList.drop 94 = dktX9_compares_4 := dk_seg dksX9_compares_3 23 rfl rfl
theorem dksX9_compares_5 : cX9_compares.data.toList.drop 118 = dktX9_compares_5 := dk_seg dksX9_compares_4 24 rfl rfl
theorem dksX9_compares_6 : cX9_compares.data.toList.drop 142 = dktX9_compares_6 := dk_seg dksX9_compares_5 24 rfl rfl
theorem dksX9_compares_7 : cX9_compares.data.toList.drop 165 = dktX9_compares_7 := dk_seg dksX9_compares_6 23 rfl rfl
theorem dksX9_compares_8 : cX9_compares.data.toList.drop 187 = dktX9_compares_8 := dk_seg dksX9_compares_7 22 rfl rfl
theorem dksX9_compares_9 : cX9_compares.data.toList.drop 210 = dktX9_compares_9 := dk_seg dksX9_compares_8 23 rfl rfl
theorem dksX9_compares_10 : cX9_compares.data.toList.drop 232 = dktX9_compares_10 := dk_seg dksX9_compares_9 22 rfl rfl
theorem dksX9_compares_11 : cX9_compares.data.toList.drop 255 = dktX9_compares_11 := dk_seg dksX9_compares_10 23 rfl rfl
theorem dksX9_compares_12 : cX9_compares.data.toList.drop 278 = dktX9_compares_12 := dk_seg dksX9_compares_11 23 rfl rfl
theorem dksX9_compares_13 : cX9_compares.data.toList.drop 302 = dktX9_compares_13 := dk_seg dksX9_compares_12 24 rfl rfl
theorem dksX9_compares_14 : cX9_compares.data.toList.drop 325 = dktX9_compares_14 := dk_seg dksX9_compares_13 23 rfl rfl
theorem dksX9_compares_15 : cX9_compares.data.toList.drop 349 = dktX9_compares_15 := dk_seg dksX9_compares_14 24 rfl rfl
theorem dksX9_compares_16 : cX9_compares.data.toList.drop 373 = dktX9_compares_16 := dk_seg dksX9_compares_15 24 rfl rfl
theorem dksX9_compares_17 : cX9_compares.data.toList.drop 397 = dktX9_compares_17 := dk_seg dksX9_compares_16 24 rfl rfl
theorem dksX9_compares_18 : cX9_compares.data.toList.drop 421 = dktX9_compares_18 := dk_seg dksX9_compares_17 24 rfl rfl
theorem dX9_compares_0 : decode cX9_compares 0 = .ok (.bipush 16, 2) := dk_16 16 (dk_at dksX9_compares_0 0 rfl rfl)
theorem dX9_compares_2 : decode cX9_compares 2 = .ok (.iload_n 1, 1) := dk_27 (dk_at dksX9_compares_0 2 rfl rfl)
theorem dX9_compares_3 : decode cX9_compares 3 = .ok (.imul, 1) := dk_104 (dk_at dksX9_compares_0 3 rfl rfl)
theorem dX9_compares_4 : decode cX9_compares 4 = .ok (.iload_n 2, 1) := dk_28 (dk_at dksX9_compares_0 4 rfl rfl)
theorem dX9_compares_5 : decode cX9_compares 5 = .ok (.iadd, 1) := dk_96 (dk_at dksX9_compares_0 5 rfl rfl)
theorem dX9_compares_6 : decode cX9_compares 6 = .ok (.istore_n 3, 1) := dk_62 (dk_at dksX9_compares_0 6 rfl rfl)
theorem dX9_compares_7 : decode cX9_compares 7 = .ok (.aload_n 0, 1) := dk_42 (dk_at dksX9_compares_0 7 rfl rfl)
theorem dX9_compares_8 : decode cX9_compares 8 = .ok (.getfield 16, 3) := dk_180 0 16 (dk_at dksX9_compares_0 8 rfl rfl)
theorem dX9_compares_11 : decode cX9_compares 11 = .ok (.iload_n 1, 1) := dk_27 (dk_at dksX9_compares_0 11 rfl rfl)
theorem dX9_compares_12 : decode cX9_compares 12 = .ok (.laload, 1) := dk_47 (dk_at dksX9_compares_0 12 rfl rfl)
theorem dX9_compares_13 : decode cX9_compares 13 = .ok (.aload_n 0, 1) := dk_42 (dk_at dksX9_compares_0 13 rfl rfl)
theorem dX9_compares_14 : decode cX9_compares 14 = .ok (.getfield 129, 3) := dk_180 0 129 (dk_at dksX9_compares_0 14 rfl rfl)
theorem dX9_compares_17 : decode cX9_compares 17 = .ok (.invokestatic 443, 3) := dk_184 1 187 (dk_at dksX9_compares_0 17 rfl rfl)
theorem dX9_compares_20 : decode cX9_compares 20 = .ok (.istore 4, 2) := dk_54 4 (dk_at dksX9_compares_0 20 rfl rfl)
theorem dX9_compares_22 : decode cX9_compares 22 = .ok (.aload_n 0, 1) := dk_42 (dk_at dksX9_compares_0 22 rfl rfl)
theorem dX9_compares_23 : decode cX9_compares 23 = .ok (.getfield 16, 3) := dk_180 0 16 (dk_at dksX9_compares_1 0 rfl rfl)
theorem dX9_compares_26 : decode cX9_compares 26 = .ok (.iload_n 2, 1) := dk_28 (dk_at dksX9_compares_1 3 rfl rfl)
theorem dX9_compares_27 : decode cX9_compares 27 = .ok (.laload, 1) := dk_47 (dk_at dksX9_compares_1 4 rfl rfl)
theorem dX9_compares_28 : decode cX9_compares 28 = .ok (.aload_n 0, 1) := dk_42 (dk_at dksX9_compares_1 5 rfl rfl)
theorem dX9_compares_29 : decode cX9_compares 29 = .ok (.getfield 132, 3) := dk_180 0 132 (dk_at dksX9_compares_1 6 rfl rfl)
theorem dX9_compares_32 : decode cX9_compares 32 = .ok (.invokestatic 443, 3) := dk_184 1 187 (dk_at dksX9_compares_1 9 rfl rfl)
theorem dX9_compares_35 : decode cX9_compares 35 = .ok (.istore 5, 2) := dk_54 5 (dk_at dksX9_compares_1 12 rfl rfl)
theorem dX9_compares_37 : decode cX9_compares 37 = .ok (.iconst 0, 1) := dk_3 (dk_at dksX9_compares_1 14 rfl rfl)
theorem dX9_compares_38 : decode cX9_compares 38 = .ok (.istore 6, 2) := dk_54 6 (dk_at dksX9_compares_1 15 rfl rfl)
theorem dX9_compares_40 : decode cX9_compares 40 = .ok (.iload 6, 2) := dk_21 6 (dk_at dksX9_compares_1 17 rfl rfl)
theorem dX9_compares_42 : decode cX9_compares 42 = .ok (.iload 4, 2) := dk_21 4 (dk_at dksX9_compares_1 19 rfl rfl)
theorem dX9_compares_44 : decode cX9_compares 44 = .ok (.if_icmp .gt 155, 3) := dk_163 0 155 (dk_at dksX9_compares_1 21 rfl rfl)
theorem dX9_compares_47 : decode cX9_compares 47 = .ok (.iconst 0, 1) := dk_3 (dk_at dksX9_compares_2 0 rfl rfl)
theorem dX9_compares_48 : decode cX9_compares 48 = .ok (.istore 7, 2) := dk_54 7 (dk_at dksX9_compares_2 1 rfl rfl)
theorem dX9_compares_50 : decode cX9_compares 50 = .ok (.iload 7, 2) := dk_21 7 (dk_at dksX9_compares_2 3 rfl rfl)
theorem dX9_compares_52 : decode cX9_compares 52 = .ok (.iload 5, 2) := dk_21 5 (dk_at dksX9_compares_2 5 rfl rfl)
theorem dX9_compares_54 : decode cX9_compares 54 = .ok (.if_icmp .gt 139, 3) := dk_163 0 139 (dk_at dksX9_compares_2 7 rfl rfl)
theorem dX9_compares_57 : decode cX9_compares 57 = .ok (.iload 6, 2) := dk_21 6 (dk_at dksX9_compares_2 10 rfl rfl)
theorem dX9_compares_59 : decode cX9_compares 59 = .ok (.ifCond .eq 8, 3) := dk_153 0 8 (dk_at dksX9_compares_2 12 rfl rfl)
theorem dX9_compares_62 : decode cX9_compares 62 = .ok (.iload 7, 2) := dk_21 7 (dk_at dksX9_compares_2 15 rfl rfl)
theorem dX9_compares_64 : decode cX9_compares 64 = .ok (.ifCond .ne 24, 3) := dk_154 0 24 (dk_at dksX9_compares_2 17 rfl rfl)
theorem dX9_compares_67 : decode cX9_compares 67 = .ok (.aload_n 0, 1) := dk_42 (dk_at dksX9_compares_2 20 rfl rfl)
theorem dX9_compares_68 : decode cX9_compares 68 = .ok (.getfield 135, 3) := dk_180 0 135 (dk_at dksX9_compares_2 21 rfl rfl)
theorem dX9_compares_71 : decode cX9_compares 71 = .ok (.bipush 9, 2) := dk_16 9 (dk_at dksX9_compares_3 0 rfl rfl)
theorem dX9_compares_73 : decode cX9_compares 73 = .ok (.iload 6, 2) := dk_21 6 (dk_at dksX9_compares_3 2 rfl rfl)
theorem dX9_compares_75 : decode cX9_compares 75 = .ok (.imul, 1) := dk_104 (dk_at dksX9_compares_3 4 rfl rfl)
theorem dX9_compares_76 : decode cX9_compares 76 = .ok (.iload 7, 2) := dk_21 7 (dk_at dksX9_compares_3 5 rfl rfl)
theorem dX9_compares_78 : decode cX9_compares 78 = .ok (.iadd, 1) := dk_96 (dk_at dksX9_compares_3 7 rfl rfl)
theorem dX9_compares_79 : decode cX9_compares 79 = .ok (.iload 6, 2) := dk_21 6 (dk_at dksX9_compares_3 8 rfl rfl)
theorem dX9_compares_81 : decode cX9_compares 81 = .ok (.iload 7, 2) := dk_21 7 (dk_at dksX9_compares_3 10 rfl rfl)
theorem dX9_compares_83 : decode cX9_compares 83 = .ok (.iadd, 1) := dk_96 (dk_at dksX9_compares_3 12 rfl rfl)
theorem dX9_compares_84 : decode cX9_compares 84 = .ok (.iastore, 1) := dk_79 (dk_at dksX9_compares_3 13 rfl rfl)
theorem dX9_compares_85 : decode cX9_compares 85 = .ok (.goto 102, 3) := dk_167 0 102 (dk_at dksX9_compares_3 14 rfl rfl)
theorem dX9_compares_88 : decode cX9_compares 88 = .ok (.aload_n 0, 1) := dk_42 (dk_at dksX9_compares_3 17 rfl rfl)
theorem dX9_compares_89 : decode cX9_compares 89 = .ok (.getfield 135, 3) := dk_180 0 135 (dk_at dksX9_compares_3 18 rfl rfl)
theorem dX9_compares_92 : decode cX9_compares 92 = .ok (.bipush 9, 2) := dk_16 9 (dk_at dksX9_compares_3 21 rfl rfl)
theorem dX9_compares_94 : decode cX9_compares 94 = .ok (.iload 6, 2) := dk_21 6 (dk_at dksX9_compares_4 0 rfl rfl)
theorem dX9_compares_96 : decode cX9_compares 96 = .ok (.iconst 1, 1) := dk_4 (dk_at dksX9_compares_4 2 rfl rfl)
theorem dX9_compares_97 : decode cX9_compares 97 = .ok (.isub, 1) := dk_100 (dk_at dksX9_compares_4 3 rfl rfl)
theorem dX9_compares_98 : decode cX9_compares 98 = .ok (.imul, 1) := dk_104 (dk_at dksX9_compares_4 4 rfl rfl)
theorem dX9_compares_99 : decode cX9_compares 99 = .ok (.iload 7, 2) := dk_21 7 (dk_at dksX9_compares_4 5 rfl rfl)
theorem dX9_compares_101 : decode cX9_compares 101 = .ok (.iadd, 1) := dk_96 (dk_at dksX9_compares_4 7 rfl rfl)
theorem dX9_compares_102 : decode cX9_compares 102 = .ok (.iconst 1, 1) := dk_4 (dk_at dksX9_compares_4 8 rfl rfl)
theorem dX9_compares_103 : decode cX9_compares 103 = .ok (.isub, 1) := dk_100 (dk_at dksX9_compares_4 9 rfl rfl)
theorem dX9_compares_104 : decode cX9_compares 104 = .ok (.iaload, 1) := dk_46 (dk_at dksX9_compares_4 10 rfl rfl)
theorem dX9_compares_105 : decode cX9_compares 105 = .ok (.aload_n 0, 1) := dk_42 (dk_at dksX9_compares_4 11 rfl rfl)
theorem dX9_compares_106 : decode cX9_compares 106 = .ok (.getfield 129, 3) := dk_180 0 129 (dk_at dksX9_compares_4 12 rfl rfl)
theorem dX9_compares_109 : decode cX9_compares 109 = .ok (.iload 6, 2) := dk_21 6 (dk_at dksX9_compares_4 15 rfl rfl)
theorem dX9_compares_111 : decode cX9_compares 111 = .ok (.iconst 1, 1) := dk_4 (dk_at dksX9_compares_4 17 rfl rfl)
theorem dX9_compares_112 : decode cX9_compares 112 = .ok (.isub, 1) := dk_100 (dk_at dksX9_compares_4 18 rfl rfl)
theorem dX9_compares_113 : decode cX9_compares 113 = .ok (.iaload, 1) := dk_46 (dk_at dksX9_compares_4 19 rfl rfl)
theorem dX9_compares_114 : decode cX9_compares 114 = .ok (.aload_n 0, 1) := dk_42 (dk_at dksX9_compares_4 20 rfl rfl)
theorem dX9_compares_115 : decode cX9_compares 115 = .ok (.getfield 132, 3) := dk_180 0 132 (dk_at dksX9_compares_4 21 rfl rfl)
theorem dX9_compares_118 : decode cX9_compares 118 = .ok (.iload 7, 2) := dk_21 7 (dk_at dksX9_compares_5 0 rfl rfl)
theorem dX9_compares_120 : decode cX9_compares 120 = .ok (.iconst 1, 1) := dk_4 (dk_at dksX9_compares_5 2 rfl rfl)
theorem dX9_compares_121 : decode cX9_compares 121 = .ok (.isub, 1) := dk_100 (dk_at dksX9_compares_5 3 rfl rfl)
theorem dX9_compares_122 : decode cX9_compares 122 = .ok (.iaload, 1) := dk_46 (dk_at dksX9_compares_5 4 rfl rfl)
theorem dX9_compares_123 : decode cX9_compares 123 = .ok (.if_icmp .ne 7, 3) := dk_160 0 7 (dk_at dksX9_compares_5 5 rfl rfl)
theorem dX9_compares_126 : decode cX9_compares 126 = .ok (.iconst 0, 1) := dk_3 (dk_at dksX9_compares_5 8 rfl rfl)
theorem dX9_compares_127 : decode cX9_compares 127 = .ok (.goto 4, 3) := dk_167 0 4 (dk_at dksX9_compares_5 9 rfl rfl)
theorem dX9_compares_130 : decode cX9_compares 130 = .ok (.iconst 1, 1) := dk_4 (dk_at dksX9_compares_5 12 rfl rfl)
theorem dX9_compares_131 : decode cX9_compares 131 = .ok (.iadd, 1) := dk_96 (dk_at dksX9_compares_5 13 rfl rfl)
theorem dX9_compares_132 : decode cX9_compares 132 = .ok (.istore 8, 2) := dk_54 8 (dk_at dksX9_compares_5 14 rfl rfl)
theorem dX9_compares_134 : decode cX9_compares 134 = .ok (.aload_n 0, 1) := dk_42 (dk_at dksX9_compares_5 16 rfl rfl)
theorem dX9_compares_135 : decode cX9_compares 135 = .ok (.getfield 135, 3) := dk_180 0 135 (dk_at dksX9_compares_5 17 rfl rfl)
theorem dX9_compares_138 : decode cX9_compares 138 = .ok (.bipush 9, 2) := dk_16 9 (dk_at dksX9_compares_5 20 rfl rfl)
theorem dX9_compares_140 : decode cX9_compares 140 = .ok (.iload 6, 2) := dk_21 6 (dk_at dksX9_compares_5 22 rfl rfl)
theorem dX9_compares_142 : decode cX9_compares 142 = .ok (.imul, 1) := dk_104 (dk_at dksX9_compares_6 0 rfl rfl)
theorem dX9_compares_143 : decode cX9_compares 143 = .ok (.iload 7, 2) := dk_21 7 (dk_at dksX9_compares_6 1 rfl rfl)
theorem dX9_compares_145 : decode cX9_compares 145 = .ok (.iadd, 1) := dk_96 (dk_at dksX9_compares_6 3 rfl rfl)
theorem dX9_compares_146 : decode cX9_compares 146 = .ok (.iload 8, 2) := dk_21 8 (dk_at dksX9_compares_6 4 rfl rfl)
theorem dX9_compares_148 : decode cX9_compares 148 = .ok (.iconst 1, 1) := dk_4 (dk_at dksX9_compares_6 6 rfl rfl)
theorem dX9_compares_149 : decode cX9_compares 149 = .ok (.aload_n 0, 1) := dk_42 (dk_at dksX9_compares_6 7 rfl rfl)
theorem dX9_compares_150 : decode cX9_compares 150 = .ok (.getfield 135, 3) := dk_180 0 135 (dk_at dksX9_compares_6 8 rfl rfl)
theorem dX9_compares_153 : decode cX9_compares 153 = .ok (.bipush 9, 2) := dk_16 9 (dk_at dksX9_compares_6 11 rfl rfl)
theorem dX9_compares_155 : decode cX9_compares 155 = .ok (.iload 6, 2) := dk_21 6 (dk_at dksX9_compares_6 13 rfl rfl)
theorem dX9_compares_157 : decode cX9_compares 157 = .ok (.iconst 1, 1) := dk_4 (dk_at dksX9_compares_6 15 rfl rfl)
theorem dX9_compares_158 : decode cX9_compares 158 = .ok (.isub, 1) := dk_100 (dk_at dksX9_compares_6 16 rfl rfl)
theorem dX9_compares_159 : decode cX9_compares 159 = .ok (.imul, 1) := dk_104 (dk_at dksX9_compares_6 17 rfl rfl)
theorem dX9_compares_160 : decode cX9_compares 160 = .ok (.iload 7, 2) := dk_21 7 (dk_at dksX9_compares_6 18 rfl rfl)
theorem dX9_compares_162 : decode cX9_compares 162 = .ok (.iadd, 1) := dk_96 (dk_at dksX9_compares_6 20 rfl rfl)
theorem dX9_compares_163 : decode cX9_compares 163 = .ok (.iaload, 1) := dk_46 (dk_at dksX9_compares_6 21 rfl rfl)
theorem dX9_compares_164 : decode cX9_compares 164 = .ok (.aload_n 0, 1) := dk_42 (dk_at dksX9_compares_6 22 rfl rfl)
theorem dX9_compares_165 : decode cX9_compares 165 = .ok (.getfield 135, 3) := dk_180 0 135 (dk_at dksX9_compares_7 0 rfl rfl)
theorem dX9_compares_168 : decode cX9_compares 168 = .ok (.bipush 9, 2) := dk_16 9 (dk_at dksX9_compares_7 3 rfl rfl)
theorem dX9_compares_170 : decode cX9_compares 170 = .ok (.iload 6, 2) := dk_21 6 (dk_at dksX9_compares_7 5 rfl rfl)
theorem dX9_compares_172 : decode cX9_compares 172 = .ok (.imul, 1) := dk_104 (dk_at dksX9_compares_7 7 rfl rfl)
theorem dX9_compares_173 : decode cX9_compares 173 = .ok (.iload 7, 2) := dk_21 7 (dk_at dksX9_compares_7 8 rfl rfl)
theorem dX9_compares_175 : decode cX9_compares 175 = .ok (.iadd, 1) := dk_96 (dk_at dksX9_compares_7 10 rfl rfl)
theorem dX9_compares_176 : decode cX9_compares 176 = .ok (.iconst 1, 1) := dk_4 (dk_at dksX9_compares_7 11 rfl rfl)
theorem dX9_compares_177 : decode cX9_compares 177 = .ok (.isub, 1) := dk_100 (dk_at dksX9_compares_7 12 rfl rfl)
theorem dX9_compares_178 : decode cX9_compares 178 = .ok (.iaload, 1) := dk_46 (dk_at dksX9_compares_7 13 rfl rfl)
theorem dX9_compares_179 : decode cX9_compares 179 = .ok (.invokestatic 447, 3) := dk_184 1 191 (dk_at dksX9_compares_7 14 rfl rfl)
theorem dX9_compares_182 : decode cX9_compares 182 = .ok (.iadd, 1) := dk_96 (dk_at dksX9_compares_7 17 rfl rfl)
theorem dX9_compares_183 : decode cX9_compares 183 = .ok (.invokestatic 447, 3) := dk_184 1 191 (dk_at dksX9_compares_7 18 rfl rfl)
theorem dX9_compares_186 : decode cX9_compares 186 = .ok (.iastore, 1) := dk_79 (dk_at dksX9_compares_7 21 rfl rfl)
theorem dX9_compares_187 : decode cX9_compares 187 = .ok (.iinc 7 1, 3) := dk_132 7 1 (dk_at dksX9_compares_8 0 rfl rfl)
theorem dX9_compares_190 : decode cX9_compares 190 = .ok (.goto (-140), 3) := dk_167 255 116 (dk_at dksX9_compares_8 3 rfl rfl)
theorem dX9_compares_193 : decode cX9_compares 193 = .ok (.iinc 6 1, 3) := dk_132 6 1 (dk_at dksX9_compares_8 6 rfl rfl)
theorem dX9_compares_196 : decode cX9_compares 196 = .ok (.goto (-156), 3) := dk_167 255 100 (dk_at dksX9_compares_8 9 rfl rfl)
theorem dX9_compares_199 : decode cX9_compares 199 = .ok (.aload_n 0, 1) := dk_42 (dk_at dksX9_compares_8 12 rfl rfl)
theorem dX9_compares_200 : decode cX9_compares 200 = .ok (.getfield 117, 3) := dk_180 0 117 (dk_at dksX9_compares_8 13 rfl rfl)
theorem dX9_compares_203 : decode cX9_compares 203 = .ok (.iload_n 3, 1) := dk_29 (dk_at dksX9_compares_8 16 rfl rfl)
theorem dX9_compares_204 : decode cX9_compares 204 = .ok (.aload_n 0, 1) := dk_42 (dk_at dksX9_compares_8 17 rfl rfl)
theorem dX9_compares_205 : decode cX9_compares 205 = .ok (.getfield 135, 3) := dk_180 0 135 (dk_at dksX9_compares_8 18 rfl rfl)
theorem dX9_compares_208 : decode cX9_compares 208 = .ok (.bipush 9, 2) := dk_16 9 (dk_at dksX9_compares_8 21 rfl rfl)
theorem dX9_compares_210 : decode cX9_compares 210 = .ok (.iload 4, 2) := dk_21 4 (dk_at dksX9_compares_9 0 rfl rfl)
theorem dX9_compares_212 : decode cX9_compares 212 = .ok (.imul, 1) := dk_104 (dk_at dksX9_compares_9 2 rfl rfl)
theorem dX9_compares_213 : decode cX9_compares 213 = .ok (.iload 5, 2) := dk_21 5 (dk_at dksX9_compares_9 3 rfl rfl)
theorem dX9_compares_215 : decode cX9_compares 215 = .ok (.iadd, 1) := dk_96 (dk_at dksX9_compares_9 5 rfl rfl)
theorem dX9_compares_216 : decode cX9_compares 216 = .ok (.iaload, 1) := dk_46 (dk_at dksX9_compares_9 6 rfl rfl)
theorem dX9_compares_217 : decode cX9_compares 217 = .ok (.iastore, 1) := dk_79 (dk_at dksX9_compares_9 7 rfl rfl)
theorem dX9_compares_218 : decode cX9_compares 218 = .ok (.iconst 0, 1) := dk_3 (dk_at dksX9_compares_9 8 rfl rfl)
theorem dX9_compares_219 : decode cX9_compares 219 = .ok (.istore 6, 2) := dk_54 6 (dk_at dksX9_compares_9 9 rfl rfl)
theorem dX9_compares_221 : decode cX9_compares 221 = .ok (.iload 6, 2) := dk_21 6 (dk_at dksX9_compares_9 11 rfl rfl)
theorem dX9_compares_223 : decode cX9_compares 223 = .ok (.iload 4, 2) := dk_21 4 (dk_at dksX9_compares_9 13 rfl rfl)
theorem dX9_compares_225 : decode cX9_compares 225 = .ok (.if_icmp .ge 33, 3) := dk_162 0 33 (dk_at dksX9_compares_9 15 rfl rfl)
theorem dX9_compares_228 : decode cX9_compares 228 = .ok (.iload 6, 2) := dk_21 6 (dk_at dksX9_compares_9 18 rfl rfl)
theorem dX9_compares_230 : decode cX9_compares 230 = .ok (.iload 5, 2) := dk_21 5 (dk_at dksX9_compares_9 20 rfl rfl)
theorem dX9_compares_232 : decode cX9_compares 232 = .ok (.if_icmp .ge 26, 3) := dk_162 0 26 (dk_at dksX9_compares_10 0 rfl rfl)
theorem dX9_compares_235 : decode cX9_compares 235 = .ok (.aload_n 0, 1) := dk_42 (dk_at dksX9_compares_10 3 rfl rfl)
theorem dX9_compares_236 : decode cX9_compares 236 = .ok (.getfield 129, 3) := dk_180 0 129 (dk_at dksX9_compares_10 4 rfl rfl)
theorem dX9_compares_239 : decode cX9_compares 239 = .ok (.iload 6, 2) := dk_21 6 (dk_at dksX9_compares_10 7 rfl rfl)
theorem dX9_compares_241 : decode cX9_compares 241 = .ok (.iaload, 1) := dk_46 (dk_at dksX9_compares_10 9 rfl rfl)
theorem dX9_compares_242 : decode cX9_compares 242 = .ok (.aload_n 0, 1) := dk_42 (dk_at dksX9_compares_10 10 rfl rfl)
theorem dX9_compares_243 : decode cX9_compares 243 = .ok (.getfield 132, 3) := dk_180 0 132 (dk_at dksX9_compares_10 11 rfl rfl)
theorem dX9_compares_246 : decode cX9_compares 246 = .ok (.iload 6, 2) := dk_21 6 (dk_at dksX9_compares_10 14 rfl rfl)
theorem dX9_compares_248 : decode cX9_compares 248 = .ok (.iaload, 1) := dk_46 (dk_at dksX9_compares_10 16 rfl rfl)
theorem dX9_compares_249 : decode cX9_compares 249 = .ok (.if_icmp .ne 9, 3) := dk_160 0 9 (dk_at dksX9_compares_10 17 rfl rfl)
theorem dX9_compares_252 : decode cX9_compares 252 = .ok (.iinc 6 1, 3) := dk_132 6 1 (dk_at dksX9_compares_10 20 rfl rfl)
theorem dX9_compares_255 : decode cX9_compares 255 = .ok (.goto (-34), 3) := dk_167 255 222 (dk_at dksX9_compares_11 0 rfl rfl)
theorem dX9_compares_258 : decode cX9_compares 258 = .ok (.aload_n 0, 1) := dk_42 (dk_at dksX9_compares_11 3 rfl rfl)
theorem dX9_compares_259 : decode cX9_compares 259 = .ok (.getfield 120, 3) := dk_180 0 120 (dk_at dksX9_compares_11 4 rfl rfl)
theorem dX9_compares_262 : decode cX9_compares 262 = .ok (.iload_n 3, 1) := dk_29 (dk_at dksX9_compares_11 7 rfl rfl)
theorem dX9_compares_263 : decode cX9_compares 263 = .ok (.iload 6, 2) := dk_21 6 (dk_at dksX9_compares_11 8 rfl rfl)
theorem dX9_compares_265 : decode cX9_compares 265 = .ok (.iastore, 1) := dk_79 (dk_at dksX9_compares_11 10 rfl rfl)
theorem dX9_compares_266 : decode cX9_compares 266 = .ok (.iconst 0, 1) := dk_3 (dk_at dksX9_compares_11 11 rfl rfl)
theorem dX9_compares_267 : decode cX9_compares 267 = .ok (.istore 6, 2) := dk_54 6 (dk_at dksX9_compares_11 12 rfl rfl)
theorem dX9_compares_269 : decode cX9_compares 269 = .ok (.iload 6, 2) := dk_21 6 (dk_at dksX9_compares_11 14 rfl rfl)
theorem dX9_compares_271 : decode cX9_compares 271 = .ok (.iload 4, 2) := dk_21 4 (dk_at dksX9_compares_11 16 rfl rfl)
theorem dX9_compares_273 : decode cX9_compares 273 = .ok (.if_icmp .ge 43, 3) := dk_162 0 43 (dk_at dksX9_compares_11 18 rfl rfl)
theorem dX9_compares_276 : decode cX9_compares 276 = .ok (.iload 6, 2) := dk_21 6 (dk_at dksX9_compares_11 21 rfl rfl)
theorem dX9_compares_278 : decode cX9_compares 278 = .ok (.iload 5, 2) := dk_21 5 (dk_at dksX9_compares_12 0 rfl rfl)
theorem dX9_compares_280 : decode cX9_compares 280 = .ok (.if_icmp .ge 36, 3) := dk_162 0 36 (dk_at dksX9_compares_12 2 rfl rfl)
theorem dX9_compares_283 : decode cX9_compares 283 = .ok (.aload_n 0, 1) := dk_42 (dk_at dksX9_compares_12 5 rfl rfl)
theorem dX9_compares_284 : decode cX9_compares 284 = .ok (.getfield 129, 3) := dk_180 0 129 (dk_at dksX9_compares_12 6 rfl rfl)
theorem dX9_compares_287 : decode cX9_compares 287 = .ok (.iload 4, 2) := dk_21 4 (dk_at dksX9_compares_12 9 rfl rfl)
theorem dX9_compares_289 : decode cX9_compares 289 = .ok (.iconst 1, 1) := dk_4 (dk_at dksX9_compares_12 11 rfl rfl)
theorem dX9_compares_290 : decode cX9_compares 290 = .ok (.isub, 1) := dk_100 (dk_at dksX9_compares_12 12 rfl rfl)
theorem dX9_compares_291 : decode cX9_compares 291 = .ok (.iload 6, 2) := dk_21 6 (dk_at dksX9_compares_12 13 rfl rfl)
theorem dX9_compares_293 : decode cX9_compares 293 = .ok (.isub, 1) := dk_100 (dk_at dksX9_compares_12 15 rfl rfl)
theorem dX9_compares_294 : decode cX9_compares 294 = .ok (.iaload, 1) := dk_46 (dk_at dksX9_compares_12 16 rfl rfl)
theorem dX9_compares_295 : decode cX9_compares 295 = .ok (.aload_n 0, 1) := dk_42 (dk_at dksX9_compares_12 17 rfl rfl)
theorem dX9_compares_296 : decode cX9_compares 296 = .ok (.getfield 132, 3) := dk_180 0 132 (dk_at dksX9_compares_12 18 rfl rfl)
theorem dX9_compares_299 : decode cX9_compares 299 = .ok (.iload 5, 2) := dk_21 5 (dk_at dksX9_compares_12 21 rfl rfl)
theorem dX9_compares_301 : decode cX9_compares 301 = .ok (.iconst 1, 1) := dk_4 (dk_at dksX9_compares_12 23 rfl rfl)
theorem dX9_compares_302 : decode cX9_compares 302 = .ok (.isub, 1) := dk_100 (dk_at dksX9_compares_13 0 rfl rfl)
theorem dX9_compares_303 : decode cX9_compares 303 = .ok (.iload 6, 2) := dk_21 6 (dk_at dksX9_compares_13 1 rfl rfl)
theorem dX9_compares_305 : decode cX9_compares 305 = .ok (.isub, 1) := dk_100 (dk_at dksX9_compares_13 3 rfl rfl)
theorem dX9_compares_306 : decode cX9_compares 306 = .ok (.iaload, 1) := dk_46 (dk_at dksX9_compares_13 4 rfl rfl)
theorem dX9_compares_307 : decode cX9_compares 307 = .ok (.if_icmp .ne 9, 3) := dk_160 0 9 (dk_at dksX9_compares_13 5 rfl rfl)
theorem dX9_compares_310 : decode cX9_compares 310 = .ok (.iinc 6 1, 3) := dk_132 6 1 (dk_at dksX9_compares_13 8 rfl rfl)
theorem dX9_compares_313 : decode cX9_compares 313 = .ok (.goto (-44), 3) := dk_167 255 212 (dk_at dksX9_compares_13 11 rfl rfl)
theorem dX9_compares_316 : decode cX9_compares 316 = .ok (.aload_n 0, 1) := dk_42 (dk_at dksX9_compares_13 14 rfl rfl)
theorem dX9_compares_317 : decode cX9_compares 317 = .ok (.getfield 123, 3) := dk_180 0 123 (dk_at dksX9_compares_13 15 rfl rfl)
theorem dX9_compares_320 : decode cX9_compares 320 = .ok (.iload_n 3, 1) := dk_29 (dk_at dksX9_compares_13 18 rfl rfl)
theorem dX9_compares_321 : decode cX9_compares 321 = .ok (.iload 6, 2) := dk_21 6 (dk_at dksX9_compares_13 19 rfl rfl)
theorem dX9_compares_323 : decode cX9_compares 323 = .ok (.iastore, 1) := dk_79 (dk_at dksX9_compares_13 21 rfl rfl)
theorem dX9_compares_324 : decode cX9_compares 324 = .ok (.aload_n 0, 1) := dk_42 (dk_at dksX9_compares_13 22 rfl rfl)
theorem dX9_compares_325 : decode cX9_compares 325 = .ok (.getfield 74, 3) := dk_180 0 74 (dk_at dksX9_compares_14 0 rfl rfl)
theorem dX9_compares_328 : decode cX9_compares 328 = .ok (.iconst 0, 1) := dk_3 (dk_at dksX9_compares_14 3 rfl rfl)
theorem dX9_compares_329 : decode cX9_compares 329 = .ok (.iaload, 1) := dk_46 (dk_at dksX9_compares_14 4 rfl rfl)
theorem dX9_compares_330 : decode cX9_compares 330 = .ok (.aload_n 0, 1) := dk_42 (dk_at dksX9_compares_14 5 rfl rfl)
theorem dX9_compares_331 : decode cX9_compares 331 = .ok (.getfield 71, 3) := dk_180 0 71 (dk_at dksX9_compares_14 6 rfl rfl)
theorem dX9_compares_334 : decode cX9_compares 334 = .ok (.iconst 0, 1) := dk_3 (dk_at dksX9_compares_14 9 rfl rfl)
theorem dX9_compares_335 : decode cX9_compares 335 = .ok (.iaload, 1) := dk_46 (dk_at dksX9_compares_14 10 rfl rfl)
theorem dX9_compares_336 : decode cX9_compares 336 = .ok (.if_icmp .ne 24, 3) := dk_160 0 24 (dk_at dksX9_compares_14 11 rfl rfl)
theorem dX9_compares_339 : decode cX9_compares 339 = .ok (.aload_n 0, 1) := dk_42 (dk_at dksX9_compares_14 14 rfl rfl)
theorem dX9_compares_340 : decode cX9_compares 340 = .ok (.getfield 126, 3) := dk_180 0 126 (dk_at dksX9_compares_14 15 rfl rfl)
theorem dX9_compares_343 : decode cX9_compares 343 = .ok (.iload_n 3, 1) := dk_29 (dk_at dksX9_compares_14 18 rfl rfl)
theorem dX9_compares_344 : decode cX9_compares 344 = .ok (.aload_n 0, 1) := dk_42 (dk_at dksX9_compares_14 19 rfl rfl)
theorem dX9_compares_345 : decode cX9_compares 345 = .ok (.getfield 117, 3) := dk_180 0 117 (dk_at dksX9_compares_14 20 rfl rfl)
theorem dX9_compares_348 : decode cX9_compares 348 = .ok (.iload_n 3, 1) := dk_29 (dk_at dksX9_compares_14 23 rfl rfl)
theorem dX9_compares_349 : decode cX9_compares 349 = .ok (.iaload, 1) := dk_46 (dk_at dksX9_compares_15 0 rfl rfl)
theorem dX9_compares_350 : decode cX9_compares 350 = .ok (.ifCond .ne 7, 3) := dk_154 0 7 (dk_at dksX9_compares_15 1 rfl rfl)
theorem dX9_compares_353 : decode cX9_compares 353 = .ok (.iconst 1, 1) := dk_4 (dk_at dksX9_compares_15 4 rfl rfl)
theorem dX9_compares_354 : decode cX9_compares 354 = .ok (.goto 4, 3) := dk_167 0 4 (dk_at dksX9_compares_15 5 rfl rfl)
theorem dX9_compares_357 : decode cX9_compares 357 = .ok (.iconst 0, 1) := dk_3 (dk_at dksX9_compares_15 8 rfl rfl)
theorem dX9_compares_358 : decode cX9_compares 358 = .ok (.bastore, 1) := dk_84 (dk_at dksX9_compares_15 9 rfl rfl)
theorem dX9_compares_359 : decode cX9_compares 359 = .ok (.return_, 1) := dk_177 (dk_at dksX9_compares_15 10 rfl rfl)
theorem dX9_compares_360 : decode cX9_compares 360 = .ok (.aload_n 0, 1) := dk_42 (dk_at dksX9_compares_15 11 rfl rfl)
theorem dX9_compares_361 : decode cX9_compares 361 = .ok (.getfield 114, 3) := dk_180 0 114 (dk_at dksX9_compares_15 12 rfl rfl)
theorem dX9_compares_364 : decode cX9_compares 364 = .ok (.iconst 1, 1) := dk_4 (dk_at dksX9_compares_15 15 rfl rfl)
theorem dX9_compares_365 : decode cX9_compares 365 = .ok (.aload_n 0, 1) := dk_42 (dk_at dksX9_compares_15 16 rfl rfl)
theorem dX9_compares_366 : decode cX9_compares 366 = .ok (.getfield 117, 3) := dk_180 0 117 (dk_at dksX9_compares_15 17 rfl rfl)
theorem dX9_compares_369 : decode cX9_compares 369 = .ok (.iload_n 3, 1) := dk_29 (dk_at dksX9_compares_15 20 rfl rfl)
theorem dX9_compares_370 : decode cX9_compares 370 = .ok (.iaload, 1) := dk_46 (dk_at dksX9_compares_15 21 rfl rfl)
theorem dX9_compares_371 : decode cX9_compares 371 = .ok (.iastore, 1) := dk_79 (dk_at dksX9_compares_15 22 rfl rfl)
theorem dX9_compares_372 : decode cX9_compares 372 = .ok (.aload_n 0, 1) := dk_42 (dk_at dksX9_compares_15 23 rfl rfl)
theorem dX9_compares_373 : decode cX9_compares 373 = .ok (.getfield 114, 3) := dk_180 0 114 (dk_at dksX9_compares_16 0 rfl rfl)
theorem dX9_compares_376 : decode cX9_compares 376 = .ok (.iconst 2, 1) := dk_5 (dk_at dksX9_compares_16 3 rfl rfl)
theorem dX9_compares_377 : decode cX9_compares 377 = .ok (.aload_n 0, 1) := dk_42 (dk_at dksX9_compares_16 4 rfl rfl)
theorem dX9_compares_378 : decode cX9_compares 378 = .ok (.getfield 120, 3) := dk_180 0 120 (dk_at dksX9_compares_16 5 rfl rfl)
theorem dX9_compares_381 : decode cX9_compares 381 = .ok (.iload_n 3, 1) := dk_29 (dk_at dksX9_compares_16 8 rfl rfl)
theorem dX9_compares_382 : decode cX9_compares 382 = .ok (.iaload, 1) := dk_46 (dk_at dksX9_compares_16 9 rfl rfl)
theorem dX9_compares_383 : decode cX9_compares 383 = .ok (.iastore, 1) := dk_79 (dk_at dksX9_compares_16 10 rfl rfl)
theorem dX9_compares_384 : decode cX9_compares 384 = .ok (.aload_n 0, 1) := dk_42 (dk_at dksX9_compares_16 11 rfl rfl)
theorem dX9_compares_385 : decode cX9_compares 385 = .ok (.getfield 114, 3) := dk_180 0 114 (dk_at dksX9_compares_16 12 rfl rfl)
theorem dX9_compares_388 : decode cX9_compares 388 = .ok (.iconst 3, 1) := dk_6 (dk_at dksX9_compares_16 15 rfl rfl)
theorem dX9_compares_389 : decode cX9_compares 389 = .ok (.aload_n 0, 1) := dk_42 (dk_at dksX9_compares_16 16 rfl rfl)
theorem dX9_compares_390 : decode cX9_compares 390 = .ok (.getfield 123, 3) := dk_180 0 123 (dk_at dksX9_compares_16 17 rfl rfl)
theorem dX9_compares_393 : decode cX9_compares 393 = .ok (.iload_n 3, 1) := dk_29 (dk_at dksX9_compares_16 20 rfl rfl)
theorem dX9_compares_394 : decode cX9_compares 394 = .ok (.iaload, 1) := dk_46 (dk_at dksX9_compares_16 21 rfl rfl)
theorem dX9_compares_395 : decode cX9_compares 395 = .ok (.iastore, 1) := dk_79 (dk_at dksX9_compares_16 22 rfl rfl)
theorem dX9_compares_396 : decode cX9_compares 396 = .ok (.aload_n 0, 1) := dk_42 (dk_at dksX9_compares_16 23 rfl rfl)
theorem dX9_compares_397 : decode cX9_compares 397 = .ok (.getfield 114, 3) := dk_180 0 114 (dk_at dksX9_compares_17 0 rfl rfl)
theorem dX9_compares_400 : decode cX9_compares 400 = .ok (.iconst 4, 1) := dk_7 (dk_at dksX9_compares_17 3 rfl rfl)
theorem dX9_compares_401 : decode cX9_compares 401 = .ok (.iload 4, 2) := dk_21 4 (dk_at dksX9_compares_17 4 rfl rfl)
theorem dX9_compares_403 : decode cX9_compares 403 = .ok (.iastore, 1) := dk_79 (dk_at dksX9_compares_17 6 rfl rfl)
theorem dX9_compares_404 : decode cX9_compares 404 = .ok (.aload_n 0, 1) := dk_42 (dk_at dksX9_compares_17 7 rfl rfl)
theorem dX9_compares_405 : decode cX9_compares 405 = .ok (.getfield 126, 3) := dk_180 0 126 (dk_at dksX9_compares_17 8 rfl rfl)
theorem dX9_compares_408 : decode cX9_compares 408 = .ok (.iload_n 3, 1) := dk_29 (dk_at dksX9_compares_17 11 rfl rfl)
theorem dX9_compares_409 : decode cX9_compares 409 = .ok (.aload_n 0, 1) := dk_42 (dk_at dksX9_compares_17 12 rfl rfl)
theorem dX9_compares_410 : decode cX9_compares 410 = .ok (.iconst 0, 1) := dk_3 (dk_at dksX9_compares_17 13 rfl rfl)
theorem dX9_compares_411 : decode cX9_compares 411 = .ok (.invokevirtual 453, 3) := dk_182 1 197 (dk_at dksX9_compares_17 14 rfl rfl)
theorem dX9_compares_414 : decode cX9_compares 414 = .ok (.ifCond .eq 7, 3) := dk_153 0 7 (dk_at dksX9_compares_17 17 rfl rfl)
theorem dX9_compares_417 : decode cX9_compares 417 = .ok (.iconst 1, 1) := dk_4 (dk_at dksX9_compares_17 20 rfl rfl)
theorem dX9_compares_418 : decode cX9_compares 418 = .ok (.goto 4, 3) := dk_167 0 4 (dk_at dksX9_compares_17 21 rfl rfl)
theorem dX9_compares_421 : decode cX9_compares 421 = .ok (.iconst 0, 1) := dk_3 (dk_at dksX9_compares_18 0 rfl rfl)
theorem dX9_compares_422 : decode cX9_compares 422 = .ok (.bastore, 1) := dk_84 (dk_at dksX9_compares_18 1 rfl rfl)
theorem dX9_compares_423 : decode cX9_compares 423 = .ok (.return_, 1) := dk_177 (dk_at dksX9_compares_18 2 rfl rfl)
abbrev cX9_spells : ByteArray := prog_35_method_46_code
def yX9_spells : MethodName := ⟨RX9, "spells", "(J[I)I"⟩
def dkwX9_spells_2 : List UInt8 := [113, 136, 79, 22, 4, 20, 0, 244, 109, 55, 4, 132, 6, 255, 167, 255, 229, 29, 172]
abbrev dktX9_spells_2 : List UInt8 := dkwX9_spells_2 ++ []
def dkwX9_spells_1 : List UInt8 := [167, 255, 238, 30, 55, 4, 29, 4, 100, 54, 6, 21, 6, 155, 0, 28, 44, 21, 6, 22, 4, 20, 0, 244]
abbrev dktX9_spells_1 : List UInt8 := dkwX9_spells_1 ++ dktX9_spells_2
def dkwX9_spells_0 : List UInt8 := [3, 62, 30, 55, 4, 22, 4, 9, 148, 158, 0, 17, 132, 3, 1, 22, 4, 20, 0, 244, 109, 55, 4]
abbrev dktX9_spells_0 : List UInt8 := dkwX9_spells_0 ++ dktX9_spells_1
theorem dksX9_spells_0 : cX9_spells.data.toList.drop 0 = dktX9_spells_0 := by decide +kernel
theorem dksX9_spells_1 : cX9_spells.data.toList.drop 23 = dktX9_spells_1 := dk_seg dksX9_spells_0 23 rfl rfl
theorem dksX9_spells_2 : cX9_spells.data.toList.drop 47 = dktX9_spells_2 := dk_seg dksX9_spells_1 24 rfl rfl
theorem dX9_spells_0 : decode cX9_spells 0 = .ok (.iconst 0, 1) := dk_3 (dk_at dksX9_spells_0 0 rfl rfl)
theorem dX9_spells_1 : decode cX9_spells 1 = .ok (.istore_n 3, 1) := dk_62 (dk_at dksX9_spells_0 1 rfl rfl)
theorem dX9_spells_2 : decode cX9_spells 2 = .ok (.lload_n 0, 1) := dk_30 (dk_at dksX9_spells_0 2 rfl rfl)
theorem dX9_spells_3 : decode cX9_spells 3 = .ok (.lstore 4, 2) := dk_55 4 (dk_at dksX9_spells_0 3 rfl rfl)
theorem dX9_spells_5 : decode cX9_spells 5 = .ok (.lload 4, 2) := dk_22 4 (dk_at dksX9_spells_0 5 rfl rfl)
theorem dX9_spells_7 : decode cX9_spells 7 = .ok (.lconst 0, 1) := dk_9 (dk_at dksX9_spells_0 7 rfl rfl)
theorem dX9_spells_8 : decode cX9_spells 8 = .ok (.lcmp, 1) := dk_148 (dk_at dksX9_spells_0 8 rfl rfl)
theorem dX9_spells_9 : decode cX9_spells 9 = .ok (.ifCond .le 17, 3) := dk_158 0 17 (dk_at dksX9_spells_0 9 rfl rfl)
theorem dX9_spells_12 : decode cX9_spells 12 = .ok (.iinc 3 1, 3) := dk_132 3 1 (dk_at dksX9_spells_0 12 rfl rfl)
theorem dX9_spells_15 : decode cX9_spells 15 = .ok (.lload 4, 2) := dk_22 4 (dk_at dksX9_spells_0 15 rfl rfl)
theorem dX9_spells_17 : decode cX9_spells 17 = .ok (.ldc2_w 244, 3) := dk_20 0 244 (dk_at dksX9_spells_0 17 rfl rfl)
theorem dX9_spells_20 : decode cX9_spells 20 = .ok (.ldiv, 1) := dk_109 (dk_at dksX9_spells_0 20 rfl rfl)
theorem dX9_spells_21 : decode cX9_spells 21 = .ok (.lstore 4, 2) := dk_55 4 (dk_at dksX9_spells_0 21 rfl rfl)
theorem dX9_spells_23 : decode cX9_spells 23 = .ok (.goto (-18), 3) := dk_167 255 238 (dk_at dksX9_spells_1 0 rfl rfl)
theorem dX9_spells_26 : decode cX9_spells 26 = .ok (.lload_n 0, 1) := dk_30 (dk_at dksX9_spells_1 3 rfl rfl)
theorem dX9_spells_27 : decode cX9_spells 27 = .ok (.lstore 4, 2) := dk_55 4 (dk_at dksX9_spells_1 4 rfl rfl)
theorem dX9_spells_29 : decode cX9_spells 29 = .ok (.iload_n 3, 1) := dk_29 (dk_at dksX9_spells_1 6 rfl rfl)
theorem dX9_spells_30 : decode cX9_spells 30 = .ok (.iconst 1, 1) := dk_4 (dk_at dksX9_spells_1 7 rfl rfl)
theorem dX9_spells_31 : decode cX9_spells 31 = .ok (.isub, 1) := dk_100 (dk_at dksX9_spells_1 8 rfl rfl)
theorem dX9_spells_32 : decode cX9_spells 32 = .ok (.istore 6, 2) := dk_54 6 (dk_at dksX9_spells_1 9 rfl rfl)
theorem dX9_spells_34 : decode cX9_spells 34 = .ok (.iload 6, 2) := dk_21 6 (dk_at dksX9_spells_1 11 rfl rfl)
theorem dX9_spells_36 : decode cX9_spells 36 = .ok (.ifCond .lt 28, 3) := dk_155 0 28 (dk_at dksX9_spells_1 13 rfl rfl)
theorem dX9_spells_39 : decode cX9_spells 39 = .ok (.aload_n 2, 1) := dk_44 (dk_at dksX9_spells_1 16 rfl rfl)
theorem dX9_spells_40 : decode cX9_spells 40 = .ok (.iload 6, 2) := dk_21 6 (dk_at dksX9_spells_1 17 rfl rfl)
theorem dX9_spells_42 : decode cX9_spells 42 = .ok (.lload 4, 2) := dk_22 4 (dk_at dksX9_spells_1 19 rfl rfl)
theorem dX9_spells_44 : decode cX9_spells 44 = .ok (.ldc2_w 244, 3) := dk_20 0 244 (dk_at dksX9_spells_1 21 rfl rfl)
theorem dX9_spells_47 : decode cX9_spells 47 = .ok (.lrem, 1) := dk_113 (dk_at dksX9_spells_2 0 rfl rfl)
theorem dX9_spells_48 : decode cX9_spells 48 = .ok (.l2i, 1) := dk_136 (dk_at dksX9_spells_2 1 rfl rfl)
theorem dX9_spells_49 : decode cX9_spells 49 = .ok (.iastore, 1) := dk_79 (dk_at dksX9_spells_2 2 rfl rfl)
theorem dX9_spells_50 : decode cX9_spells 50 = .ok (.lload 4, 2) := dk_22 4 (dk_at dksX9_spells_2 3 rfl rfl)
theorem dX9_spells_52 : decode cX9_spells 52 = .ok (.ldc2_w 244, 3) := dk_20 0 244 (dk_at dksX9_spells_2 5 rfl rfl)
theorem dX9_spells_55 : decode cX9_spells 55 = .ok (.ldiv, 1) := dk_109 (dk_at dksX9_spells_2 8 rfl rfl)
theorem dX9_spells_56 : decode cX9_spells 56 = .ok (.lstore 4, 2) := dk_55 4 (dk_at dksX9_spells_2 9 rfl rfl)
theorem dX9_spells_58 : decode cX9_spells 58 = .ok (.iinc 6 (-1), 3) := dk_132 6 255 (dk_at dksX9_spells_2 11 rfl rfl)
theorem dX9_spells_61 : decode cX9_spells 61 = .ok (.goto (-27), 3) := dk_167 255 229 (dk_at dksX9_spells_2 14 rfl rfl)
theorem dX9_spells_64 : decode cX9_spells 64 = .ok (.iload_n 3, 1) := dk_29 (dk_at dksX9_spells_2 17 rfl rfl)
theorem dX9_spells_65 : decode cX9_spells 65 = .ok (.ireturn, 1) := dk_172 (dk_at dksX9_spells_2 18 rfl rfl)
abbrev cX9_worked : ByteArray := prog_35_method_19_code
def yX9_worked : MethodName := ⟨RX9, "worked", "(I)I"⟩
def dkwX9_worked_14 : List UInt8 := [21, 5, 104, 79, 132, 3, 1, 167, 254, 194, 42, 3, 182, 1, 47, 42, 180, 0, 87, 3, 46, 172]
abbrev dktX9_worked_14 : List UInt8 := dkwX9_worked_14 ++ []
def dkwX9_worked_13 : List UInt8 := [180, 0, 105, 28, 42, 180, 0, 108, 28, 46, 154, 0, 8, 21, 5, 167, 0, 12, 42, 180, 0, 105, 28, 46]
abbrev dktX9_worked_13 : List UInt8 := dkwX9_worked_13 ++ dktX9_worked_14
def dkwX9_worked_12 : List UInt8 := [46, 4, 160, 0, 21, 21, 5, 154, 0, 7, 4, 167, 0, 4, 3, 54, 5, 132, 2, 255, 167, 255, 227, 42]
abbrev dktX9_worked_12 : List UInt8 := dkwX9_worked_12 ++ dktX9_worked_13
def dkwX9_worked_11 : List UInt8 := [28, 182, 1, 47, 42, 180, 0, 87, 28, 46, 54, 5, 132, 2, 255, 28, 158, 0, 31, 42, 180, 0, 111, 28]
abbrev dktX9_worked_11 : List UInt8 := dkwX9_worked_11 ++ dktX9_worked_12
def dkwX9_worked_10 : List UInt8 := [162, 0, 13, 42, 180, 0, 114, 21, 4, 46, 167, 0, 4, 3, 54, 5, 21, 4, 16, 29, 160, 0, 19, 42]
abbrev dktX9_worked_10 : List UInt8 := dkwX9_worked_10 ++ dktX9_worked_11
def dkwX9_worked_9 : List UInt8 := [167, 0, 122, 21, 4, 16, 100, 161, 0, 11, 21, 4, 16, 100, 100, 167, 0, 21, 21, 4, 16, 20]
abbrev dktX9_worked_9 : List UInt8 := dkwX9_worked_9 ++ dktX9_worked_10
def dkwX9_worked_8 : List UInt8 := [159, 0, 10, 21, 4, 16, 27, 160, 0, 19, 42, 28, 182, 1, 47, 42, 180, 0, 90, 28, 21, 4, 79]
abbrev dktX9_worked_8 : List UInt8 := dkwX9_worked_8 ++ dktX9_worked_9
def dkwX9_worked_7 : List UInt8 := [79, 42, 180, 0, 99, 28, 3, 79, 42, 180, 0, 102, 28, 16, 20, 79, 167, 0, 152, 21, 4, 16, 26]
abbrev dktX9_worked_7 : List UInt8 := dkwX9_worked_7 ++ dktX9_worked_8
def dkwX9_worked_6 : List UInt8 := [42, 28, 182, 1, 41, 42, 180, 0, 93, 28, 42, 180, 0, 99, 28, 46, 79, 42, 180, 0, 96, 28, 21, 4]
abbrev dktX9_worked_6 : List UInt8 := dkwX9_worked_6 ++ dktX9_worked_7
def dkwX9_worked_5 : List UInt8 := [180, 0, 108, 28, 21, 4, 79, 167, 0, 209, 21, 4, 16, 24, 159, 0, 10, 21, 4, 16, 25, 160, 0, 46]
abbrev dktX9_worked_5 : List UInt8 := dkwX9_worked_5 ++ dktX9_worked_6
def dkwX9_worked_4 : List UInt8 := [182, 1, 41, 42, 180, 0, 102, 28, 21, 4, 79, 167, 0, 227, 21, 4, 16, 22, 160, 0, 14, 42]
abbrev dktX9_worked_4 : List UInt8 := dkwX9_worked_4 ++ dktX9_worked_5
def dkwX9_worked_3 : List UInt8 := [182, 1, 44, 167, 1, 1, 21, 4, 16, 20, 159, 0, 10, 21, 4, 16, 21, 160, 0, 19, 42, 28]
abbrev dktX9_worked_3 : List UInt8 := dkwX9_worked_3 ++ dktX9_worked_4
def dkwX9_worked_2 : List UInt8 := [132, 2, 1, 42, 180, 0, 111, 28, 21, 4, 16, 30, 160, 0, 7, 4, 167, 0, 4, 3, 79, 42, 28]
abbrev dktX9_worked_2 : List UInt8 := dkwX9_worked_2 ++ dktX9_worked_3
def dkwX9_worked_1 : List UInt8 := [42, 180, 0, 77, 29, 46, 54, 4, 21, 4, 16, 28, 159, 0, 10, 21, 4, 16, 30, 160, 0, 32]
abbrev dktX9_worked_1 : List UInt8 := dkwX9_worked_1 ++ dktX9_worked_2
def dkwX9_worked_0 : List UInt8 := [3, 61, 42, 3, 182, 1, 44, 42, 180, 0, 71, 27, 46, 62, 29, 42, 180, 0, 74, 27, 46, 162, 1, 58]
abbrev dktX9_worked_0 : List UInt8 := dkwX9_worked_0 ++ dktX9_worked_1
theorem dksX9_worked_0 : cX9_worked.data.toList.drop 0 = dktX9_worked_0 := by decide +kernel
theorem dksX9_worked_1 : cX9_worked.data.toList.drop 24 = dktX9_worked_1 := dk_seg dksX9_worked_0 24 rfl rfl
theorem dksX9_worked_2 : cX9_worked.data.toList.drop 46 = dktX9_worked_2 := dk_seg dksX9_worked_1 22 rfl rfl
theorem dksX9_worked_3 : cX9_worked.data.toList.drop 69 = dktX9_worked_3 := dk_seg dksX9_worked_2 23 rfl rfl
theorem dksX9_worked_4 : cX9_worked.data.toList.drop 91 = dktX9_worked_4 := dk_seg dksX9_worked_3 22 rfl rfl
theorem dksX9_worked_5 : cX9_worked.data.toList.drop 113 = dktX9_worked_5 := dk_seg dksX9_worked_4 22 rfl rfl
theorem dksX9_worked_6 : cX9_worked.data.toList.drop 137 = dktX9_worked_6 := dk_seg dksX9_worked_5 24 rfl rfl
theorem dksX9_worked_7 : cX9_worked.data.toList.drop 161 = dktX9_worked_7 := dk_seg dksX9_worked_6 24 rfl rfl
theorem dksX9_worked_8 : cX9_worked.data.toList.drop 184 = dktX9_worked_8 := dk_seg dksX9_worked_7 23 rfl rfl
theorem dksX9_worked_9 : cX9_worked.data.toList.drop 207 = dktX9_worked_9 := dk_seg dksX9_worked_8 23 rfl rfl
theorem dksX9_worked_10 : cX9_worked.data.toList.drop 229 = dktX9_worked_10 := dk_seg dksX9_worked_9 22 rfl rfl
theorem dksX9_worked_11 : cX9_worked.data.toList.drop 253 = dktX9_worked_11 := dk_seg dksX9_worked_10 24 rfl rfl
theorem dksX9_worked_12 : cX9_worked.data.toList.drop 277 = dktX9_worked_12 := dk_seg dksX9_worked_11 24 rfl rfl
theorem dksX9_worked_13 : cX9_worked.data.toList.drop 301 = dktX9_worked_13 := dk_seg dksX9_worked_12 24 rfl rfl
theorem dksX9_worked_14 : cX9_worked.data.toList.drop 325 = dktX9_worked_14 := dk_seg dksX9_worked_13 24 rfl rfl
theorem dX9_worked_0 : decode cX9_worked 0 = .ok (.iconst 0, 1) := dk_3 (dk_at dksX9_worked_0 0 rfl rfl)
theorem dX9_worked_1 : decode cX9_worked 1 = .ok (.istore_n 2, 1) := dk_61 (dk_at dksX9_worked_0 1 rfl rfl)
theorem dX9_worked_2 : decode cX9_worked 2 = .ok (.aload_n 0, 1) := dk_42 (dk_at dksX9_worked_0 2 rfl rfl)
theorem dX9_worked_3 : decode cX9_worked 3 = .ok (.iconst 0, 1) := dk_3 (dk_at dksX9_worked_0 3 rfl rfl)
theorem dX9_worked_4 : decode cX9_worked 4 = .ok (.invokevirtual 300, 3) := dk_182 1 44 (dk_at dksX9_worked_0 4 rfl rfl)
theorem dX9_worked_7 : decode cX9_worked 7 = .ok (.aload_n 0, 1) := dk_42 (dk_at dksX9_worked_0 7 rfl rfl)
theorem dX9_worked_8 : decode cX9_worked 8 = .ok (.getfield 71, 3) := dk_180 0 71 (dk_at dksX9_worked_0 8 rfl rfl)
theorem dX9_worked_11 : decode cX9_worked 11 = .ok (.iload_n 1, 1) := dk_27 (dk_at dksX9_worked_0 11 rfl rfl)
theorem dX9_worked_12 : decode cX9_worked 12 = .ok (.iaload, 1) := dk_46 (dk_at dksX9_worked_0 12 rfl rfl)
theorem dX9_worked_13 : decode cX9_worked 13 = .ok (.istore_n 3, 1) := dk_62 (dk_at dksX9_worked_0 13 rfl rfl)
theorem dX9_worked_14 : decode cX9_worked 14 = .ok (.iload_n 3, 1) := dk_29 (dk_at dksX9_worked_0 14 rfl rfl)
theorem dX9_worked_15 : decode cX9_worked 15 = .ok (.aload_n 0, 1) := dk_42 (dk_at dksX9_worked_0 15 rfl rfl)
theorem dX9_worked_16 : decode cX9_worked 16 = .ok (.getfield 74, 3) := dk_180 0 74 (dk_at dksX9_worked_0 16 rfl rfl)
theorem dX9_worked_19 : decode cX9_worked 19 = .ok (.iload_n 1, 1) := dk_27 (dk_at dksX9_worked_0 19 rfl rfl)
theorem dX9_worked_20 : decode cX9_worked 20 = .ok (.iaload, 1) := dk_46 (dk_at dksX9_worked_0 20 rfl rfl)
theorem dX9_worked_21 : decode cX9_worked 21 = .ok (.if_icmp .ge 314, 3) := dk_162 1 58 (dk_at dksX9_worked_0 21 rfl rfl)
theorem dX9_worked_24 : decode cX9_worked 24 = .ok (.aload_n 0, 1) := dk_42 (dk_at dksX9_worked_1 0 rfl rfl)
theorem dX9_worked_25 : decode cX9_worked 25 = .ok (.getfield 77, 3) := dk_180 0 77 (dk_at dksX9_worked_1 1 rfl rfl)
theorem dX9_worked_28 : decode cX9_worked 28 = .ok (.iload_n 3, 1) := dk_29 (dk_at dksX9_worked_1 4 rfl rfl)
theorem dX9_worked_29 : decode cX9_worked 29 = .ok (.iaload, 1) := dk_46 (dk_at dksX9_worked_1 5 rfl rfl)
theorem dX9_worked_30 : decode cX9_worked 30 = .ok (.istore 4, 2) := dk_54 4 (dk_at dksX9_worked_1 6 rfl rfl)
theorem dX9_worked_32 : decode cX9_worked 32 = .ok (.iload 4, 2) := dk_21 4 (dk_at dksX9_worked_1 8 rfl rfl)
theorem dX9_worked_34 : decode cX9_worked 34 = .ok (.bipush 28, 2) := dk_16 28 (dk_at dksX9_worked_1 10 rfl rfl)
theorem dX9_worked_36 : decode cX9_worked 36 = .ok (.if_icmp .eq 10, 3) := dk_159 0 10 (dk_at dksX9_worked_1 12 rfl rfl)
theorem dX9_worked_39 : decode cX9_worked 39 = .ok (.iload 4, 2) := dk_21 4 (dk_at dksX9_worked_1 15 rfl rfl)
theorem dX9_worked_41 : decode cX9_worked 41 = .ok (.bipush 30, 2) := dk_16 30 (dk_at dksX9_worked_1 17 rfl rfl)
theorem dX9_worked_43 : decode cX9_worked 43 = .ok (.if_icmp .ne 32, 3) := dk_160 0 32 (dk_at dksX9_worked_1 19 rfl rfl)
theorem dX9_worked_46 : decode cX9_worked 46 = .ok (.iinc 2 1, 3) := dk_132 2 1 (dk_at dksX9_worked_2 0 rfl rfl)
theorem dX9_worked_49 : decode cX9_worked 49 = .ok (.aload_n 0, 1) := dk_42 (dk_at dksX9_worked_2 3 rfl rfl)
theorem dX9_worked_50 : decode cX9_worked 50 = .ok (.getfield 111, 3) := dk_180 0 111 (dk_at dksX9_worked_2 4 rfl rfl)
theorem dX9_worked_53 : decode cX9_worked 53 = .ok (.iload_n 2, 1) := dk_28 (dk_at dksX9_worked_2 7 rfl rfl)
theorem dX9_worked_54 : decode cX9_worked 54 = .ok (.iload 4, 2) := dk_21 4 (dk_at dksX9_worked_2 8 rfl rfl)
theorem dX9_worked_56 : decode cX9_worked 56 = .ok (.bipush 30, 2) := dk_16 30 (dk_at dksX9_worked_2 10 rfl rfl)
theorem dX9_worked_58 : decode cX9_worked 58 = .ok (.if_icmp .ne 7, 3) := dk_160 0 7 (dk_at dksX9_worked_2 12 rfl rfl)
theorem dX9_worked_61 : decode cX9_worked 61 = .ok (.iconst 1, 1) := dk_4 (dk_at dksX9_worked_2 15 rfl rfl)
theorem dX9_worked_62 : decode cX9_worked 62 = .ok (.goto 4, 3) := dk_167 0 4 (dk_at dksX9_worked_2 16 rfl rfl)
theorem dX9_worked_65 : decode cX9_worked 65 = .ok (.iconst 0, 1) := dk_3 (dk_at dksX9_worked_2 19 rfl rfl)
theorem dX9_worked_66 : decode cX9_worked 66 = .ok (.iastore, 1) := dk_79 (dk_at dksX9_worked_2 20 rfl rfl)
theorem dX9_worked_67 : decode cX9_worked 67 = .ok (.aload_n 0, 1) := dk_42 (dk_at dksX9_worked_2 21 rfl rfl)
theorem dX9_worked_68 : decode cX9_worked 68 = .ok (.iload_n 2, 1) := dk_28 (dk_at dksX9_worked_2 22 rfl rfl)
theorem dX9_worked_69 : decode cX9_worked 69 = .ok (.invokevirtual 300, 3) := dk_182 1 44 (dk_at dksX9_worked_3 0 rfl rfl)
theorem dX9_worked_72 : decode cX9_worked 72 = .ok (.goto 257, 3) := dk_167 1 1 (dk_at dksX9_worked_3 3 rfl rfl)
theorem dX9_worked_75 : decode cX9_worked 75 = .ok (.iload 4, 2) := dk_21 4 (dk_at dksX9_worked_3 6 rfl rfl)
theorem dX9_worked_77 : decode cX9_worked 77 = .ok (.bipush 20, 2) := dk_16 20 (dk_at dksX9_worked_3 8 rfl rfl)
theorem dX9_worked_79 : decode cX9_worked 79 = .ok (.if_icmp .eq 10, 3) := dk_159 0 10 (dk_at dksX9_worked_3 10 rfl rfl)
theorem dX9_worked_82 : decode cX9_worked 82 = .ok (.iload 4, 2) := dk_21 4 (dk_at dksX9_worked_3 13 rfl rfl)
theorem dX9_worked_84 : decode cX9_worked 84 = .ok (.bipush 21, 2) := dk_16 21 (dk_at dksX9_worked_3 15 rfl rfl)
theorem dX9_worked_86 : decode cX9_worked 86 = .ok (.if_icmp .ne 19, 3) := dk_160 0 19 (dk_at dksX9_worked_3 17 rfl rfl)
theorem dX9_worked_89 : decode cX9_worked 89 = .ok (.aload_n 0, 1) := dk_42 (dk_at dksX9_worked_3 20 rfl rfl)
theorem dX9_worked_90 : decode cX9_worked 90 = .ok (.iload_n 2, 1) := dk_28 (dk_at dksX9_worked_3 21 rfl rfl)
theorem dX9_worked_91 : decode cX9_worked 91 = .ok (.invokevirtual 297, 3) := dk_182 1 41 (dk_at dksX9_worked_4 0 rfl rfl)
theorem dX9_worked_94 : decode cX9_worked 94 = .ok (.aload_n 0, 1) := dk_42 (dk_at dksX9_worked_4 3 rfl rfl)
theorem dX9_worked_95 : decode cX9_worked 95 = .ok (.getfield 102, 3) := dk_180 0 102 (dk_at dksX9_worked_4 4 rfl rfl)
theorem dX9_worked_98 : decode cX9_worked 98 = .ok (.iload_n 2, 1) := dk_28 (dk_at dksX9_worked_4 7 rfl rfl)
theorem dX9_worked_99 : decode cX9_worked 99 = .ok (.iload 4, 2) := dk_21 4 (dk_at dksX9_worked_4 8 rfl rfl)
theorem dX9_worked_101 : decode cX9_worked 101 = .ok (.iastore, 1) := dk_79 (dk_at dksX9_worked_4 10 rfl rfl)
theorem dX9_worked_102 : decode cX9_worked 102 = .ok (.goto 227, 3) := dk_167 0 227 (dk_at dksX9_worked_4 11 rfl rfl)
theorem dX9_worked_105 : decode cX9_worked 105 = .ok (.iload 4, 2) := dk_21 4 (dk_at dksX9_worked_4 14 rfl rfl)
theorem dX9_worked_107 : decode cX9_worked 107 = .ok (.bipush 22, 2) := dk_16 22 (dk_at dksX9_worked_4 16 rfl rfl)
theorem dX9_worked_109 : decode cX9_worked 109 = .ok (.if_icmp .ne 14, 3) := dk_160 0 14 (dk_at dksX9_worked_4 18 rfl rfl)
theorem dX9_worked_112 : decode cX9_worked 112 = .ok (.aload_n 0, 1) := dk_42 (dk_at dksX9_worked_4 21 rfl rfl)
theorem dX9_worked_113 : decode cX9_worked 113 = .ok (.getfield 108, 3) := dk_180 0 108 (dk_at dksX9_worked_5 0 rfl rfl)
theorem dX9_worked_116 : decode cX9_worked 116 = .ok (.iload_n 2, 1) := dk_28 (dk_at dksX9_worked_5 3 rfl rfl)
theorem dX9_worked_117 : decode cX9_worked 117 = .ok (.iload 4, 2) := dk_21 4 (dk_at dksX9_worked_5 4 rfl rfl)
theorem dX9_worked_119 : decode cX9_worked 119 = .ok (.iastore, 1) := dk_79 (dk_at dksX9_worked_5 6 rfl rfl)
theorem dX9_worked_120 : decode cX9_worked 120 = .ok (.goto 209, 3) := dk_167 0 209 (dk_at dksX9_worked_5 7 rfl rfl)
theorem dX9_worked_123 : decode cX9_worked 123 = .ok (.iload 4, 2) := dk_21 4 (dk_at dksX9_worked_5 10 rfl rfl)
theorem dX9_worked_125 : decode cX9_worked 125 = .ok (.bipush 24, 2) := dk_16 24 (dk_at dksX9_worked_5 12 rfl rfl)
theorem dX9_worked_127 : decode cX9_worked 127 = .ok (.if_icmp .eq 10, 3) := dk_159 0 10 (dk_at dksX9_worked_5 14 rfl rfl)
theorem dX9_worked_130 : decode cX9_worked 130 = .ok (.iload 4, 2) := dk_21 4 (dk_at dksX9_worked_5 17 rfl rfl)
theorem dX9_worked_132 : decode cX9_worked 132 = .ok (.bipush 25, 2) := dk_16 25 (dk_at dksX9_worked_5 19 rfl rfl)
theorem dX9_worked_134 : decode cX9_worked 134 = .ok (.if_icmp .ne 46, 3) := dk_160 0 46 (dk_at dksX9_worked_5 21 rfl rfl)
theorem dX9_worked_137 : decode cX9_worked 137 = .ok (.aload_n 0, 1) := dk_42 (dk_at dksX9_worked_6 0 rfl rfl)
theorem dX9_worked_138 : decode cX9_worked 138 = .ok (.iload_n 2, 1) := dk_28 (dk_at dksX9_worked_6 1 rfl rfl)
theorem dX9_worked_139 : decode cX9_worked 139 = .ok (.invokevirtual 297, 3) := dk_182 1 41 (dk_at dksX9_worked_6 2 rfl rfl)
theorem dX9_worked_142 : decode cX9_worked 142 = .ok (.aload_n 0, 1) := dk_42 (dk_at dksX9_worked_6 5 rfl rfl)
theorem dX9_worked_143 : decode cX9_worked 143 = .ok (.getfield 93, 3) := dk_180 0 93 (dk_at dksX9_worked_6 6 rfl rfl)
theorem dX9_worked_146 : decode cX9_worked 146 = .ok (.iload_n 2, 1) := dk_28 (dk_at dksX9_worked_6 9 rfl rfl)
theorem dX9_worked_147 : decode cX9_worked 147 = .ok (.aload_n 0, 1) := dk_42 (dk_at dksX9_worked_6 10 rfl rfl)
theorem dX9_worked_148 : decode cX9_worked 148 = .ok (.getfield 99, 3) := dk_180 0 99 (dk_at dksX9_worked_6 11 rfl rfl)
theorem dX9_worked_151 : decode cX9_worked 151 = .ok (.iload_n 2, 1) := dk_28 (dk_at dksX9_worked_6 14 rfl rfl)
theorem dX9_worked_152 : decode cX9_worked 152 = .ok (.iaload, 1) := dk_46 (dk_at dksX9_worked_6 15 rfl rfl)
theorem dX9_worked_153 : decode cX9_worked 153 = .ok (.iastore, 1) := dk_79 (dk_at dksX9_worked_6 16 rfl rfl)
theorem dX9_worked_154 : decode cX9_worked 154 = .ok (.aload_n 0, 1) := dk_42 (dk_at dksX9_worked_6 17 rfl rfl)
theorem dX9_worked_155 : decode cX9_worked 155 = .ok (.getfield 96, 3) := dk_180 0 96 (dk_at dksX9_worked_6 18 rfl rfl)
theorem dX9_worked_158 : decode cX9_worked 158 = .ok (.iload_n 2, 1) := dk_28 (dk_at dksX9_worked_6 21 rfl rfl)
theorem dX9_worked_159 : decode cX9_worked 159 = .ok (.iload 4, 2) := dk_21 4 (dk_at dksX9_worked_6 22 rfl rfl)
theorem dX9_worked_161 : decode cX9_worked 161 = .ok (.iastore, 1) := dk_79 (dk_at dksX9_worked_7 0 rfl rfl)
theorem dX9_worked_162 : decode cX9_worked 162 = .ok (.aload_n 0, 1) := dk_42 (dk_at dksX9_worked_7 1 rfl rfl)
theorem dX9_worked_163 : decode cX9_worked 163 = .ok (.getfield 99, 3) := dk_180 0 99 (dk_at dksX9_worked_7 2 rfl rfl)
theorem dX9_worked_166 : decode cX9_worked 166 = .ok (.iload_n 2, 1) := dk_28 (dk_at dksX9_worked_7 5 rfl rfl)
theorem dX9_worked_167 : decode cX9_worked 167 = .ok (.iconst 0, 1) := dk_3 (dk_at dksX9_worked_7 6 rfl rfl)
theorem dX9_worked_168 : decode cX9_worked 168 = .ok (.iastore, 1) := dk_79 (dk_at dksX9_worked_7 7 rfl rfl)
theorem dX9_worked_169 : decode cX9_worked 169 = .ok (.aload_n 0, 1) := dk_42 (dk_at dksX9_worked_7 8 rfl rfl)
theorem dX9_worked_170 : decode cX9_worked 170 = .ok (.getfield 102, 3) := dk_180 0 102 (dk_at dksX9_worked_7 9 rfl rfl)
theorem dX9_worked_173 : decode cX9_worked 173 = .ok (.iload_n 2, 1) := dk_28 (dk_at dksX9_worked_7 12 rfl rfl)
theorem dX9_worked_174 : decode cX9_worked 174 = .ok (.bipush 20, 2) := dk_16 20 (dk_at dksX9_worked_7 13 rfl rfl)
theorem dX9_worked_176 : decode cX9_worked 176 = .ok (.iastore, 1) := dk_79 (dk_at dksX9_worked_7 15 rfl rfl)
theorem dX9_worked_177 : decode cX9_worked 177 = .ok (.goto 152, 3) := dk_167 0 152 (dk_at dksX9_worked_7 16 rfl rfl)
theorem dX9_worked_180 : decode cX9_worked 180 = .ok (.iload 4, 2) := dk_21 4 (dk_at dksX9_worked_7 19 rfl rfl)
theorem dX9_worked_182 : decode cX9_worked 182 = .ok (.bipush 26, 2) := dk_16 26 (dk_at dksX9_worked_7 21 rfl rfl)
theorem dX9_worked_184 : decode cX9_worked 184 = .ok (.if_icmp .eq 10, 3) := dk_159 0 10 (dk_at dksX9_worked_8 0 rfl rfl)
theorem dX9_worked_187 : decode cX9_worked 187 = .ok (.iload 4, 2) := dk_21 4 (dk_at dksX9_worked_8 3 rfl rfl)
theorem dX9_worked_189 : decode cX9_worked 189 = .ok (.bipush 27, 2) := dk_16 27 (dk_at dksX9_worked_8 5 rfl rfl)
theorem dX9_worked_191 : decode cX9_worked 191 = .ok (.if_icmp .ne 19, 3) := dk_160 0 19 (dk_at dksX9_worked_8 7 rfl rfl)
theorem dX9_worked_194 : decode cX9_worked 194 = .ok (.aload_n 0, 1) := dk_42 (dk_at dksX9_worked_8 10 rfl rfl)
theorem dX9_worked_195 : decode cX9_worked 195 = .ok (.iload_n 2, 1) := dk_28 (dk_at dksX9_worked_8 11 rfl rfl)
theorem dX9_worked_196 : decode cX9_worked 196 = .ok (.invokevirtual 303, 3) := dk_182 1 47 (dk_at dksX9_worked_8 12 rfl rfl)
theorem dX9_worked_199 : decode cX9_worked 199 = .ok (.aload_n 0, 1) := dk_42 (dk_at dksX9_worked_8 15 rfl rfl)
theorem dX9_worked_200 : decode cX9_worked 200 = .ok (.getfield 90, 3) := dk_180 0 90 (dk_at dksX9_worked_8 16 rfl rfl)
theorem dX9_worked_203 : decode cX9_worked 203 = .ok (.iload_n 2, 1) := dk_28 (dk_at dksX9_worked_8 19 rfl rfl)
theorem dX9_worked_204 : decode cX9_worked 204 = .ok (.iload 4, 2) := dk_21 4 (dk_at dksX9_worked_8 20 rfl rfl)
theorem dX9_worked_206 : decode cX9_worked 206 = .ok (.iastore, 1) := dk_79 (dk_at dksX9_worked_8 22 rfl rfl)
theorem dX9_worked_207 : decode cX9_worked 207 = .ok (.goto 122, 3) := dk_167 0 122 (dk_at dksX9_worked_9 0 rfl rfl)
theorem dX9_worked_210 : decode cX9_worked 210 = .ok (.iload 4, 2) := dk_21 4 (dk_at dksX9_worked_9 3 rfl rfl)
theorem dX9_worked_212 : decode cX9_worked 212 = .ok (.bipush 100, 2) := dk_16 100 (dk_at dksX9_worked_9 5 rfl rfl)
theorem dX9_worked_214 : decode cX9_worked 214 = .ok (.if_icmp .lt 11, 3) := dk_161 0 11 (dk_at dksX9_worked_9 7 rfl rfl)
theorem dX9_worked_217 : decode cX9_worked 217 = .ok (.iload 4, 2) := dk_21 4 (dk_at dksX9_worked_9 10 rfl rfl)
theorem dX9_worked_219 : decode cX9_worked 219 = .ok (.bipush 100, 2) := dk_16 100 (dk_at dksX9_worked_9 12 rfl rfl)
theorem dX9_worked_221 : decode cX9_worked 221 = .ok (.isub, 1) := dk_100 (dk_at dksX9_worked_9 14 rfl rfl)
theorem dX9_worked_222 : decode cX9_worked 222 = .ok (.goto 21, 3) := dk_167 0 21 (dk_at dksX9_worked_9 15 rfl rfl)
theorem dX9_worked_225 : decode cX9_worked 225 = .ok (.iload 4, 2) := dk_21 4 (dk_at dksX9_worked_9 18 rfl rfl)
theorem dX9_worked_227 : decode cX9_worked 227 = .ok (.bipush 20, 2) := dk_16 20 (dk_at dksX9_worked_9 20 rfl rfl)
theorem dX9_worked_229 : decode cX9_worked 229 = .ok (.if_icmp .ge 13, 3) := dk_162 0 13 (dk_at dksX9_worked_10 0 rfl rfl)
theorem dX9_worked_232 : decode cX9_worked 232 = .ok (.aload_n 0, 1) := dk_42 (dk_at dksX9_worked_10 3 rfl rfl)
theorem dX9_worked_233 : decode cX9_worked 233 = .ok (.getfield 114, 3) := dk_180 0 114 (dk_at dksX9_worked_10 4 rfl rfl)
theorem dX9_worked_236 : decode cX9_worked 236 = .ok (.iload 4, 2) := dk_21 4 (dk_at dksX9_worked_10 7 rfl rfl)
theorem dX9_worked_238 : decode cX9_worked 238 = .ok (.iaload, 1) := dk_46 (dk_at dksX9_worked_10 9 rfl rfl)
theorem dX9_worked_239 : decode cX9_worked 239 = .ok (.goto 4, 3) := dk_167 0 4 (dk_at dksX9_worked_10 10 rfl rfl)
theorem dX9_worked_242 : decode cX9_worked 242 = .ok (.iconst 0, 1) := dk_3 (dk_at dksX9_worked_10 13 rfl rfl)
theorem dX9_worked_243 : decode cX9_worked 243 = .ok (.istore 5, 2) := dk_54 5 (dk_at dksX9_worked_10 14 rfl rfl)
theorem dX9_worked_245 : decode cX9_worked 245 = .ok (.iload 4, 2) := dk_21 4 (dk_at dksX9_worked_10 16 rfl rfl)
theorem dX9_worked_247 : decode cX9_worked 247 = .ok (.bipush 29, 2) := dk_16 29 (dk_at dksX9_worked_10 18 rfl rfl)
theorem dX9_worked_249 : decode cX9_worked 249 = .ok (.if_icmp .ne 19, 3) := dk_160 0 19 (dk_at dksX9_worked_10 20 rfl rfl)
theorem dX9_worked_252 : decode cX9_worked 252 = .ok (.aload_n 0, 1) := dk_42 (dk_at dksX9_worked_10 23 rfl rfl)
theorem dX9_worked_253 : decode cX9_worked 253 = .ok (.iload_n 2, 1) := dk_28 (dk_at dksX9_worked_11 0 rfl rfl)
theorem dX9_worked_254 : decode cX9_worked 254 = .ok (.invokevirtual 303, 3) := dk_182 1 47 (dk_at dksX9_worked_11 1 rfl rfl)
theorem dX9_worked_257 : decode cX9_worked 257 = .ok (.aload_n 0, 1) := dk_42 (dk_at dksX9_worked_11 4 rfl rfl)
theorem dX9_worked_258 : decode cX9_worked 258 = .ok (.getfield 87, 3) := dk_180 0 87 (dk_at dksX9_worked_11 5 rfl rfl)
theorem dX9_worked_261 : decode cX9_worked 261 = .ok (.iload_n 2, 1) := dk_28 (dk_at dksX9_worked_11 8 rfl rfl)
theorem dX9_worked_262 : decode cX9_worked 262 = .ok (.iaload, 1) := dk_46 (dk_at dksX9_worked_11 9 rfl rfl)
theorem dX9_worked_263 : decode cX9_worked 263 = .ok (.istore 5, 2) := dk_54 5 (dk_at dksX9_worked_11 10 rfl rfl)
theorem dX9_worked_265 : decode cX9_worked 265 = .ok (.iinc 2 (-1), 3) := dk_132 2 255 (dk_at dksX9_worked_11 12 rfl rfl)
theorem dX9_worked_268 : decode cX9_worked 268 = .ok (.iload_n 2, 1) := dk_28 (dk_at dksX9_worked_11 15 rfl rfl)
theorem dX9_worked_269 : decode cX9_worked 269 = .ok (.ifCond .le 31, 3) := dk_158 0 31 (dk_at dksX9_worked_11 16 rfl rfl)
theorem dX9_worked_272 : decode cX9_worked 272 = .ok (.aload_n 0, 1) := dk_42 (dk_at dksX9_worked_11 19 rfl rfl)
theorem dX9_worked_273 : decode cX9_worked 273 = .ok (.getfield 111, 3) := dk_180 0 111 (dk_at dksX9_worked_11 20 rfl rfl)
theorem dX9_worked_276 : decode cX9_worked 276 = .ok (.iload_n 2, 1) := dk_28 (dk_at dksX9_worked_11 23 rfl rfl)
theorem dX9_worked_277 : decode cX9_worked 277 = .ok (.iaload, 1) := dk_46 (dk_at dksX9_worked_12 0 rfl rfl)
theorem dX9_worked_278 : decode cX9_worked 278 = .ok (.iconst 1, 1) := dk_4 (dk_at dksX9_worked_12 1 rfl rfl)
theorem dX9_worked_279 : decode cX9_worked 279 = .ok (.if_icmp .ne 21, 3) := dk_160 0 21 (dk_at dksX9_worked_12 2 rfl rfl)
theorem dX9_worked_282 : decode cX9_worked 282 = .ok (.iload 5, 2) := dk_21 5 (dk_at dksX9_worked_12 5 rfl rfl)
theorem dX9_worked_284 : decode cX9_worked 284 = .ok (.ifCond .ne 7, 3) := dk_154 0 7 (dk_at dksX9_worked_12 7 rfl rfl)
theorem dX9_worked_287 : decode cX9_worked 287 = .ok (.iconst 1, 1) := dk_4 (dk_at dksX9_worked_12 10 rfl rfl)
theorem dX9_worked_288 : decode cX9_worked 288 = .ok (.goto 4, 3) := dk_167 0 4 (dk_at dksX9_worked_12 11 rfl rfl)
theorem dX9_worked_291 : decode cX9_worked 291 = .ok (.iconst 0, 1) := dk_3 (dk_at dksX9_worked_12 14 rfl rfl)
theorem dX9_worked_292 : decode cX9_worked 292 = .ok (.istore 5, 2) := dk_54 5 (dk_at dksX9_worked_12 15 rfl rfl)
theorem dX9_worked_294 : decode cX9_worked 294 = .ok (.iinc 2 (-1), 3) := dk_132 2 255 (dk_at dksX9_worked_12 17 rfl rfl)
theorem dX9_worked_297 : decode cX9_worked 297 = .ok (.goto (-29), 3) := dk_167 255 227 (dk_at dksX9_worked_12 20 rfl rfl)
theorem dX9_worked_300 : decode cX9_worked 300 = .ok (.aload_n 0, 1) := dk_42 (dk_at dksX9_worked_12 23 rfl rfl)
theorem dX9_worked_301 : decode cX9_worked 301 = .ok (.getfield 105, 3) := dk_180 0 105 (dk_at dksX9_worked_13 0 rfl rfl)
theorem dX9_worked_304 : decode cX9_worked 304 = .ok (.iload_n 2, 1) := dk_28 (dk_at dksX9_worked_13 3 rfl rfl)
theorem dX9_worked_305 : decode cX9_worked 305 = .ok (.aload_n 0, 1) := dk_42 (dk_at dksX9_worked_13 4 rfl rfl)
theorem dX9_worked_306 : decode cX9_worked 306 = .ok (.getfield 108, 3) := dk_180 0 108 (dk_at dksX9_worked_13 5 rfl rfl)
theorem dX9_worked_309 : decode cX9_worked 309 = .ok (.iload_n 2, 1) := dk_28 (dk_at dksX9_worked_13 8 rfl rfl)
theorem dX9_worked_310 : decode cX9_worked 310 = .ok (.iaload, 1) := dk_46 (dk_at dksX9_worked_13 9 rfl rfl)
theorem dX9_worked_311 : decode cX9_worked 311 = .ok (.ifCond .ne 8, 3) := dk_154 0 8 (dk_at dksX9_worked_13 10 rfl rfl)
theorem dX9_worked_314 : decode cX9_worked 314 = .ok (.iload 5, 2) := dk_21 5 (dk_at dksX9_worked_13 13 rfl rfl)
theorem dX9_worked_316 : decode cX9_worked 316 = .ok (.goto 12, 3) := dk_167 0 12 (dk_at dksX9_worked_13 15 rfl rfl)
theorem dX9_worked_319 : decode cX9_worked 319 = .ok (.aload_n 0, 1) := dk_42 (dk_at dksX9_worked_13 18 rfl rfl)
theorem dX9_worked_320 : decode cX9_worked 320 = .ok (.getfield 105, 3) := dk_180 0 105 (dk_at dksX9_worked_13 19 rfl rfl)
theorem dX9_worked_323 : decode cX9_worked 323 = .ok (.iload_n 2, 1) := dk_28 (dk_at dksX9_worked_13 22 rfl rfl)
theorem dX9_worked_324 : decode cX9_worked 324 = .ok (.iaload, 1) := dk_46 (dk_at dksX9_worked_13 23 rfl rfl)
theorem dX9_worked_325 : decode cX9_worked 325 = .ok (.iload 5, 2) := dk_21 5 (dk_at dksX9_worked_14 0 rfl rfl)
theorem dX9_worked_327 : decode cX9_worked 327 = .ok (.imul, 1) := dk_104 (dk_at dksX9_worked_14 2 rfl rfl)
theorem dX9_worked_328 : decode cX9_worked 328 = .ok (.iastore, 1) := dk_79 (dk_at dksX9_worked_14 3 rfl rfl)
theorem dX9_worked_329 : decode cX9_worked 329 = .ok (.iinc 3 1, 3) := dk_132 3 1 (dk_at dksX9_worked_14 4 rfl rfl)
theorem dX9_worked_332 : decode cX9_worked 332 = .ok (.goto (-318), 3) := dk_167 254 194 (dk_at dksX9_worked_14 7 rfl rfl)
theorem dX9_worked_335 : decode cX9_worked 335 = .ok (.aload_n 0, 1) := dk_42 (dk_at dksX9_worked_14 10 rfl rfl)
theorem dX9_worked_336 : decode cX9_worked 336 = .ok (.iconst 0, 1) := dk_3 (dk_at dksX9_worked_14 11 rfl rfl)
theorem dX9_worked_337 : decode cX9_worked 337 = .ok (.invokevirtual 303, 3) := dk_182 1 47 (dk_at dksX9_worked_14 12 rfl rfl)
theorem dX9_worked_340 : decode cX9_worked 340 = .ok (.aload_n 0, 1) := dk_42 (dk_at dksX9_worked_14 15 rfl rfl)
theorem dX9_worked_341 : decode cX9_worked 341 = .ok (.getfield 87, 3) := dk_180 0 87 (dk_at dksX9_worked_14 16 rfl rfl)
theorem dX9_worked_344 : decode cX9_worked 344 = .ok (.iconst 0, 1) := dk_3 (dk_at dksX9_worked_14 19 rfl rfl)
theorem dX9_worked_345 : decode cX9_worked 345 = .ok (.iaload, 1) := dk_46 (dk_at dksX9_worked_14 20 rfl rfl)
theorem dX9_worked_346 : decode cX9_worked 346 = .ok (.ireturn, 1) := dk_172 (dk_at dksX9_worked_14 21 rfl rfl)
abbrev cX9_opens : ByteArray := prog_35_method_16_code
def yX9_opens : MethodName := ⟨RX9, "opens", "(I)V"⟩
def dkwX9_opens_1 : List UInt8 := [180, 0, 102, 27, 16, 20, 79, 42, 180, 0, 108, 27, 3, 79, 177]
abbrev dktX9_opens_1 : List UInt8 := dkwX9_opens_1 ++ []
def dkwX9_opens_0 : List UInt8 := [42, 180, 0, 90, 27, 3, 79, 42, 180, 0, 96, 27, 3, 79, 42, 180, 0, 99, 27, 3, 79, 42]
abbrev dktX9_opens_0 : List UInt8 := dkwX9_opens_0 ++ dktX9_opens_1
theorem dksX9_opens_0 : cX9_opens.data.toList.drop 0 = dktX9_opens_0 := by decide +kernel
theorem dksX9_opens_1 : cX9_opens.data.toList.drop 22 = dktX9_opens_1 := dk_seg dksX9_opens_0 22 rfl rfl
theorem dX9_opens_0 : decode cX9_opens 0 = .ok (.aload_n 0, 1) := dk_42 (dk_at dksX9_opens_0 0 rfl rfl)
theorem dX9_opens_1 : decode cX9_opens 1 = .ok (.getfield 90, 3) := dk_180 0 90 (dk_at dksX9_opens_0 1 rfl rfl)
theorem dX9_opens_4 : decode cX9_opens 4 = .ok (.iload_n 1, 1) := dk_27 (dk_at dksX9_opens_0 4 rfl rfl)
theorem dX9_opens_5 : decode cX9_opens 5 = .ok (.iconst 0, 1) := dk_3 (dk_at dksX9_opens_0 5 rfl rfl)
theorem dX9_opens_6 : decode cX9_opens 6 = .ok (.iastore, 1) := dk_79 (dk_at dksX9_opens_0 6 rfl rfl)
theorem dX9_opens_7 : decode cX9_opens 7 = .ok (.aload_n 0, 1) := dk_42 (dk_at dksX9_opens_0 7 rfl rfl)
theorem dX9_opens_8 : decode cX9_opens 8 = .ok (.getfield 96, 3) := dk_180 0 96 (dk_at dksX9_opens_0 8 rfl rfl)
theorem dX9_opens_11 : decode cX9_opens 11 = .ok (.iload_n 1, 1) := dk_27 (dk_at dksX9_opens_0 11 rfl rfl)
theorem dX9_opens_12 : decode cX9_opens 12 = .ok (.iconst 0, 1) := dk_3 (dk_at dksX9_opens_0 12 rfl rfl)
theorem dX9_opens_13 : decode cX9_opens 13 = .ok (.iastore, 1) := dk_79 (dk_at dksX9_opens_0 13 rfl rfl)
theorem dX9_opens_14 : decode cX9_opens 14 = .ok (.aload_n 0, 1) := dk_42 (dk_at dksX9_opens_0 14 rfl rfl)
theorem dX9_opens_15 : decode cX9_opens 15 = .ok (.getfield 99, 3) := dk_180 0 99 (dk_at dksX9_opens_0 15 rfl rfl)
theorem dX9_opens_18 : decode cX9_opens 18 = .ok (.iload_n 1, 1) := dk_27 (dk_at dksX9_opens_0 18 rfl rfl)
theorem dX9_opens_19 : decode cX9_opens 19 = .ok (.iconst 0, 1) := dk_3 (dk_at dksX9_opens_0 19 rfl rfl)
theorem dX9_opens_20 : decode cX9_opens 20 = .ok (.iastore, 1) := dk_79 (dk_at dksX9_opens_0 20 rfl rfl)
theorem dX9_opens_21 : decode cX9_opens 21 = .ok (.aload_n 0, 1) := dk_42 (dk_at dksX9_opens_0 21 rfl rfl)
theorem dX9_opens_22 : decode cX9_opens 22 = .ok (.getfield 102, 3) := dk_180 0 102 (dk_at dksX9_opens_1 0 rfl rfl)
theorem dX9_opens_25 : decode cX9_opens 25 = .ok (.iload_n 1, 1) := dk_27 (dk_at dksX9_opens_1 3 rfl rfl)
theorem dX9_opens_26 : decode cX9_opens 26 = .ok (.bipush 20, 2) := dk_16 20 (dk_at dksX9_opens_1 4 rfl rfl)
theorem dX9_opens_28 : decode cX9_opens 28 = .ok (.iastore, 1) := dk_79 (dk_at dksX9_opens_1 6 rfl rfl)
theorem dX9_opens_29 : decode cX9_opens 29 = .ok (.aload_n 0, 1) := dk_42 (dk_at dksX9_opens_1 7 rfl rfl)
theorem dX9_opens_30 : decode cX9_opens 30 = .ok (.getfield 108, 3) := dk_180 0 108 (dk_at dksX9_opens_1 8 rfl rfl)
theorem dX9_opens_33 : decode cX9_opens 33 = .ok (.iload_n 1, 1) := dk_27 (dk_at dksX9_opens_1 11 rfl rfl)
theorem dX9_opens_34 : decode cX9_opens 34 = .ok (.iconst 0, 1) := dk_3 (dk_at dksX9_opens_1 12 rfl rfl)
theorem dX9_opens_35 : decode cX9_opens 35 = .ok (.iastore, 1) := dk_79 (dk_at dksX9_opens_1 13 rfl rfl)
theorem dX9_opens_36 : decode cX9_opens 36 = .ok (.return_, 1) := dk_177 (dk_at dksX9_opens_1 14 rfl rfl)
abbrev cX9_sums : ByteArray := prog_35_method_17_code
def yX9_sums : MethodName := ⟨RX9, "sums", "(I)V"⟩
def dkwX9_sums_2 : List UInt8 := [180, 0, 108, 27, 3, 79, 177]
abbrev dktX9_sums_2 : List UInt8 := dkwX9_sums_2 ++ []
def dkwX9_sums_1 : List UInt8 := [180, 0, 105, 27, 46, 100, 167, 0, 16, 42, 180, 0, 99, 27, 46, 42, 180, 0, 105, 27, 46, 96, 79, 42]
abbrev dktX9_sums_1 : List UInt8 := dkwX9_sums_1 ++ dktX9_sums_2
def dkwX9_sums_0 : List UInt8 := [42, 180, 0, 99, 27, 42, 180, 0, 102, 27, 46, 16, 21, 160, 0, 19, 42, 180, 0, 99, 27, 46, 42]
abbrev dktX9_sums_0 : List UInt8 := dkwX9_sums_0 ++ dktX9_sums_1
theorem dksX9_sums_0 : cX9_sums.data.toList.drop 0 = dktX9_sums_0 := by decide +kernel
theorem dksX9_sums_1 : cX9_sums.data.toList.drop 23 = dktX9_sums_1 := dk_seg dksX9_sums_0 23 rfl rfl
theorem dksX9_sums_2 : cX9_sums.data.toList.drop 47 = dktX9_sums_2 := dk_seg dksX9_sums_1 24 rfl rfl
theorem dX9_sums_0 : decode cX9_sums 0 = .ok (.aload_n 0, 1) := dk_42 (dk_at dksX9_sums_0 0 rfl rfl)
theorem dX9_sums_1 : decode cX9_sums 1 = .ok (.getfield 99, 3) := dk_180 0 99 (dk_at dksX9_sums_0 1 rfl rfl)
theorem dX9_sums_4 : decode cX9_sums 4 = .ok (.iload_n 1, 1) := dk_27 (dk_at dksX9_sums_0 4 rfl rfl)
theorem dX9_sums_5 : decode cX9_sums 5 = .ok (.aload_n 0, 1) := dk_42 (dk_at dksX9_sums_0 5 rfl rfl)
theorem dX9_sums_6 : decode cX9_sums 6 = .ok (.getfield 102, 3) := dk_180 0 102 (dk_at dksX9_sums_0 6 rfl rfl)
theorem dX9_sums_9 : decode cX9_sums 9 = .ok (.iload_n 1, 1) := dk_27 (dk_at dksX9_sums_0 9 rfl rfl)
theorem dX9_sums_10 : decode cX9_sums 10 = .ok (.iaload, 1) := dk_46 (dk_at dksX9_sums_0 10 rfl rfl)
theorem dX9_sums_11 : decode cX9_sums 11 = .ok (.bipush 21, 2) := dk_16 21 (dk_at dksX9_sums_0 11 rfl rfl)
theorem dX9_sums_13 : decode cX9_sums 13 = .ok (.if_icmp .ne 19, 3) := dk_160 0 19 (dk_at dksX9_sums_0 13 rfl rfl)
theorem dX9_sums_16 : decode cX9_sums 16 = .ok (.aload_n 0, 1) := dk_42 (dk_at dksX9_sums_0 16 rfl rfl)
theorem dX9_sums_17 : decode cX9_sums 17 = .ok (.getfield 99, 3) := dk_180 0 99 (dk_at dksX9_sums_0 17 rfl rfl)
theorem dX9_sums_20 : decode cX9_sums 20 = .ok (.iload_n 1, 1) := dk_27 (dk_at dksX9_sums_0 20 rfl rfl)
theorem dX9_sums_21 : decode cX9_sums 21 = .ok (.iaload, 1) := dk_46 (dk_at dksX9_sums_0 21 rfl rfl)
theorem dX9_sums_22 : decode cX9_sums 22 = .ok (.aload_n 0, 1) := dk_42 (dk_at dksX9_sums_0 22 rfl rfl)
theorem dX9_sums_23 : decode cX9_sums 23 = .ok (.getfield 105, 3) := dk_180 0 105 (dk_at dksX9_sums_1 0 rfl rfl)
theorem dX9_sums_26 : decode cX9_sums 26 = .ok (.iload_n 1, 1) := dk_27 (dk_at dksX9_sums_1 3 rfl rfl)
theorem dX9_sums_27 : decode cX9_sums 27 = .ok (.iaload, 1) := dk_46 (dk_at dksX9_sums_1 4 rfl rfl)
theorem dX9_sums_28 : decode cX9_sums 28 = .ok (.isub, 1) := dk_100 (dk_at dksX9_sums_1 5 rfl rfl)
theorem dX9_sums_29 : decode cX9_sums 29 = .ok (.goto 16, 3) := dk_167 0 16 (dk_at dksX9_sums_1 6 rfl rfl)
theorem dX9_sums_32 : decode cX9_sums 32 = .ok (.aload_n 0, 1) := dk_42 (dk_at dksX9_sums_1 9 rfl rfl)
theorem dX9_sums_33 : decode cX9_sums 33 = .ok (.getfield 99, 3) := dk_180 0 99 (dk_at dksX9_sums_1 10 rfl rfl)
theorem dX9_sums_36 : decode cX9_sums 36 = .ok (.iload_n 1, 1) := dk_27 (dk_at dksX9_sums_1 13 rfl rfl)
theorem dX9_sums_37 : decode cX9_sums 37 = .ok (.iaload, 1) := dk_46 (dk_at dksX9_sums_1 14 rfl rfl)
theorem dX9_sums_38 : decode cX9_sums 38 = .ok (.aload_n 0, 1) := dk_42 (dk_at dksX9_sums_1 15 rfl rfl)
theorem dX9_sums_39 : decode cX9_sums 39 = .ok (.getfield 105, 3) := dk_180 0 105 (dk_at dksX9_sums_1 16 rfl rfl)
theorem dX9_sums_42 : decode cX9_sums 42 = .ok (.iload_n 1, 1) := dk_27 (dk_at dksX9_sums_1 19 rfl rfl)
theorem dX9_sums_43 : decode cX9_sums 43 = .ok (.iaload, 1) := dk_46 (dk_at dksX9_sums_1 20 rfl rfl)
theorem dX9_sums_44 : decode cX9_sums 44 = .ok (.iadd, 1) := dk_96 (dk_at dksX9_sums_1 21 rfl rfl)
theorem dX9_sums_45 : decode cX9_sums 45 = .ok (.iastore, 1) := dk_79 (dk_at dksX9_sums_1 22 rfl rfl)
theorem dX9_sums_46 : decode cX9_sums 46 = .ok (.aload_n 0, 1) := dk_42 (dk_at dksX9_sums_1 23 rfl rfl)
theorem dX9_sums_47 : decode cX9_sums 47 = .ok (.getfield 108, 3) := dk_180 0 108 (dk_at dksX9_sums_2 0 rfl rfl)
theorem dX9_sums_50 : decode cX9_sums 50 = .ok (.iload_n 1, 1) := dk_27 (dk_at dksX9_sums_2 3 rfl rfl)
theorem dX9_sums_51 : decode cX9_sums 51 = .ok (.iconst 0, 1) := dk_3 (dk_at dksX9_sums_2 4 rfl rfl)
theorem dX9_sums_52 : decode cX9_sums 52 = .ok (.iastore, 1) := dk_79 (dk_at dksX9_sums_2 5 rfl rfl)
theorem dX9_sums_53 : decode cX9_sums 53 = .ok (.return_, 1) := dk_177 (dk_at dksX9_sums_2 6 rfl rfl)
abbrev cX9_tests : ByteArray := prog_35_method_18_code
def yX9_tests : MethodName := ⟨RX9, "tests", "(I)V"⟩
def dkwX9_tests_7 : List UInt8 := [177]
abbrev dktX9_tests_7 : List UInt8 := dkwX9_tests_7 ++ []
def dkwX9_tests_6 : List UInt8 := [28, 79, 42, 180, 0, 96, 27, 3, 79, 42, 180, 0, 99, 27, 3, 79, 42, 180, 0, 102, 27, 16, 20, 79]
abbrev dktX9_tests_6 : List UInt8 := dkwX9_tests_6 ++ dktX9_tests_7
def dkwX9_tests_5 : List UInt8 := [42, 180, 0, 87, 27, 46, 154, 0, 7, 28, 153, 0, 7, 4, 167, 0, 4, 3, 61, 42, 180, 0, 87, 27]
abbrev dktX9_tests_5 : List UInt8 := dkwX9_tests_5 ++ dktX9_tests_6
def dkwX9_tests_4 : List UInt8 := [153, 0, 11, 28, 153, 0, 7, 4, 167, 0, 4, 3, 61, 42, 180, 0, 90, 27, 46, 16, 27, 160, 0, 22]
abbrev dktX9_tests_4 : List UInt8 := dkwX9_tests_4 ++ dktX9_tests_5
def dkwX9_tests_3 : List UInt8 := [167, 0, 4, 3, 61, 42, 180, 0, 90, 27, 46, 16, 26, 160, 0, 22, 42, 180, 0, 87, 27, 46]
abbrev dktX9_tests_3 : List UInt8 := dkwX9_tests_3 ++ dktX9_tests_4
def dkwX9_tests_2 : List UInt8 := [27, 46, 16, 25, 160, 0, 24, 42, 180, 0, 93, 27, 46, 42, 180, 0, 99, 27, 46, 160, 0, 7, 4]
abbrev dktX9_tests_2 : List UInt8 := dkwX9_tests_2 ++ dktX9_tests_3
def dkwX9_tests_1 : List UInt8 := [180, 0, 93, 27, 46, 42, 180, 0, 99, 27, 46, 162, 0, 7, 4, 167, 0, 4, 3, 61, 42, 180, 0, 96]
abbrev dktX9_tests_1 : List UInt8 := dkwX9_tests_1 ++ dktX9_tests_2
def dkwX9_tests_0 : List UInt8 := [42, 27, 182, 1, 41, 42, 180, 0, 99, 27, 46, 61, 42, 180, 0, 96, 27, 46, 16, 24, 160, 0, 24, 42]
abbrev dktX9_tests_0 : List UInt8 := dkwX9_tests_0 ++ dktX9_tests_1
theorem dksX9_tests_0 : cX9_tests.data.toList.drop 0 = dktX9_tests_0 := by decide +kernel
theorem dksX9_tests_1 : cX9_tests.data.toList.drop 24 = dktX9_tests_1 := dk_seg dksX9_tests_0 24 rfl rfl
theorem dksX9_tests_2 : cX9_tests.data.toList.drop 48 = dktX9_tests_2 := dk_seg dksX9_tests_1 24 rfl rfl
theorem dksX9_tests_3 : cX9_tests.data.toList.drop 71 = dktX9_tests_3 := dk_seg dksX9_tests_2 23 rfl rfl
theorem dksX9_tests_4 : cX9_tests.data.toList.drop 93 = dktX9_tests_4 := dk_seg dksX9_tests_3 22 rfl rfl
theorem dksX9_tests_5 : cX9_tests.data.toList.drop 117 = dktX9_tests_5 := dk_seg dksX9_tests_4 24 rfl rfl
theorem dksX9_tests_6 : cX9_tests.data.toList.drop 141 = dktX9_tests_6 := dk_seg dksX9_tests_5 24 rfl rfl
theorem dksX9_tests_7 : cX9_tests.data.toList.drop 165 = dktX9_tests_7 := dk_seg dksX9_tests_6 24 rfl rfl
theorem dX9_tests_0 : decode cX9_tests 0 = .ok (.aload_n 0, 1) := dk_42 (dk_at dksX9_tests_0 0 rfl rfl)
theorem dX9_tests_1 : decode cX9_tests 1 = .ok (.iload_n 1, 1) := dk_27 (dk_at dksX9_tests_0 1 rfl rfl)
theorem dX9_tests_2 : decode cX9_tests 2 = .ok (.invokevirtual 297, 3) := dk_182 1 41 (dk_at dksX9_tests_0 2 rfl rfl)
theorem dX9_tests_5 : decode cX9_tests 5 = .ok (.aload_n 0, 1) := dk_42 (dk_at dksX9_tests_0 5 rfl rfl)
theorem dX9_tests_6 : decode cX9_tests 6 = .ok (.getfield 99, 3) := dk_180 0 99 (dk_at dksX9_tests_0 6 rfl rfl)
theorem dX9_tests_9 : decode cX9_tests 9 = .ok (.iload_n 1, 1) := dk_27 (dk_at dksX9_tests_0 9 rfl rfl)
theorem dX9_tests_10 : decode cX9_tests 10 = .ok (.iaload, 1) := dk_46 (dk_at dksX9_tests_0 10 rfl rfl)
theorem dX9_tests_11 : decode cX9_tests 11 = .ok (.istore_n 2, 1) := dk_61 (dk_at dksX9_tests_0 11 rfl rfl)
theorem dX9_tests_12 : decode cX9_tests 12 = .ok (.aload_n 0, 1) := dk_42 (dk_at dksX9_tests_0 12 rfl rfl)
theorem dX9_tests_13 : decode cX9_tests 13 = .ok (.getfield 96, 3) := dk_180 0 96 (dk_at dksX9_tests_0 13 rfl rfl)
theorem dX9_tests_16 : decode cX9_tests 16 = .ok (.iload_n 1, 1) := dk_27 (dk_at dksX9_tests_0 16 rfl rfl)
theorem dX9_tests_17 : decode cX9_tests 17 = .ok (.iaload, 1) := dk_46 (dk_at dksX9_tests_0 17 rfl rfl)
theorem dX9_tests_18 : decode cX9_tests 18 = .ok (.bipush 24, 2) := dk_16 24 (dk_at dksX9_tests_0 18 rfl rfl)
theorem dX9_tests_20 : decode cX9_tests 20 = .ok (.if_icmp .ne 24, 3) := dk_160 0 24 (dk_at dksX9_tests_0 20 rfl rfl)
theorem dX9_tests_23 : decode cX9_tests 23 = .ok (.aload_n 0, 1) := dk_42 (dk_at dksX9_tests_0 23 rfl rfl)
theorem dX9_tests_24 : decode cX9_tests 24 = .ok (.getfield 93, 3) := dk_180 0 93 (dk_at dksX9_tests_1 0 rfl rfl)
theorem dX9_tests_27 : decode cX9_tests 27 = .ok (.iload_n 1, 1) := dk_27 (dk_at dksX9_tests_1 3 rfl rfl)
theorem dX9_tests_28 : decode cX9_tests 28 = .ok (.iaload, 1) := dk_46 (dk_at dksX9_tests_1 4 rfl rfl)
theorem dX9_tests_29 : decode cX9_tests 29 = .ok (.aload_n 0, 1) := dk_42 (dk_at dksX9_tests_1 5 rfl rfl)
theorem dX9_tests_30 : decode cX9_tests 30 = .ok (.getfield 99, 3) := dk_180 0 99 (dk_at dksX9_tests_1 6 rfl rfl)
theorem dX9_tests_33 : decode cX9_tests 33 = .ok (.iload_n 1, 1) := dk_27 (dk_at dksX9_tests_1 9 rfl rfl)
theorem dX9_tests_34 : decode cX9_tests 34 = .ok (.iaload, 1) := dk_46 (dk_at dksX9_tests_1 10 rfl rfl)
theorem dX9_tests_35 : decode cX9_tests 35 = .ok (.if_icmp .ge 7, 3) := dk_162 0 7 (dk_at dksX9_tests_1 11 rfl rfl)
theorem dX9_tests_38 : decode cX9_tests 38 = .ok (.iconst 1, 1) := dk_4 (dk_at dksX9_tests_1 14 rfl rfl)
theorem dX9_tests_39 : decode cX9_tests 39 = .ok (.goto 4, 3) := dk_167 0 4 (dk_at dksX9_tests_1 15 rfl rfl)
theorem dX9_tests_42 : decode cX9_tests 42 = .ok (.iconst 0, 1) := dk_3 (dk_at dksX9_tests_1 18 rfl rfl)
theorem dX9_tests_43 : decode cX9_tests 43 = .ok (.istore_n 2, 1) := dk_61 (dk_at dksX9_tests_1 19 rfl rfl)
theorem dX9_tests_44 : decode cX9_tests 44 = .ok (.aload_n 0, 1) := dk_42 (dk_at dksX9_tests_1 20 rfl rfl)
theorem dX9_tests_45 : decode cX9_tests 45 = .ok (.getfield 96, 3) := dk_180 0 96 (dk_at dksX9_tests_1 21 rfl rfl)
theorem dX9_tests_48 : decode cX9_tests 48 = .ok (.iload_n 1, 1) := dk_27 (dk_at dksX9_tests_2 0 rfl rfl)
theorem dX9_tests_49 : decode cX9_tests 49 = .ok (.iaload, 1) := dk_46 (dk_at dksX9_tests_2 1 rfl rfl)
theorem dX9_tests_50 : decode cX9_tests 50 = .ok (.bipush 25, 2) := dk_16 25 (dk_at dksX9_tests_2 2 rfl rfl)
theorem dX9_tests_52 : decode cX9_tests 52 = .ok (.if_icmp .ne 24, 3) := dk_160 0 24 (dk_at dksX9_tests_2 4 rfl rfl)
theorem dX9_tests_55 : decode cX9_tests 55 = .ok (.aload_n 0, 1) := dk_42 (dk_at dksX9_tests_2 7 rfl rfl)
theorem dX9_tests_56 : decode cX9_tests 56 = .ok (.getfield 93, 3) := dk_180 0 93 (dk_at dksX9_tests_2 8 rfl rfl)
theorem dX9_tests_59 : decode cX9_tests 59 = .ok (.iload_n 1, 1) := dk_27 (dk_at dksX9_tests_2 11 rfl rfl)
theorem dX9_tests_60 : decode cX9_tests 60 = .ok (.iaload, 1) := dk_46 (dk_at dksX9_tests_2 12 rfl rfl)
theorem dX9_tests_61 : decode cX9_tests 61 = .ok (.aload_n 0, 1) := dk_42 (dk_at dksX9_tests_2 13 rfl rfl)
theorem dX9_tests_62 : decode cX9_tests 62 = .ok (.getfield 99, 3) := dk_180 0 99 (dk_at dksX9_tests_2 14 rfl rfl)
theorem dX9_tests_65 : decode cX9_tests 65 = .ok (.iload_n 1, 1) := dk_27 (dk_at dksX9_tests_2 17 rfl rfl)
theorem dX9_tests_66 : decode cX9_tests 66 = .ok (.iaload, 1) := dk_46 (dk_at dksX9_tests_2 18 rfl rfl)
theorem dX9_tests_67 : decode cX9_tests 67 = .ok (.if_icmp .ne 7, 3) := dk_160 0 7 (dk_at dksX9_tests_2 19 rfl rfl)
theorem dX9_tests_70 : decode cX9_tests 70 = .ok (.iconst 1, 1) := dk_4 (dk_at dksX9_tests_2 22 rfl rfl)
theorem dX9_tests_71 : decode cX9_tests 71 = .ok (.goto 4, 3) := dk_167 0 4 (dk_at dksX9_tests_3 0 rfl rfl)
theorem dX9_tests_74 : decode cX9_tests 74 = .ok (.iconst 0, 1) := dk_3 (dk_at dksX9_tests_3 3 rfl rfl)
theorem dX9_tests_75 : decode cX9_tests 75 = .ok (.istore_n 2, 1) := dk_61 (dk_at dksX9_tests_3 4 rfl rfl)
theorem dX9_tests_76 : decode cX9_tests 76 = .ok (.aload_n 0, 1) := dk_42 (dk_at dksX9_tests_3 5 rfl rfl)
theorem dX9_tests_77 : decode cX9_tests 77 = .ok (.getfield 90, 3) := dk_180 0 90 (dk_at dksX9_tests_3 6 rfl rfl)
theorem dX9_tests_80 : decode cX9_tests 80 = .ok (.iload_n 1, 1) := dk_27 (dk_at dksX9_tests_3 9 rfl rfl)
theorem dX9_tests_81 : decode cX9_tests 81 = .ok (.iaload, 1) := dk_46 (dk_at dksX9_tests_3 10 rfl rfl)
theorem dX9_tests_82 : decode cX9_tests 82 = .ok (.bipush 26, 2) := dk_16 26 (dk_at dksX9_tests_3 11 rfl rfl)
theorem dX9_tests_84 : decode cX9_tests 84 = .ok (.if_icmp .ne 22, 3) := dk_160 0 22 (dk_at dksX9_tests_3 13 rfl rfl)
theorem dX9_tests_87 : decode cX9_tests 87 = .ok (.aload_n 0, 1) := dk_42 (dk_at dksX9_tests_3 16 rfl rfl)
theorem dX9_tests_88 : decode cX9_tests 88 = .ok (.getfield 87, 3) := dk_180 0 87 (dk_at dksX9_tests_3 17 rfl rfl)
theorem dX9_tests_91 : decode cX9_tests 91 = .ok (.iload_n 1, 1) := dk_27 (dk_at dksX9_tests_3 20 rfl rfl)
theorem dX9_tests_92 : decode cX9_tests 92 = .ok (.iaload, 1) := dk_46 (dk_at dksX9_tests_3 21 rfl rfl)
theorem dX9_tests_93 : decode cX9_tests 93 = .ok (.ifCond .eq 11, 3) := dk_153 0 11 (dk_at dksX9_tests_4 0 rfl rfl)
theorem dX9_tests_96 : decode cX9_tests 96 = .ok (.iload_n 2, 1) := dk_28 (dk_at dksX9_tests_4 3 rfl rfl)
theorem dX9_tests_97 : decode cX9_tests 97 = .ok (.ifCond .eq 7, 3) := dk_153 0 7 (dk_at dksX9_tests_4 4 rfl rfl)
theorem dX9_tests_100 : decode cX9_tests 100 = .ok (.iconst 1, 1) := dk_4 (dk_at dksX9_tests_4 7 rfl rfl)
theorem dX9_tests_101 : decode cX9_tests 101 = .ok (.goto 4, 3) := dk_167 0 4 (dk_at dksX9_tests_4 8 rfl rfl)
theorem dX9_tests_104 : decode cX9_tests 104 = .ok (.iconst 0, 1) := dk_3 (dk_at dksX9_tests_4 11 rfl rfl)
theorem dX9_tests_105 : decode cX9_tests 105 = .ok (.istore_n 2, 1) := dk_61 (dk_at dksX9_tests_4 12 rfl rfl)
theorem dX9_tests_106 : decode cX9_tests 106 = .ok (.aload_n 0, 1) := dk_42 (dk_at dksX9_tests_4 13 rfl rfl)
theorem dX9_tests_107 : decode cX9_tests 107 = .ok (.getfield 90, 3) := dk_180 0 90 (dk_at dksX9_tests_4 14 rfl rfl)
theorem dX9_tests_110 : decode cX9_tests 110 = .ok (.iload_n 1, 1) := dk_27 (dk_at dksX9_tests_4 17 rfl rfl)
theorem dX9_tests_111 : decode cX9_tests 111 = .ok (.iaload, 1) := dk_46 (dk_at dksX9_tests_4 18 rfl rfl)
theorem dX9_tests_112 : decode cX9_tests 112 = .ok (.bipush 27, 2) := dk_16 27 (dk_at dksX9_tests_4 19 rfl rfl)
theorem dX9_tests_114 : decode cX9_tests 114 = .ok (.if_icmp .ne 22, 3) := dk_160 0 22 (dk_at dksX9_tests_4 21 rfl rfl)
theorem dX9_tests_117 : decode cX9_tests 117 = .ok (.aload_n 0, 1) := dk_42 (dk_at dksX9_tests_5 0 rfl rfl)
theorem dX9_tests_118 : decode cX9_tests 118 = .ok (.getfield 87, 3) := dk_180 0 87 (dk_at dksX9_tests_5 1 rfl rfl)
theorem dX9_tests_121 : decode cX9_tests 121 = .ok (.iload_n 1, 1) := dk_27 (dk_at dksX9_tests_5 4 rfl rfl)
theorem dX9_tests_122 : decode cX9_tests 122 = .ok (.iaload, 1) := dk_46 (dk_at dksX9_tests_5 5 rfl rfl)
theorem dX9_tests_123 : decode cX9_tests 123 = .ok (.ifCond .ne 7, 3) := dk_154 0 7 (dk_at dksX9_tests_5 6 rfl rfl)
theorem dX9_tests_126 : decode cX9_tests 126 = .ok (.iload_n 2, 1) := dk_28 (dk_at dksX9_tests_5 9 rfl rfl)
theorem dX9_tests_127 : decode cX9_tests 127 = .ok (.ifCond .eq 7, 3) := dk_153 0 7 (dk_at dksX9_tests_5 10 rfl rfl)
theorem dX9_tests_130 : decode cX9_tests 130 = .ok (.iconst 1, 1) := dk_4 (dk_at dksX9_tests_5 13 rfl rfl)
theorem dX9_tests_131 : decode cX9_tests 131 = .ok (.goto 4, 3) := dk_167 0 4 (dk_at dksX9_tests_5 14 rfl rfl)
theorem dX9_tests_134 : decode cX9_tests 134 = .ok (.iconst 0, 1) := dk_3 (dk_at dksX9_tests_5 17 rfl rfl)
theorem dX9_tests_135 : decode cX9_tests 135 = .ok (.istore_n 2, 1) := dk_61 (dk_at dksX9_tests_5 18 rfl rfl)
theorem dX9_tests_136 : decode cX9_tests 136 = .ok (.aload_n 0, 1) := dk_42 (dk_at dksX9_tests_5 19 rfl rfl)
theorem dX9_tests_137 : decode cX9_tests 137 = .ok (.getfield 87, 3) := dk_180 0 87 (dk_at dksX9_tests_5 20 rfl rfl)
theorem dX9_tests_140 : decode cX9_tests 140 = .ok (.iload_n 1, 1) := dk_27 (dk_at dksX9_tests_5 23 rfl rfl)
theorem dX9_tests_141 : decode cX9_tests 141 = .ok (.iload_n 2, 1) := dk_28 (dk_at dksX9_tests_6 0 rfl rfl)
theorem dX9_tests_142 : decode cX9_tests 142 = .ok (.iastore, 1) := dk_79 (dk_at dksX9_tests_6 1 rfl rfl)
theorem dX9_tests_143 : decode cX9_tests 143 = .ok (.aload_n 0, 1) := dk_42 (dk_at dksX9_tests_6 2 rfl rfl)
theorem dX9_tests_144 : decode cX9_tests 144 = .ok (.getfield 96, 3) := dk_180 0 96 (dk_at dksX9_tests_6 3 rfl rfl)
theorem dX9_tests_147 : decode cX9_tests 147 = .ok (.iload_n 1, 1) := dk_27 (dk_at dksX9_tests_6 6 rfl rfl)
theorem dX9_tests_148 : decode cX9_tests 148 = .ok (.iconst 0, 1) := dk_3 (dk_at dksX9_tests_6 7 rfl rfl)
theorem dX9_tests_149 : decode cX9_tests 149 = .ok (.iastore, 1) := dk_79 (dk_at dksX9_tests_6 8 rfl rfl)
theorem dX9_tests_150 : decode cX9_tests 150 = .ok (.aload_n 0, 1) := dk_42 (dk_at dksX9_tests_6 9 rfl rfl)
theorem dX9_tests_151 : decode cX9_tests 151 = .ok (.getfield 99, 3) := dk_180 0 99 (dk_at dksX9_tests_6 10 rfl rfl)
theorem dX9_tests_154 : decode cX9_tests 154 = .ok (.iload_n 1, 1) := dk_27 (dk_at dksX9_tests_6 13 rfl rfl)
theorem dX9_tests_155 : decode cX9_tests 155 = .ok (.iconst 0, 1) := dk_3 (dk_at dksX9_tests_6 14 rfl rfl)
theorem dX9_tests_156 : decode cX9_tests 156 = .ok (.iastore, 1) := dk_79 (dk_at dksX9_tests_6 15 rfl rfl)
theorem dX9_tests_157 : decode cX9_tests 157 = .ok (.aload_n 0, 1) := dk_42 (dk_at dksX9_tests_6 16 rfl rfl)
theorem dX9_tests_158 : decode cX9_tests 158 = .ok (.getfield 102, 3) := dk_180 0 102 (dk_at dksX9_tests_6 17 rfl rfl)
theorem dX9_tests_161 : decode cX9_tests 161 = .ok (.iload_n 1, 1) := dk_27 (dk_at dksX9_tests_6 20 rfl rfl)
theorem dX9_tests_162 : decode cX9_tests 162 = .ok (.bipush 20, 2) := dk_16 20 (dk_at dksX9_tests_6 21 rfl rfl)
theorem dX9_tests_164 : decode cX9_tests 164 = .ok (.iastore, 1) := dk_79 (dk_at dksX9_tests_6 23 rfl rfl)
theorem dX9_tests_165 : decode cX9_tests 165 = .ok (.return_, 1) := dk_177 (dk_at dksX9_tests_7 0 rfl rfl)
abbrev cX9_fresh : ByteArray := prog_35_method_53_code
def yX9_fresh : MethodName := ⟨RX9, "fresh", "()V"⟩
def dkwX9_fresh_2 : List UInt8 := [162, 0, 23, 42, 180, 0, 168, 8, 27, 96, 42, 180, 0, 23, 27, 46, 79, 132, 1, 1, 167, 255, 229, 177]
abbrev dktX9_fresh_2 : List UInt8 := dkwX9_fresh_2 ++ []
def dkwX9_fresh_1 : List UInt8 := [180, 0, 168, 3, 4, 42, 180, 0, 13, 3, 46, 120, 4, 100, 79, 3, 60, 27, 42, 180, 0, 13, 3, 46]
abbrev dktX9_fresh_1 : List UInt8 := dkwX9_fresh_1 ++ dktX9_fresh_2
def dkwX9_fresh_0 : List UInt8 := [3, 60, 27, 16, 15, 162, 0, 16, 42, 180, 0, 168, 27, 3, 79, 132, 1, 1, 167, 255, 240, 42]
abbrev dktX9_fresh_0 : List UInt8 := dkwX9_fresh_0 ++ dktX9_fresh_1
theorem dksX9_fresh_0 : cX9_fresh.data.toList.drop 0 = dktX9_fresh_0 := by decide +kernel
theorem dksX9_fresh_1 : cX9_fresh.data.toList.drop 22 = dktX9_fresh_1 := dk_seg dksX9_fresh_0 22 rfl rfl
theorem dksX9_fresh_2 : cX9_fresh.data.toList.drop 46 = dktX9_fresh_2 := dk_seg dksX9_fresh_1 24 rfl rfl
theorem dX9_fresh_0 : decode cX9_fresh 0 = .ok (.iconst 0, 1) := dk_3 (dk_at dksX9_fresh_0 0 rfl rfl)
theorem dX9_fresh_1 : decode cX9_fresh 1 = .ok (.istore_n 1, 1) := dk_60 (dk_at dksX9_fresh_0 1 rfl rfl)
theorem dX9_fresh_2 : decode cX9_fresh 2 = .ok (.iload_n 1, 1) := dk_27 (dk_at dksX9_fresh_0 2 rfl rfl)
theorem dX9_fresh_3 : decode cX9_fresh 3 = .ok (.bipush 15, 2) := dk_16 15 (dk_at dksX9_fresh_0 3 rfl rfl)
theorem dX9_fresh_5 : decode cX9_fresh 5 = .ok (.if_icmp .ge 16, 3) := dk_162 0 16 (dk_at dksX9_fresh_0 5 rfl rfl)
theorem dX9_fresh_8 : decode cX9_fresh 8 = .ok (.aload_n 0, 1) := dk_42 (dk_at dksX9_fresh_0 8 rfl rfl)
theorem dX9_fresh_9 : decode cX9_fresh 9 = .ok (.getfield 168, 3) := dk_180 0 168 (dk_at dksX9_fresh_0 9 rfl rfl)
theorem dX9_fresh_12 : decode cX9_fresh 12 = .ok (.iload_n 1, 1) := dk_27 (dk_at dksX9_fresh_0 12 rfl rfl)
theorem dX9_fresh_13 : decode cX9_fresh 13 = .ok (.iconst 0, 1) := dk_3 (dk_at dksX9_fresh_0 13 rfl rfl)
theorem dX9_fresh_14 : decode cX9_fresh 14 = .ok (.iastore, 1) := dk_79 (dk_at dksX9_fresh_0 14 rfl rfl)
theorem dX9_fresh_15 : decode cX9_fresh 15 = .ok (.iinc 1 1, 3) := dk_132 1 1 (dk_at dksX9_fresh_0 15 rfl rfl)
theorem dX9_fresh_18 : decode cX9_fresh 18 = .ok (.goto (-16), 3) := dk_167 255 240 (dk_at dksX9_fresh_0 18 rfl rfl)
theorem dX9_fresh_21 : decode cX9_fresh 21 = .ok (.aload_n 0, 1) := dk_42 (dk_at dksX9_fresh_0 21 rfl rfl)
theorem dX9_fresh_22 : decode cX9_fresh 22 = .ok (.getfield 168, 3) := dk_180 0 168 (dk_at dksX9_fresh_1 0 rfl rfl)
theorem dX9_fresh_25 : decode cX9_fresh 25 = .ok (.iconst 0, 1) := dk_3 (dk_at dksX9_fresh_1 3 rfl rfl)
theorem dX9_fresh_26 : decode cX9_fresh 26 = .ok (.iconst 1, 1) := dk_4 (dk_at dksX9_fresh_1 4 rfl rfl)
theorem dX9_fresh_27 : decode cX9_fresh 27 = .ok (.aload_n 0, 1) := dk_42 (dk_at dksX9_fresh_1 5 rfl rfl)
theorem dX9_fresh_28 : decode cX9_fresh 28 = .ok (.getfield 13, 3) := dk_180 0 13 (dk_at dksX9_fresh_1 6 rfl rfl)
theorem dX9_fresh_31 : decode cX9_fresh 31 = .ok (.iconst 0, 1) := dk_3 (dk_at dksX9_fresh_1 9 rfl rfl)
theorem dX9_fresh_32 : decode cX9_fresh 32 = .ok (.iaload, 1) := dk_46 (dk_at dksX9_fresh_1 10 rfl rfl)
theorem dX9_fresh_33 : decode cX9_fresh 33 = .ok (.ishl, 1) := dk_120 (dk_at dksX9_fresh_1 11 rfl rfl)
theorem dX9_fresh_34 : decode cX9_fresh 34 = .ok (.iconst 1, 1) := dk_4 (dk_at dksX9_fresh_1 12 rfl rfl)
theorem dX9_fresh_35 : decode cX9_fresh 35 = .ok (.isub, 1) := dk_100 (dk_at dksX9_fresh_1 13 rfl rfl)
theorem dX9_fresh_36 : decode cX9_fresh 36 = .ok (.iastore, 1) := dk_79 (dk_at dksX9_fresh_1 14 rfl rfl)
theorem dX9_fresh_37 : decode cX9_fresh 37 = .ok (.iconst 0, 1) := dk_3 (dk_at dksX9_fresh_1 15 rfl rfl)
theorem dX9_fresh_38 : decode cX9_fresh 38 = .ok (.istore_n 1, 1) := dk_60 (dk_at dksX9_fresh_1 16 rfl rfl)
theorem dX9_fresh_39 : decode cX9_fresh 39 = .ok (.iload_n 1, 1) := dk_27 (dk_at dksX9_fresh_1 17 rfl rfl)
theorem dX9_fresh_40 : decode cX9_fresh 40 = .ok (.aload_n 0, 1) := dk_42 (dk_at dksX9_fresh_1 18 rfl rfl)
theorem dX9_fresh_41 : decode cX9_fresh 41 = .ok (.getfield 13, 3) := dk_180 0 13 (dk_at dksX9_fresh_1 19 rfl rfl)
theorem dX9_fresh_44 : decode cX9_fresh 44 = .ok (.iconst 0, 1) := dk_3 (dk_at dksX9_fresh_1 22 rfl rfl)
theorem dX9_fresh_45 : decode cX9_fresh 45 = .ok (.iaload, 1) := dk_46 (dk_at dksX9_fresh_1 23 rfl rfl)
theorem dX9_fresh_46 : decode cX9_fresh 46 = .ok (.if_icmp .ge 23, 3) := dk_162 0 23 (dk_at dksX9_fresh_2 0 rfl rfl)
theorem dX9_fresh_49 : decode cX9_fresh 49 = .ok (.aload_n 0, 1) := dk_42 (dk_at dksX9_fresh_2 3 rfl rfl)
theorem dX9_fresh_50 : decode cX9_fresh 50 = .ok (.getfield 168, 3) := dk_180 0 168 (dk_at dksX9_fresh_2 4 rfl rfl)
theorem dX9_fresh_53 : decode cX9_fresh 53 = .ok (.iconst 5, 1) := dk_8 (dk_at dksX9_fresh_2 7 rfl rfl)
theorem dX9_fresh_54 : decode cX9_fresh 54 = .ok (.iload_n 1, 1) := dk_27 (dk_at dksX9_fresh_2 8 rfl rfl)
theorem dX9_fresh_55 : decode cX9_fresh 55 = .ok (.iadd, 1) := dk_96 (dk_at dksX9_fresh_2 9 rfl rfl)
theorem dX9_fresh_56 : decode cX9_fresh 56 = .ok (.aload_n 0, 1) := dk_42 (dk_at dksX9_fresh_2 10 rfl rfl)
theorem dX9_fresh_57 : decode cX9_fresh 57 = .ok (.getfield 23, 3) := dk_180 0 23 (dk_at dksX9_fresh_2 11 rfl rfl)
theorem dX9_fresh_60 : decode cX9_fresh 60 = .ok (.iload_n 1, 1) := dk_27 (dk_at dksX9_fresh_2 14 rfl rfl)
theorem dX9_fresh_61 : decode cX9_fresh 61 = .ok (.iaload, 1) := dk_46 (dk_at dksX9_fresh_2 15 rfl rfl)
theorem dX9_fresh_62 : decode cX9_fresh 62 = .ok (.iastore, 1) := dk_79 (dk_at dksX9_fresh_2 16 rfl rfl)
theorem dX9_fresh_63 : decode cX9_fresh 63 = .ok (.iinc 1 1, 3) := dk_132 1 1 (dk_at dksX9_fresh_2 17 rfl rfl)
theorem dX9_fresh_66 : decode cX9_fresh 66 = .ok (.goto (-27), 3) := dk_167 255 229 (dk_at dksX9_fresh_2 20 rfl rfl)
theorem dX9_fresh_69 : decode cX9_fresh 69 = .ok (.return_, 1) := dk_177 (dk_at dksX9_fresh_2 23 rfl rfl)
abbrev cX9_days : ByteArray := prog_35_method_55_code
def yX9_days : MethodName := ⟨RX9, "days", "()I"⟩
def dkwX9_days_1 : List UInt8 := [182, 1, 212, 154, 255, 245, 42, 180, 0, 248, 172, 42, 8, 3, 182, 1, 215, 3, 172]
abbrev dktX9_days_1 : List UInt8 := dkwX9_days_1 ++ []
def dkwX9_days_0 : List UInt8 := [42, 3, 181, 0, 212, 42, 180, 0, 138, 8, 3, 79, 42, 182, 1, 148, 42, 180, 0, 237, 153, 0, 15, 42]
abbrev dktX9_days_0 : List UInt8 := dkwX9_days_0 ++ dktX9_days_1
theorem dksX9_days_0 : cX9_days.data.toList.drop 0 = dktX9_days_0 := by decide +kernel
theorem dksX9_days_1 : cX9_days.data.toList.drop 24 = dktX9_days_1 := dk_seg dksX9_days_0 24 rfl rfl
theorem dX9_days_0 : decode cX9_days 0 = .ok (.aload_n 0, 1) := dk_42 (dk_at dksX9_days_0 0 rfl rfl)
theorem dX9_days_1 : decode cX9_days 1 = .ok (.iconst 0, 1) := dk_3 (dk_at dksX9_days_0 1 rfl rfl)
theorem dX9_days_2 : decode cX9_days 2 = .ok (.putfield 212, 3) := dk_181 0 212 (dk_at dksX9_days_0 2 rfl rfl)
theorem dX9_days_5 : decode cX9_days 5 = .ok (.aload_n 0, 1) := dk_42 (dk_at dksX9_days_0 5 rfl rfl)
theorem dX9_days_6 : decode cX9_days 6 = .ok (.getfield 138, 3) := dk_180 0 138 (dk_at dksX9_days_0 6 rfl rfl)
theorem dX9_days_9 : decode cX9_days 9 = .ok (.iconst 5, 1) := dk_8 (dk_at dksX9_days_0 9 rfl rfl)
theorem dX9_days_10 : decode cX9_days 10 = .ok (.iconst 0, 1) := dk_3 (dk_at dksX9_days_0 10 rfl rfl)
theorem dX9_days_11 : decode cX9_days 11 = .ok (.iastore, 1) := dk_79 (dk_at dksX9_days_0 11 rfl rfl)
theorem dX9_days_12 : decode cX9_days 12 = .ok (.aload_n 0, 1) := dk_42 (dk_at dksX9_days_0 12 rfl rfl)
theorem dX9_days_13 : decode cX9_days 13 = .ok (.invokevirtual 404, 3) := dk_182 1 148 (dk_at dksX9_days_0 13 rfl rfl)
theorem dX9_days_16 : decode cX9_days 16 = .ok (.aload_n 0, 1) := dk_42 (dk_at dksX9_days_0 16 rfl rfl)
theorem dX9_days_17 : decode cX9_days 17 = .ok (.getfield 237, 3) := dk_180 0 237 (dk_at dksX9_days_0 17 rfl rfl)
theorem dX9_days_20 : decode cX9_days 20 = .ok (.ifCond .eq 15, 3) := dk_153 0 15 (dk_at dksX9_days_0 20 rfl rfl)
theorem dX9_days_23 : decode cX9_days 23 = .ok (.aload_n 0, 1) := dk_42 (dk_at dksX9_days_0 23 rfl rfl)
theorem dX9_days_24 : decode cX9_days 24 = .ok (.invokevirtual 468, 3) := dk_182 1 212 (dk_at dksX9_days_1 0 rfl rfl)
theorem dX9_days_27 : decode cX9_days 27 = .ok (.ifCond .ne (-11), 3) := dk_154 255 245 (dk_at dksX9_days_1 3 rfl rfl)
theorem dX9_days_30 : decode cX9_days 30 = .ok (.aload_n 0, 1) := dk_42 (dk_at dksX9_days_1 6 rfl rfl)
theorem dX9_days_31 : decode cX9_days 31 = .ok (.getfield 248, 3) := dk_180 0 248 (dk_at dksX9_days_1 7 rfl rfl)
theorem dX9_days_34 : decode cX9_days 34 = .ok (.ireturn, 1) := dk_172 (dk_at dksX9_days_1 10 rfl rfl)
theorem dX9_days_35 : decode cX9_days 35 = .ok (.aload_n 0, 1) := dk_42 (dk_at dksX9_days_1 11 rfl rfl)
theorem dX9_days_36 : decode cX9_days 36 = .ok (.iconst 5, 1) := dk_8 (dk_at dksX9_days_1 12 rfl rfl)
theorem dX9_days_37 : decode cX9_days 37 = .ok (.iconst 0, 1) := dk_3 (dk_at dksX9_days_1 13 rfl rfl)
theorem dX9_days_38 : decode cX9_days 38 = .ok (.invokevirtual 471, 3) := dk_182 1 215 (dk_at dksX9_days_1 14 rfl rfl)
theorem dX9_days_41 : decode cX9_days 41 = .ok (.iconst 0, 1) := dk_3 (dk_at dksX9_days_1 17 rfl rfl)
theorem dX9_days_42 : decode cX9_days 42 = .ok (.ireturn, 1) := dk_172 (dk_at dksX9_days_1 18 rfl rfl)
abbrev cX9_readsLine : ByteArray := prog_35_method_50_code
def yX9_readsLine : MethodName := ⟨RX9, "readsLine", "()Z"⟩
def dkwX9_readsLine_8 : List UInt8 := [180, 1, 99, 79, 42, 182, 1, 34, 42, 180, 0, 138, 8, 92, 46, 4, 96, 79, 42, 182, 1, 130, 172]
abbrev dktX9_readsLine_8 : List UInt8 := dkwX9_readsLine_8 ++ []
def dkwX9_readsLine_7 : List UInt8 := [167, 0, 32, 27, 4, 160, 0, 27, 42, 3, 182, 1, 133, 154, 0, 5, 3, 172, 42, 180, 0, 147, 28, 42]
abbrev dktX9_readsLine_7 : List UInt8 := dkwX9_readsLine_7 ++ dktX9_readsLine_8
def dkwX9_readsLine_6 : List UInt8 := [3, 182, 1, 138, 154, 0, 5, 3, 172, 42, 180, 0, 147, 28, 42, 180, 1, 99, 79, 42, 182, 1, 34]
abbrev dktX9_readsLine_6 : List UInt8 := dkwX9_readsLine_6 ++ dktX9_readsLine_7
def dkwX9_readsLine_5 : List UInt8 := [182, 1, 113, 79, 42, 180, 0, 144, 28, 46, 156, 0, 9, 42, 5, 182, 1, 27, 172, 42, 182, 1, 34, 42]
abbrev dktX9_readsLine_5 : List UInt8 := dkwX9_readsLine_5 ++ dktX9_readsLine_6
def dkwX9_readsLine_4 : List UInt8 := [154, 0, 73, 42, 182, 1, 109, 153, 0, 9, 42, 4, 182, 1, 27, 172, 42, 180, 0, 144, 28, 42, 3]
abbrev dktX9_readsLine_4 : List UInt8 := dkwX9_readsLine_4 ++ dktX9_readsLine_5
def dkwX9_readsLine_3 : List UInt8 := [182, 1, 34, 17, 0, 200, 42, 180, 0, 138, 8, 46, 96, 61, 42, 180, 0, 141, 28, 27, 79, 27]
abbrev dktX9_readsLine_3 : List UInt8 := dkwX9_readsLine_3 ++ dktX9_readsLine_4
def dkwX9_readsLine_2 : List UInt8 := [42, 4, 182, 1, 27, 172, 42, 180, 0, 138, 8, 46, 16, 40, 160, 0, 9, 42, 8, 182, 1, 27, 172, 42]
abbrev dktX9_readsLine_2 : List UInt8 := dkwX9_readsLine_2 ++ dktX9_readsLine_3
def dkwX9_readsLine_1 : List UInt8 := [4, 167, 0, 18, 42, 20, 1, 82, 182, 1, 19, 153, 0, 7, 5, 167, 0, 4, 2, 60, 27, 156, 0, 9]
abbrev dktX9_readsLine_1 : List UInt8 := dkwX9_readsLine_1 ++ dktX9_readsLine_2
def dkwX9_readsLine_0 : List UInt8 := [42, 20, 1, 78, 182, 1, 19, 153, 0, 7, 3, 167, 0, 32, 42, 20, 1, 80, 182, 1, 19, 153, 0, 7]
abbrev dktX9_readsLine_0 : List UInt8 := dkwX9_readsLine_0 ++ dktX9_readsLine_1
theorem dksX9_readsLine_0 : cX9_readsLine.data.toList.drop 0 = dktX9_readsLine_0 := by decide +kernel
theorem dksX9_readsLine_1 : cX9_readsLine.data.toList.drop 24 = dktX9_readsLine_1 := dk_seg dksX9_readsLine_0 24 rfl rfl
theorem dksX9_readsLine_2 : cX9_readsLine.data.toList.drop 48 = dktX9_readsLine_2 := dk_seg dksX9_readsLine_1 24 rfl rfl
theorem dksX9_readsLine_3 : cX9_readsLine.data.toList.drop 72 = dktX9_readsLine_3 := dk_seg dksX9_readsLine_2 24 rfl rfl
theorem dksX9_readsLine_4 : cX9_readsLine.data.toList.drop 94 = dktX9_readsLine_4 := dk_seg dksX9_readsLine_3 22 rfl rfl
theorem dksX9_readsLine_5 : cX9_readsLine.data.toList.drop 117 = dktX9_readsLine_5 := dk_seg dksX9_readsLine_4 23 rfl rfl
theorem dksX9_readsLine_6 : cX9_readsLine.data.toList.drop 141 = dktX9_readsLine_6 := dk_seg dksX9_readsLine_5 24 rfl rfl
theorem dksX9_readsLine_7 : cX9_readsLine.data.toList.drop 164 = dktX9_readsLine_7 := dk_seg dksX9_readsLine_6 23 rfl rfl
theorem dksX9_readsLine_8 : cX9_readsLine.data.toList.drop 188 = dktX9_readsLine_8 := dk_seg dksX9_readsLine_7 24 rfl rfl
theorem dX9_readsLine_0 : decode cX9_readsLine 0 = .ok (.aload_n 0, 1) := dk_42 (dk_at dksX9_readsLine_0 0 rfl rfl)
theorem dX9_readsLine_1 : decode cX9_readsLine 1 = .ok (.ldc2_w 334, 3) := dk_20 1 78 (dk_at dksX9_readsLine_0 1 rfl rfl)
theorem dX9_readsLine_4 : decode cX9_readsLine 4 = .ok (.invokevirtual 275, 3) := dk_182 1 19 (dk_at dksX9_readsLine_0 4 rfl rfl)
theorem dX9_readsLine_7 : decode cX9_readsLine 7 = .ok (.ifCond .eq 7, 3) := dk_153 0 7 (dk_at dksX9_readsLine_0 7 rfl rfl)
theorem dX9_readsLine_10 : decode cX9_readsLine 10 = .ok (.iconst 0, 1) := dk_3 (dk_at dksX9_readsLine_0 10 rfl rfl)
theorem dX9_readsLine_11 : decode cX9_readsLine 11 = .ok (.goto 32, 3) := dk_167 0 32 (dk_at dksX9_readsLine_0 11 rfl rfl)
theorem dX9_readsLine_14 : decode cX9_readsLine 14 = .ok (.aload_n 0, 1) := dk_42 (dk_at dksX9_readsLine_0 14 rfl rfl)
theorem dX9_readsLine_15 : decode cX9_readsLine 15 = .ok (.ldc2_w 336, 3) := dk_20 1 80 (dk_at dksX9_readsLine_0 15 rfl rfl)
theorem dX9_readsLine_18 : decode cX9_readsLine 18 = .ok (.invokevirtual 275, 3) := dk_182 1 19 (dk_at dksX9_readsLine_0 18 rfl rfl)
theorem dX9_readsLine_21 : decode cX9_readsLine 21 = .ok (.ifCond .eq 7, 3) := dk_153 0 7 (dk_at dksX9_readsLine_0 21 rfl rfl)
theorem dX9_readsLine_24 : decode cX9_readsLine 24 = .ok (.iconst 1, 1) := dk_4 (dk_at dksX9_readsLine_1 0 rfl rfl)
theorem dX9_readsLine_25 : decode cX9_readsLine 25 = .ok (.goto 18, 3) := dk_167 0 18 (dk_at dksX9_readsLine_1 1 rfl rfl)
theorem dX9_readsLine_28 : decode cX9_readsLine 28 = .ok (.aload_n 0, 1) := dk_42 (dk_at dksX9_readsLine_1 4 rfl rfl)
theorem dX9_readsLine_29 : decode cX9_readsLine 29 = .ok (.ldc2_w 338, 3) := dk_20 1 82 (dk_at dksX9_readsLine_1 5 rfl rfl)
theorem dX9_readsLine_32 : decode cX9_readsLine 32 = .ok (.invokevirtual 275, 3) := dk_182 1 19 (dk_at dksX9_readsLine_1 8 rfl rfl)
theorem dX9_readsLine_35 : decode cX9_readsLine 35 = .ok (.ifCond .eq 7, 3) := dk_153 0 7 (dk_at dksX9_readsLine_1 11 rfl rfl)
theorem dX9_readsLine_38 : decode cX9_readsLine 38 = .ok (.iconst 2, 1) := dk_5 (dk_at dksX9_readsLine_1 14 rfl rfl)
theorem dX9_readsLine_39 : decode cX9_readsLine 39 = .ok (.goto 4, 3) := dk_167 0 4 (dk_at dksX9_readsLine_1 15 rfl rfl)
theorem dX9_readsLine_42 : decode cX9_readsLine 42 = .ok (.iconst (-1), 1) := dk_2 (dk_at dksX9_readsLine_1 18 rfl rfl)
theorem dX9_readsLine_43 : decode cX9_readsLine 43 = .ok (.istore_n 1, 1) := dk_60 (dk_at dksX9_readsLine_1 19 rfl rfl)
theorem dX9_readsLine_44 : decode cX9_readsLine 44 = .ok (.iload_n 1, 1) := dk_27 (dk_at dksX9_readsLine_1 20 rfl rfl)
theorem dX9_readsLine_45 : decode cX9_readsLine 45 = .ok (.ifCond .ge 9, 3) := dk_156 0 9 (dk_at dksX9_readsLine_1 21 rfl rfl)
theorem dX9_readsLine_48 : decode cX9_readsLine 48 = .ok (.aload_n 0, 1) := dk_42 (dk_at dksX9_readsLine_2 0 rfl rfl)
theorem dX9_readsLine_49 : decode cX9_readsLine 49 = .ok (.iconst 1, 1) := dk_4 (dk_at dksX9_readsLine_2 1 rfl rfl)
theorem dX9_readsLine_50 : decode cX9_readsLine 50 = .ok (.invokevirtual 283, 3) := dk_182 1 27 (dk_at dksX9_readsLine_2 2 rfl rfl)
theorem dX9_readsLine_53 : decode cX9_readsLine 53 = .ok (.ireturn, 1) := dk_172 (dk_at dksX9_readsLine_2 5 rfl rfl)
theorem dX9_readsLine_54 : decode cX9_readsLine 54 = .ok (.aload_n 0, 1) := dk_42 (dk_at dksX9_readsLine_2 6 rfl rfl)
theorem dX9_readsLine_55 : decode cX9_readsLine 55 = .ok (.getfield 138, 3) := dk_180 0 138 (dk_at dksX9_readsLine_2 7 rfl rfl)
theorem dX9_readsLine_58 : decode cX9_readsLine 58 = .ok (.iconst 5, 1) := dk_8 (dk_at dksX9_readsLine_2 10 rfl rfl)
theorem dX9_readsLine_59 : decode cX9_readsLine 59 = .ok (.iaload, 1) := dk_46 (dk_at dksX9_readsLine_2 11 rfl rfl)
theorem dX9_readsLine_60 : decode cX9_readsLine 60 = .ok (.bipush 40, 2) := dk_16 40 (dk_at dksX9_readsLine_2 12 rfl rfl)
theorem dX9_readsLine_62 : decode cX9_readsLine 62 = .ok (.if_icmp .ne 9, 3) := dk_160 0 9 (dk_at dksX9_readsLine_2 14 rfl rfl)
theorem dX9_readsLine_65 : decode cX9_readsLine 65 = .ok (.aload_n 0, 1) := dk_42 (dk_at dksX9_readsLine_2 17 rfl rfl)
theorem dX9_readsLine_66 : decode cX9_readsLine 66 = .ok (.iconst 5, 1) := dk_8 (dk_at dksX9_readsLine_2 18 rfl rfl)
theorem dX9_readsLine_67 : decode cX9_readsLine 67 = .ok (.invokevirtual 283, 3) := dk_182 1 27 (dk_at dksX9_readsLine_2 19 rfl rfl)
theorem dX9_readsLine_70 : decode cX9_readsLine 70 = .ok (.ireturn, 1) := dk_172 (dk_at dksX9_readsLine_2 22 rfl rfl)
theorem dX9_readsLine_71 : decode cX9_readsLine 71 = .ok (.aload_n 0, 1) := dk_42 (dk_at dksX9_readsLine_2 23 rfl rfl)
theorem dX9_readsLine_72 : decode cX9_readsLine 72 = .ok (.invokevirtual 290, 3) := dk_182 1 34 (dk_at dksX9_readsLine_3 0 rfl rfl)
theorem dX9_readsLine_75 : decode cX9_readsLine 75 = .ok (.sipush 200, 3) := dk_17 0 200 (dk_at dksX9_readsLine_3 3 rfl rfl)
theorem dX9_readsLine_78 : decode cX9_readsLine 78 = .ok (.aload_n 0, 1) := dk_42 (dk_at dksX9_readsLine_3 6 rfl rfl)
theorem dX9_readsLine_79 : decode cX9_readsLine 79 = .ok (.getfield 138, 3) := dk_180 0 138 (dk_at dksX9_readsLine_3 7 rfl rfl)
theorem dX9_readsLine_82 : decode cX9_readsLine 82 = .ok (.iconst 5, 1) := dk_8 (dk_at dksX9_readsLine_3 10 rfl rfl)
theorem dX9_readsLine_83 : decode cX9_readsLine 83 = .ok (.iaload, 1) := dk_46 (dk_at dksX9_readsLine_3 11 rfl rfl)
theorem dX9_readsLine_84 : decode cX9_readsLine 84 = .ok (.iadd, 1) := dk_96 (dk_at dksX9_readsLine_3 12 rfl rfl)
theorem dX9_readsLine_85 : decode cX9_readsLine 85 = .ok (.istore_n 2, 1) := dk_61 (dk_at dksX9_readsLine_3 13 rfl rfl)
theorem dX9_readsLine_86 : decode cX9_readsLine 86 = .ok (.aload_n 0, 1) := dk_42 (dk_at dksX9_readsLine_3 14 rfl rfl)
theorem dX9_readsLine_87 : decode cX9_readsLine 87 = .ok (.getfield 141, 3) := dk_180 0 141 (dk_at dksX9_readsLine_3 15 rfl rfl)
theorem dX9_readsLine_90 : decode cX9_readsLine 90 = .ok (.iload_n 2, 1) := dk_28 (dk_at dksX9_readsLine_3 18 rfl rfl)
theorem dX9_readsLine_91 : decode cX9_readsLine 91 = .ok (.iload_n 1, 1) := dk_27 (dk_at dksX9_readsLine_3 19 rfl rfl)
theorem dX9_readsLine_92 : decode cX9_readsLine 92 = .ok (.iastore, 1) := dk_79 (dk_at dksX9_readsLine_3 20 rfl rfl)
theorem dX9_readsLine_93 : decode cX9_readsLine 93 = .ok (.iload_n 1, 1) := dk_27 (dk_at dksX9_readsLine_3 21 rfl rfl)
theorem dX9_readsLine_94 : decode cX9_readsLine 94 = .ok (.ifCond .ne 73, 3) := dk_154 0 73 (dk_at dksX9_readsLine_4 0 rfl rfl)
theorem dX9_readsLine_97 : decode cX9_readsLine 97 = .ok (.aload_n 0, 1) := dk_42 (dk_at dksX9_readsLine_4 3 rfl rfl)
theorem dX9_readsLine_98 : decode cX9_readsLine 98 = .ok (.invokevirtual 365, 3) := dk_182 1 109 (dk_at dksX9_readsLine_4 4 rfl rfl)
theorem dX9_readsLine_101 : decode cX9_readsLine 101 = .ok (.ifCond .eq 9, 3) := dk_153 0 9 (dk_at dksX9_readsLine_4 7 rfl rfl)
theorem dX9_readsLine_104 : decode cX9_readsLine 104 = .ok (.aload_n 0, 1) := dk_42 (dk_at dksX9_readsLine_4 10 rfl rfl)
theorem dX9_readsLine_105 : decode cX9_readsLine 105 = .ok (.iconst 1, 1) := dk_4 (dk_at dksX9_readsLine_4 11 rfl rfl)
theorem dX9_readsLine_106 : decode cX9_readsLine 106 = .ok (.invokevirtual 283, 3) := dk_182 1 27 (dk_at dksX9_readsLine_4 12 rfl rfl)
theorem dX9_readsLine_109 : decode cX9_readsLine 109 = .ok (.ireturn, 1) := dk_172 (dk_at dksX9_readsLine_4 15 rfl rfl)
theorem dX9_readsLine_110 : decode cX9_readsLine 110 = .ok (.aload_n 0, 1) := dk_42 (dk_at dksX9_readsLine_4 16 rfl rfl)
theorem dX9_readsLine_111 : decode cX9_readsLine 111 = .ok (.getfield 144, 3) := dk_180 0 144 (dk_at dksX9_readsLine_4 17 rfl rfl)
theorem dX9_readsLine_114 : decode cX9_readsLine 114 = .ok (.iload_n 2, 1) := dk_28 (dk_at dksX9_readsLine_4 20 rfl rfl)
theorem dX9_readsLine_115 : decode cX9_readsLine 115 = .ok (.aload_n 0, 1) := dk_42 (dk_at dksX9_readsLine_4 21 rfl rfl)
theorem dX9_readsLine_116 : decode cX9_readsLine 116 = .ok (.iconst 0, 1) := dk_3 (dk_at dksX9_readsLine_4 22 rfl rfl)
theorem dX9_readsLine_117 : decode cX9_readsLine 117 = .ok (.invokevirtual 369, 3) := dk_182 1 113 (dk_at dksX9_readsLine_5 0 rfl rfl)
theorem dX9_readsLine_120 : decode cX9_readsLine 120 = .ok (.iastore, 1) := dk_79 (dk_at dksX9_readsLine_5 3 rfl rfl)
theorem dX9_readsLine_121 : decode cX9_readsLine 121 = .ok (.aload_n 0, 1) := dk_42 (dk_at dksX9_readsLine_5 4 rfl rfl)
theorem dX9_readsLine_122 : decode cX9_readsLine 122 = .ok (.getfield 144, 3) := dk_180 0 144 (dk_at dksX9_readsLine_5 5 rfl rfl)
theorem dX9_readsLine_125 : decode cX9_readsLine 125 = .ok (.iload_n 2, 1) := dk_28 (dk_at dksX9_readsLine_5 8 rfl rfl)
theorem dX9_readsLine_126 : decode cX9_readsLine 126 = .ok (.iaload, 1) := dk_46 (dk_at dksX9_readsLine_5 9 rfl rfl)
theorem dX9_readsLine_127 : decode cX9_readsLine 127 = .ok (.ifCond .ge 9, 3) := dk_156 0 9 (dk_at dksX9_readsLine_5 10 rfl rfl)
theorem dX9_readsLine_130 : decode cX9_readsLine 130 = .ok (.aload_n 0, 1) := dk_42 (dk_at dksX9_readsLine_5 13 rfl rfl)
theorem dX9_readsLine_131 : decode cX9_readsLine 131 = .ok (.iconst 2, 1) := dk_5 (dk_at dksX9_readsLine_5 14 rfl rfl)
theorem dX9_readsLine_132 : decode cX9_readsLine 132 = .ok (.invokevirtual 283, 3) := dk_182 1 27 (dk_at dksX9_readsLine_5 15 rfl rfl)
theorem dX9_readsLine_135 : decode cX9_readsLine 135 = .ok (.ireturn, 1) := dk_172 (dk_at dksX9_readsLine_5 18 rfl rfl)
theorem dX9_readsLine_136 : decode cX9_readsLine 136 = .ok (.aload_n 0, 1) := dk_42 (dk_at dksX9_readsLine_5 19 rfl rfl)
theorem dX9_readsLine_137 : decode cX9_readsLine 137 = .ok (.invokevirtual 290, 3) := dk_182 1 34 (dk_at dksX9_readsLine_5 20 rfl rfl)
theorem dX9_readsLine_140 : decode cX9_readsLine 140 = .ok (.aload_n 0, 1) := dk_42 (dk_at dksX9_readsLine_5 23 rfl rfl)
theorem dX9_readsLine_141 : decode cX9_readsLine 141 = .ok (.iconst 0, 1) := dk_3 (dk_at dksX9_readsLine_6 0 rfl rfl)
theorem dX9_readsLine_142 : decode cX9_readsLine 142 = .ok (.invokevirtual 394, 3) := dk_182 1 138 (dk_at dksX9_readsLine_6 1 rfl rfl)
theorem dX9_readsLine_145 : decode cX9_readsLine 145 = .ok (.ifCond .ne 5, 3) := dk_154 0 5 (dk_at dksX9_readsLine_6 4 rfl rfl)
theorem dX9_readsLine_148 : decode cX9_readsLine 148 = .ok (.iconst 0, 1) := dk_3 (dk_at dksX9_readsLine_6 7 rfl rfl)
theorem dX9_readsLine_149 : decode cX9_readsLine 149 = .ok (.ireturn, 1) := dk_172 (dk_at dksX9_readsLine_6 8 rfl rfl)
theorem dX9_readsLine_150 : decode cX9_readsLine 150 = .ok (.aload_n 0, 1) := dk_42 (dk_at dksX9_readsLine_6 9 rfl rfl)
theorem dX9_readsLine_151 : decode cX9_readsLine 151 = .ok (.getfield 147, 3) := dk_180 0 147 (dk_at dksX9_readsLine_6 10 rfl rfl)
theorem dX9_readsLine_154 : decode cX9_readsLine 154 = .ok (.iload_n 2, 1) := dk_28 (dk_at dksX9_readsLine_6 13 rfl rfl)
theorem dX9_readsLine_155 : decode cX9_readsLine 155 = .ok (.aload_n 0, 1) := dk_42 (dk_at dksX9_readsLine_6 14 rfl rfl)
theorem dX9_readsLine_156 : decode cX9_readsLine 156 = .ok (.getfield 355, 3) := dk_180 1 99 (dk_at dksX9_readsLine_6 15 rfl rfl)
theorem dX9_readsLine_159 : decode cX9_readsLine 159 = .ok (.iastore, 1) := dk_79 (dk_at dksX9_readsLine_6 18 rfl rfl)
theorem dX9_readsLine_160 : decode cX9_readsLine 160 = .ok (.aload_n 0, 1) := dk_42 (dk_at dksX9_readsLine_6 19 rfl rfl)
theorem dX9_readsLine_161 : decode cX9_readsLine 161 = .ok (.invokevirtual 290, 3) := dk_182 1 34 (dk_at dksX9_readsLine_6 20 rfl rfl)
theorem dX9_readsLine_164 : decode cX9_readsLine 164 = .ok (.goto 32, 3) := dk_167 0 32 (dk_at dksX9_readsLine_7 0 rfl rfl)
theorem dX9_readsLine_167 : decode cX9_readsLine 167 = .ok (.iload_n 1, 1) := dk_27 (dk_at dksX9_readsLine_7 3 rfl rfl)
theorem dX9_readsLine_168 : decode cX9_readsLine 168 = .ok (.iconst 1, 1) := dk_4 (dk_at dksX9_readsLine_7 4 rfl rfl)
theorem dX9_readsLine_169 : decode cX9_readsLine 169 = .ok (.if_icmp .ne 27, 3) := dk_160 0 27 (dk_at dksX9_readsLine_7 5 rfl rfl)
theorem dX9_readsLine_172 : decode cX9_readsLine 172 = .ok (.aload_n 0, 1) := dk_42 (dk_at dksX9_readsLine_7 8 rfl rfl)
theorem dX9_readsLine_173 : decode cX9_readsLine 173 = .ok (.iconst 0, 1) := dk_3 (dk_at dksX9_readsLine_7 9 rfl rfl)
theorem dX9_readsLine_174 : decode cX9_readsLine 174 = .ok (.invokevirtual 389, 3) := dk_182 1 133 (dk_at dksX9_readsLine_7 10 rfl rfl)
theorem dX9_readsLine_177 : decode cX9_readsLine 177 = .ok (.ifCond .ne 5, 3) := dk_154 0 5 (dk_at dksX9_readsLine_7 13 rfl rfl)
theorem dX9_readsLine_180 : decode cX9_readsLine 180 = .ok (.iconst 0, 1) := dk_3 (dk_at dksX9_readsLine_7 16 rfl rfl)
theorem dX9_readsLine_181 : decode cX9_readsLine 181 = .ok (.ireturn, 1) := dk_172 (dk_at dksX9_readsLine_7 17 rfl rfl)
theorem dX9_readsLine_182 : decode cX9_readsLine 182 = .ok (.aload_n 0, 1) := dk_42 (dk_at dksX9_readsLine_7 18 rfl rfl)
theorem dX9_readsLine_183 : decode cX9_readsLine 183 = .ok (.getfield 147, 3) := dk_180 0 147 (dk_at dksX9_readsLine_7 19 rfl rfl)
theorem dX9_readsLine_186 : decode cX9_readsLine 186 = .ok (.iload_n 2, 1) := dk_28 (dk_at dksX9_readsLine_7 22 rfl rfl)
theorem dX9_readsLine_187 : decode cX9_readsLine 187 = .ok (.aload_n 0, 1) := dk_42 (dk_at dksX9_readsLine_7 23 rfl rfl)
theorem dX9_readsLine_188 : decode cX9_readsLine 188 = .ok (.getfield 355, 3) := dk_180 1 99 (dk_at dksX9_readsLine_8 0 rfl rfl)
theorem dX9_readsLine_191 : decode cX9_readsLine 191 = .ok (.iastore, 1) := dk_79 (dk_at dksX9_readsLine_8 3 rfl rfl)
theorem dX9_readsLine_192 : decode cX9_readsLine 192 = .ok (.aload_n 0, 1) := dk_42 (dk_at dksX9_readsLine_8 4 rfl rfl)
theorem dX9_readsLine_193 : decode cX9_readsLine 193 = .ok (.invokevirtual 290, 3) := dk_182 1 34 (dk_at dksX9_readsLine_8 5 rfl rfl)
theorem dX9_readsLine_196 : decode cX9_readsLine 196 = .ok (.aload_n 0, 1) := dk_42 (dk_at dksX9_readsLine_8 8 rfl rfl)
theorem dX9_readsLine_197 : decode cX9_readsLine 197 = .ok (.getfield 138, 3) := dk_180 0 138 (dk_at dksX9_readsLine_8 9 rfl rfl)
theorem dX9_readsLine_200 : decode cX9_readsLine 200 = .ok (.iconst 5, 1) := dk_8 (dk_at dksX9_readsLine_8 12 rfl rfl)
theorem dX9_readsLine_201 : decode cX9_readsLine 201 = .ok (.dup2, 1) := dk_92 (dk_at dksX9_readsLine_8 13 rfl rfl)
theorem dX9_readsLine_202 : decode cX9_readsLine 202 = .ok (.iaload, 1) := dk_46 (dk_at dksX9_readsLine_8 14 rfl rfl)
theorem dX9_readsLine_203 : decode cX9_readsLine 203 = .ok (.iconst 1, 1) := dk_4 (dk_at dksX9_readsLine_8 15 rfl rfl)
theorem dX9_readsLine_204 : decode cX9_readsLine 204 = .ok (.iadd, 1) := dk_96 (dk_at dksX9_readsLine_8 16 rfl rfl)
theorem dX9_readsLine_205 : decode cX9_readsLine 205 = .ok (.iastore, 1) := dk_79 (dk_at dksX9_readsLine_8 17 rfl rfl)
theorem dX9_readsLine_206 : decode cX9_readsLine 206 = .ok (.aload_n 0, 1) := dk_42 (dk_at dksX9_readsLine_8 18 rfl rfl)
theorem dX9_readsLine_207 : decode cX9_readsLine 207 = .ok (.invokevirtual 386, 3) := dk_182 1 130 (dk_at dksX9_readsLine_8 19 rfl rfl)
theorem dX9_readsLine_210 : decode cX9_readsLine 210 = .ok (.ireturn, 1) := dk_172 (dk_at dksX9_readsLine_8 22 rfl rfl)
abbrev cX9_laysLines : ByteArray := prog_35_method_51_code
def yX9_laysLines : MethodName := ⟨RX9, "laysLines", "(II)V"⟩
def dkwX9_laysLines_3 : List UInt8 := [29, 96, 42, 180, 0, 147, 16, 40, 27, 104, 29, 96, 46, 79, 132, 3, 1, 167, 255, 181, 177]
abbrev dktX9_laysLines_3 : List UInt8 := dkwX9_laysLines_3 ++ []
def dkwX9_laysLines_2 : List UInt8 := [28, 104, 29, 96, 42, 180, 0, 144, 16, 40, 27, 104, 29, 96, 46, 79, 42, 180, 0, 147, 16, 40, 28, 104]
abbrev dktX9_laysLines_2 : List UInt8 := dkwX9_laysLines_2 ++ dktX9_laysLines_3
def dkwX9_laysLines_1 : List UInt8 := [16, 40, 28, 104, 29, 96, 42, 180, 0, 141, 16, 40, 27, 104, 29, 96, 46, 79, 42, 180, 0, 144, 16, 40]
abbrev dktX9_laysLines_1 : List UInt8 := dkwX9_laysLines_1 ++ dktX9_laysLines_2
def dkwX9_laysLines_0 : List UInt8 := [42, 180, 0, 138, 28, 42, 180, 0, 138, 27, 46, 79, 3, 62, 29, 16, 40, 162, 0, 75, 42, 180, 0, 141]
abbrev dktX9_laysLines_0 : List UInt8 := dkwX9_laysLines_0 ++ dktX9_laysLines_1
theorem dksX9_laysLines_0 : cX9_laysLines.data.toList.drop 0 = dktX9_laysLines_0 := by decide +kernel
theorem dksX9_laysLines_1 : cX9_laysLines.data.toList.drop 24 = dktX9_laysLines_1 := dk_seg dksX9_laysLines_0 24 rfl rfl
theorem dksX9_laysLines_2 : cX9_laysLines.data.toList.drop 48 = dktX9_laysLines_2 := dk_seg dksX9_laysLines_1 24 rfl rfl
theorem dksX9_laysLines_3 : cX9_laysLines.data.toList.drop 72 = dktX9_laysLines_3 := dk_seg dksX9_laysLines_2 24 rfl rfl
theorem dX9_laysLines_0 : decode cX9_laysLines 0 = .ok (.aload_n 0, 1) := dk_42 (dk_at dksX9_laysLines_0 0 rfl rfl)
theorem dX9_laysLines_1 : decode cX9_laysLines 1 = .ok (.getfield 138, 3) := dk_180 0 138 (dk_at dksX9_laysLines_0 1 rfl rfl)
theorem dX9_laysLines_4 : decode cX9_laysLines 4 = .ok (.iload_n 2, 1) := dk_28 (dk_at dksX9_laysLines_0 4 rfl rfl)
theorem dX9_laysLines_5 : decode cX9_laysLines 5 = .ok (.aload_n 0, 1) := dk_42 (dk_at dksX9_laysLines_0 5 rfl rfl)
theorem dX9_laysLines_6 : decode cX9_laysLines 6 = .ok (.getfield 138, 3) := dk_180 0 138 (dk_at dksX9_laysLines_0 6 rfl rfl)
theorem dX9_laysLines_9 : decode cX9_laysLines 9 = .ok (.iload_n 1, 1) := dk_27 (dk_at dksX9_laysLines_0 9 rfl rfl)
theorem dX9_laysLines_10 : decode cX9_laysLines 10 = .ok (.iaload, 1) := dk_46 (dk_at dksX9_laysLines_0 10 rfl rfl)
theorem dX9_laysLines_11 : decode cX9_laysLines 11 = .ok (.iastore, 1) := dk_79 (dk_at dksX9_laysLines_0 11 rfl rfl)
theorem dX9_laysLines_12 : decode cX9_laysLines 12 = .ok (.iconst 0, 1) := dk_3 (dk_at dksX9_laysLines_0 12 rfl rfl)
theorem dX9_laysLines_13 : decode cX9_laysLines 13 = .ok (.istore_n 3, 1) := dk_62 (dk_at dksX9_laysLines_0 13 rfl rfl)
theorem dX9_laysLines_14 : decode cX9_laysLines 14 = .ok (.iload_n 3, 1) := dk_29 (dk_at dksX9_laysLines_0 14 rfl rfl)
theorem dX9_laysLines_15 : decode cX9_laysLines 15 = .ok (.bipush 40, 2) := dk_16 40 (dk_at dksX9_laysLines_0 15 rfl rfl)
theorem dX9_laysLines_17 : decode cX9_laysLines 17 = .ok (.if_icmp .ge 75, 3) := dk_162 0 75 (dk_at dksX9_laysLines_0 17 rfl rfl)
theorem dX9_laysLines_20 : decode cX9_laysLines 20 = .ok (.aload_n 0, 1) := dk_42 (dk_at dksX9_laysLines_0 20 rfl rfl)
theorem dX9_laysLines_21 : decode cX9_laysLines 21 = .ok (.getfield 141, 3) := dk_180 0 141 (dk_at dksX9_laysLines_0 21 rfl rfl)
theorem dX9_laysLines_24 : decode cX9_laysLines 24 = .ok (.bipush 40, 2) := dk_16 40 (dk_at dksX9_laysLines_1 0 rfl rfl)
theorem dX9_laysLines_26 : decode cX9_laysLines 26 = .ok (.iload_n 2, 1) := dk_28 (dk_at dksX9_laysLines_1 2 rfl rfl)
theorem dX9_laysLines_27 : decode cX9_laysLines 27 = .ok (.imul, 1) := dk_104 (dk_at dksX9_laysLines_1 3 rfl rfl)
theorem dX9_laysLines_28 : decode cX9_laysLines 28 = .ok (.iload_n 3, 1) := dk_29 (dk_at dksX9_laysLines_1 4 rfl rfl)
theorem dX9_laysLines_29 : decode cX9_laysLines 29 = .ok (.iadd, 1) := dk_96 (dk_at dksX9_laysLines_1 5 rfl rfl)
theorem dX9_laysLines_30 : decode cX9_laysLines 30 = .ok (.aload_n 0, 1) := dk_42 (dk_at dksX9_laysLines_1 6 rfl rfl)
theorem dX9_laysLines_31 : decode cX9_laysLines 31 = .ok (.getfield 141, 3) := dk_180 0 141 (dk_at dksX9_laysLines_1 7 rfl rfl)
theorem dX9_laysLines_34 : decode cX9_laysLines 34 = .ok (.bipush 40, 2) := dk_16 40 (dk_at dksX9_laysLines_1 10 rfl rfl)
theorem dX9_laysLines_36 : decode cX9_laysLines 36 = .ok (.iload_n 1, 1) := dk_27 (dk_at dksX9_laysLines_1 12 rfl rfl)
theorem dX9_laysLines_37 : decode cX9_laysLines 37 = .ok (.imul, 1) := dk_104 (dk_at dksX9_laysLines_1 13 rfl rfl)
theorem dX9_laysLines_38 : decode cX9_laysLines 38 = .ok (.iload_n 3, 1) := dk_29 (dk_at dksX9_laysLines_1 14 rfl rfl)
theorem dX9_laysLines_39 : decode cX9_laysLines 39 = .ok (.iadd, 1) := dk_96 (dk_at dksX9_laysLines_1 15 rfl rfl)
theorem dX9_laysLines_40 : decode cX9_laysLines 40 = .ok (.iaload, 1) := dk_46 (dk_at dksX9_laysLines_1 16 rfl rfl)
theorem dX9_laysLines_41 : decode cX9_laysLines 41 = .ok (.iastore, 1) := dk_79 (dk_at dksX9_laysLines_1 17 rfl rfl)
theorem dX9_laysLines_42 : decode cX9_laysLines 42 = .ok (.aload_n 0, 1) := dk_42 (dk_at dksX9_laysLines_1 18 rfl rfl)
theorem dX9_laysLines_43 : decode cX9_laysLines 43 = .ok (.getfield 144, 3) := dk_180 0 144 (dk_at dksX9_laysLines_1 19 rfl rfl)
theorem dX9_laysLines_46 : decode cX9_laysLines 46 = .ok (.bipush 40, 2) := dk_16 40 (dk_at dksX9_laysLines_1 22 rfl rfl)
theorem dX9_laysLines_48 : decode cX9_laysLines 48 = .ok (.iload_n 2, 1) := dk_28 (dk_at dksX9_laysLines_2 0 rfl rfl)
theorem dX9_laysLines_49 : decode cX9_laysLines 49 = .ok (.imul, 1) := dk_104 (dk_at dksX9_laysLines_2 1 rfl rfl)
theorem dX9_laysLines_50 : decode cX9_laysLines 50 = .ok (.iload_n 3, 1) := dk_29 (dk_at dksX9_laysLines_2 2 rfl rfl)
theorem dX9_laysLines_51 : decode cX9_laysLines 51 = .ok (.iadd, 1) := dk_96 (dk_at dksX9_laysLines_2 3 rfl rfl)
theorem dX9_laysLines_52 : decode cX9_laysLines 52 = .ok (.aload_n 0, 1) := dk_42 (dk_at dksX9_laysLines_2 4 rfl rfl)
theorem dX9_laysLines_53 : decode cX9_laysLines 53 = .ok (.getfield 144, 3) := dk_180 0 144 (dk_at dksX9_laysLines_2 5 rfl rfl)
theorem dX9_laysLines_56 : decode cX9_laysLines 56 = .ok (.bipush 40, 2) := dk_16 40 (dk_at dksX9_laysLines_2 8 rfl rfl)
theorem dX9_laysLines_58 : decode cX9_laysLines 58 = .ok (.iload_n 1, 1) := dk_27 (dk_at dksX9_laysLines_2 10 rfl rfl)
theorem dX9_laysLines_59 : decode cX9_laysLines 59 = .ok (.imul, 1) := dk_104 (dk_at dksX9_laysLines_2 11 rfl rfl)
theorem dX9_laysLines_60 : decode cX9_laysLines 60 = .ok (.iload_n 3, 1) := dk_29 (dk_at dksX9_laysLines_2 12 rfl rfl)
theorem dX9_laysLines_61 : decode cX9_laysLines 61 = .ok (.iadd, 1) := dk_96 (dk_at dksX9_laysLines_2 13 rfl rfl)
theorem dX9_laysLines_62 : decode cX9_laysLines 62 = .ok (.iaload, 1) := dk_46 (dk_at dksX9_laysLines_2 14 rfl rfl)
theorem dX9_laysLines_63 : decode cX9_laysLines 63 = .ok (.iastore, 1) := dk_79 (dk_at dksX9_laysLines_2 15 rfl rfl)
theorem dX9_laysLines_64 : decode cX9_laysLines 64 = .ok (.aload_n 0, 1) := dk_42 (dk_at dksX9_laysLines_2 16 rfl rfl)
theorem dX9_laysLines_65 : decode cX9_laysLines 65 = .ok (.getfield 147, 3) := dk_180 0 147 (dk_at dksX9_laysLines_2 17 rfl rfl)
theorem dX9_laysLines_68 : decode cX9_laysLines 68 = .ok (.bipush 40, 2) := dk_16 40 (dk_at dksX9_laysLines_2 20 rfl rfl)
theorem dX9_laysLines_70 : decode cX9_laysLines 70 = .ok (.iload_n 2, 1) := dk_28 (dk_at dksX9_laysLines_2 22 rfl rfl)
theorem dX9_laysLines_71 : decode cX9_laysLines 71 = .ok (.imul, 1) := dk_104 (dk_at dksX9_laysLines_2 23 rfl rfl)
theorem dX9_laysLines_72 : decode cX9_laysLines 72 = .ok (.iload_n 3, 1) := dk_29 (dk_at dksX9_laysLines_3 0 rfl rfl)
theorem dX9_laysLines_73 : decode cX9_laysLines 73 = .ok (.iadd, 1) := dk_96 (dk_at dksX9_laysLines_3 1 rfl rfl)
theorem dX9_laysLines_74 : decode cX9_laysLines 74 = .ok (.aload_n 0, 1) := dk_42 (dk_at dksX9_laysLines_3 2 rfl rfl)
theorem dX9_laysLines_75 : decode cX9_laysLines 75 = .ok (.getfield 147, 3) := dk_180 0 147 (dk_at dksX9_laysLines_3 3 rfl rfl)
theorem dX9_laysLines_78 : decode cX9_laysLines 78 = .ok (.bipush 40, 2) := dk_16 40 (dk_at dksX9_laysLines_3 6 rfl rfl)
theorem dX9_laysLines_80 : decode cX9_laysLines 80 = .ok (.iload_n 1, 1) := dk_27 (dk_at dksX9_laysLines_3 8 rfl rfl)
theorem dX9_laysLines_81 : decode cX9_laysLines 81 = .ok (.imul, 1) := dk_104 (dk_at dksX9_laysLines_3 9 rfl rfl)
theorem dX9_laysLines_82 : decode cX9_laysLines 82 = .ok (.iload_n 3, 1) := dk_29 (dk_at dksX9_laysLines_3 10 rfl rfl)
theorem dX9_laysLines_83 : decode cX9_laysLines 83 = .ok (.iadd, 1) := dk_96 (dk_at dksX9_laysLines_3 11 rfl rfl)
theorem dX9_laysLines_84 : decode cX9_laysLines 84 = .ok (.iaload, 1) := dk_46 (dk_at dksX9_laysLines_3 12 rfl rfl)
theorem dX9_laysLines_85 : decode cX9_laysLines 85 = .ok (.iastore, 1) := dk_79 (dk_at dksX9_laysLines_3 13 rfl rfl)
theorem dX9_laysLines_86 : decode cX9_laysLines 86 = .ok (.iinc 3 1, 3) := dk_132 3 1 (dk_at dksX9_laysLines_3 14 rfl rfl)
theorem dX9_laysLines_89 : decode cX9_laysLines 89 = .ok (.goto (-75), 3) := dk_167 255 181 (dk_at dksX9_laysLines_3 17 rfl rfl)
theorem dX9_laysLines_92 : decode cX9_laysLines 92 = .ok (.return_, 1) := dk_177 (dk_at dksX9_laysLines_3 20 rfl rfl)
abbrev cX9_apple : ByteArray := prog_35_method_61_code
def yX9_apple : MethodName := ⟨RX9, "apple", "(II)I"⟩
def dkwX9_apple_6 : List UInt8 := [180, 0, 41, 27, 46, 167, 0, 14, 42, 27, 42, 180, 0, 168, 5, 46, 182, 1, 225, 172]
abbrev dktX9_apple_6 : List UInt8 := dkwX9_apple_6 ++ []
def dkwX9_apple_5 : List UInt8 := [28, 8, 160, 0, 7, 3, 167, 0, 4, 4, 46, 27, 122, 4, 126, 172, 28, 16, 8, 160, 0, 12, 42]
abbrev dktX9_apple_5 : List UInt8 := dkwX9_apple_5 ++ dktX9_apple_6
def dkwX9_apple_4 : List UInt8 := [162, 0, 40, 28, 16, 6, 160, 0, 14, 42, 180, 0, 168, 8, 27, 96, 46, 167, 0, 22, 42, 180, 0, 168]
abbrev dktX9_apple_4 : List UInt8 := dkwX9_apple_4 ++ dktX9_apple_5
def dkwX9_apple_3 : List UInt8 := [160, 0, 12, 42, 180, 0, 35, 27, 46, 167, 0, 9, 42, 180, 0, 38, 27, 46, 172, 28, 16, 8]
abbrev dktX9_apple_3 : List UInt8 := dkwX9_apple_3 ++ dktX9_apple_4
def dkwX9_apple_2 : List UInt8 := [42, 180, 0, 29, 27, 46, 167, 0, 9, 42, 180, 0, 32, 27, 46, 172, 28, 8, 162, 0, 24, 28, 6]
abbrev dktX9_apple_2 : List UInt8 := dkwX9_apple_2 ++ dktX9_apple_3
def dkwX9_apple_1 : List UInt8 := [172, 28, 6, 162, 0, 37, 28, 154, 0, 12, 42, 180, 0, 26, 27, 46, 167, 0, 23, 28, 4, 160, 0, 12]
abbrev dktX9_apple_1 : List UInt8 := dkwX9_apple_1 ++ dktX9_apple_2
def dkwX9_apple_0 : List UInt8 := [42, 3, 181, 0, 212, 42, 27, 182, 1, 222, 153, 0, 13, 28, 3, 16, 9, 184, 1, 95, 154, 0, 5, 2]
abbrev dktX9_apple_0 : List UInt8 := dkwX9_apple_0 ++ dktX9_apple_1
theorem dksX9_apple_0 : cX9_apple.data.toList.drop 0 = dktX9_apple_0 := by decide +kernel
theorem dksX9_apple_1 : cX9_apple.data.toList.drop 24 = dktX9_apple_1 := dk_seg dksX9_apple_0 24 rfl rfl
theorem dksX9_apple_2 : cX9_apple.data.toList.drop 48 = dktX9_apple_2 := dk_seg dksX9_apple_1 24 rfl rfl
theorem dksX9_apple_3 : cX9_apple.data.toList.drop 71 = dktX9_apple_3 := dk_seg dksX9_apple_2 23 rfl rfl
theorem dksX9_apple_4 : cX9_apple.data.toList.drop 93 = dktX9_apple_4 := dk_seg dksX9_apple_3 22 rfl rfl
theorem dksX9_apple_5 : cX9_apple.data.toList.drop 117 = dktX9_apple_5 := dk_seg dksX9_apple_4 24 rfl rfl
theorem dksX9_apple_6 : cX9_apple.data.toList.drop 140 = dktX9_apple_6 := dk_seg dksX9_apple_5 23 rfl rfl
theorem dX9_apple_0 : decode cX9_apple 0 = .ok (.aload_n 0, 1) := dk_42 (dk_at dksX9_apple_0 0 rfl rfl)
theorem dX9_apple_1 : decode cX9_apple 1 = .ok (.iconst 0, 1) := dk_3 (dk_at dksX9_apple_0 1 rfl rfl)
theorem dX9_apple_2 : decode cX9_apple 2 = .ok (.putfield 212, 3) := dk_181 0 212 (dk_at dksX9_apple_0 2 rfl rfl)
theorem dX9_apple_5 : decode cX9_apple 5 = .ok (.aload_n 0, 1) := dk_42 (dk_at dksX9_apple_0 5 rfl rfl)
theorem dX9_apple_6 : decode cX9_apple 6 = .ok (.iload_n 1, 1) := dk_27 (dk_at dksX9_apple_0 6 rfl rfl)
theorem dX9_apple_7 : decode cX9_apple 7 = .ok (.invokevirtual 478, 3) := dk_182 1 222 (dk_at dksX9_apple_0 7 rfl rfl)
theorem dX9_apple_10 : decode cX9_apple 10 = .ok (.ifCond .eq 13, 3) := dk_153 0 13 (dk_at dksX9_apple_0 10 rfl rfl)
theorem dX9_apple_13 : decode cX9_apple 13 = .ok (.iload_n 2, 1) := dk_28 (dk_at dksX9_apple_0 13 rfl rfl)
theorem dX9_apple_14 : decode cX9_apple 14 = .ok (.iconst 0, 1) := dk_3 (dk_at dksX9_apple_0 14 rfl rfl)
theorem dX9_apple_15 : decode cX9_apple 15 = .ok (.bipush 9, 2) := dk_16 9 (dk_at dksX9_apple_0 15 rfl rfl)
theorem dX9_apple_17 : decode cX9_apple 17 = .ok (.invokestatic 351, 3) := dk_184 1 95 (dk_at dksX9_apple_0 17 rfl rfl)
theorem dX9_apple_20 : decode cX9_apple 20 = .ok (.ifCond .ne 5, 3) := dk_154 0 5 (dk_at dksX9_apple_0 20 rfl rfl)
theorem dX9_apple_23 : decode cX9_apple 23 = .ok (.iconst (-1), 1) := dk_2 (dk_at dksX9_apple_0 23 rfl rfl)
theorem dX9_apple_24 : decode cX9_apple 24 = .ok (.ireturn, 1) := dk_172 (dk_at dksX9_apple_1 0 rfl rfl)
theorem dX9_apple_25 : decode cX9_apple 25 = .ok (.iload_n 2, 1) := dk_28 (dk_at dksX9_apple_1 1 rfl rfl)
theorem dX9_apple_26 : decode cX9_apple 26 = .ok (.iconst 3, 1) := dk_6 (dk_at dksX9_apple_1 2 rfl rfl)
theorem dX9_apple_27 : decode cX9_apple 27 = .ok (.if_icmp .ge 37, 3) := dk_162 0 37 (dk_at dksX9_apple_1 3 rfl rfl)
theorem dX9_apple_30 : decode cX9_apple 30 = .ok (.iload_n 2, 1) := dk_28 (dk_at dksX9_apple_1 6 rfl rfl)
theorem dX9_apple_31 : decode cX9_apple 31 = .ok (.ifCond .ne 12, 3) := dk_154 0 12 (dk_at dksX9_apple_1 7 rfl rfl)
theorem dX9_apple_34 : decode cX9_apple 34 = .ok (.aload_n 0, 1) := dk_42 (dk_at dksX9_apple_1 10 rfl rfl)
theorem dX9_apple_35 : decode cX9_apple 35 = .ok (.getfield 26, 3) := dk_180 0 26 (dk_at dksX9_apple_1 11 rfl rfl)
theorem dX9_apple_38 : decode cX9_apple 38 = .ok (.iload_n 1, 1) := dk_27 (dk_at dksX9_apple_1 14 rfl rfl)
theorem dX9_apple_39 : decode cX9_apple 39 = .ok (.iaload, 1) := dk_46 (dk_at dksX9_apple_1 15 rfl rfl)
theorem dX9_apple_40 : decode cX9_apple 40 = .ok (.goto 23, 3) := dk_167 0 23 (dk_at dksX9_apple_1 16 rfl rfl)
theorem dX9_apple_43 : decode cX9_apple 43 = .ok (.iload_n 2, 1) := dk_28 (dk_at dksX9_apple_1 19 rfl rfl)
theorem dX9_apple_44 : decode cX9_apple 44 = .ok (.iconst 1, 1) := dk_4 (dk_at dksX9_apple_1 20 rfl rfl)
theorem dX9_apple_45 : decode cX9_apple 45 = .ok (.if_icmp .ne 12, 3) := dk_160 0 12 (dk_at dksX9_apple_1 21 rfl rfl)
theorem dX9_apple_48 : decode cX9_apple 48 = .ok (.aload_n 0, 1) := dk_42 (dk_at dksX9_apple_2 0 rfl rfl)
theorem dX9_apple_49 : decode cX9_apple 49 = .ok (.getfield 29, 3) := dk_180 0 29 (dk_at dksX9_apple_2 1 rfl rfl)
theorem dX9_apple_52 : decode cX9_apple 52 = .ok (.iload_n 1, 1) := dk_27 (dk_at dksX9_apple_2 4 rfl rfl)
theorem dX9_apple_53 : decode cX9_apple 53 = .ok (.iaload, 1) := dk_46 (dk_at dksX9_apple_2 5 rfl rfl)
theorem dX9_apple_54 : decode cX9_apple 54 = .ok (.goto 9, 3) := dk_167 0 9 (dk_at dksX9_apple_2 6 rfl rfl)
theorem dX9_apple_57 : decode cX9_apple 57 = .ok (.aload_n 0, 1) := dk_42 (dk_at dksX9_apple_2 9 rfl rfl)
theorem dX9_apple_58 : decode cX9_apple 58 = .ok (.getfield 32, 3) := dk_180 0 32 (dk_at dksX9_apple_2 10 rfl rfl)
theorem dX9_apple_61 : decode cX9_apple 61 = .ok (.iload_n 1, 1) := dk_27 (dk_at dksX9_apple_2 13 rfl rfl)
theorem dX9_apple_62 : decode cX9_apple 62 = .ok (.iaload, 1) := dk_46 (dk_at dksX9_apple_2 14 rfl rfl)
theorem dX9_apple_63 : decode cX9_apple 63 = .ok (.ireturn, 1) := dk_172 (dk_at dksX9_apple_2 15 rfl rfl)
theorem dX9_apple_64 : decode cX9_apple 64 = .ok (.iload_n 2, 1) := dk_28 (dk_at dksX9_apple_2 16 rfl rfl)
theorem dX9_apple_65 : decode cX9_apple 65 = .ok (.iconst 5, 1) := dk_8 (dk_at dksX9_apple_2 17 rfl rfl)
theorem dX9_apple_66 : decode cX9_apple 66 = .ok (.if_icmp .ge 24, 3) := dk_162 0 24 (dk_at dksX9_apple_2 18 rfl rfl)
theorem dX9_apple_69 : decode cX9_apple 69 = .ok (.iload_n 2, 1) := dk_28 (dk_at dksX9_apple_2 21 rfl rfl)
theorem dX9_apple_70 : decode cX9_apple 70 = .ok (.iconst 3, 1) := dk_6 (dk_at dksX9_apple_2 22 rfl rfl)
theorem dX9_apple_71 : decode cX9_apple 71 = .ok (.if_icmp .ne 12, 3) := dk_160 0 12 (dk_at dksX9_apple_3 0 rfl rfl)
theorem dX9_apple_74 : decode cX9_apple 74 = .ok (.aload_n 0, 1) := dk_42 (dk_at dksX9_apple_3 3 rfl rfl)
theorem dX9_apple_75 : decode cX9_apple 75 = .ok (.getfield 35, 3) := dk_180 0 35 (dk_at dksX9_apple_3 4 rfl rfl)
theorem dX9_apple_78 : decode cX9_apple 78 = .ok (.iload_n 1, 1) := dk_27 (dk_at dksX9_apple_3 7 rfl rfl)
theorem dX9_apple_79 : decode cX9_apple 79 = .ok (.iaload, 1) := dk_46 (dk_at dksX9_apple_3 8 rfl rfl)
theorem dX9_apple_80 : decode cX9_apple 80 = .ok (.goto 9, 3) := dk_167 0 9 (dk_at dksX9_apple_3 9 rfl rfl)
theorem dX9_apple_83 : decode cX9_apple 83 = .ok (.aload_n 0, 1) := dk_42 (dk_at dksX9_apple_3 12 rfl rfl)
theorem dX9_apple_84 : decode cX9_apple 84 = .ok (.getfield 38, 3) := dk_180 0 38 (dk_at dksX9_apple_3 13 rfl rfl)
theorem dX9_apple_87 : decode cX9_apple 87 = .ok (.iload_n 1, 1) := dk_27 (dk_at dksX9_apple_3 16 rfl rfl)
theorem dX9_apple_88 : decode cX9_apple 88 = .ok (.iaload, 1) := dk_46 (dk_at dksX9_apple_3 17 rfl rfl)
theorem dX9_apple_89 : decode cX9_apple 89 = .ok (.ireturn, 1) := dk_172 (dk_at dksX9_apple_3 18 rfl rfl)
theorem dX9_apple_90 : decode cX9_apple 90 = .ok (.iload_n 2, 1) := dk_28 (dk_at dksX9_apple_3 19 rfl rfl)
theorem dX9_apple_91 : decode cX9_apple 91 = .ok (.bipush 8, 2) := dk_16 8 (dk_at dksX9_apple_3 20 rfl rfl)
theorem dX9_apple_93 : decode cX9_apple 93 = .ok (.if_icmp .ge 40, 3) := dk_162 0 40 (dk_at dksX9_apple_4 0 rfl rfl)
theorem dX9_apple_96 : decode cX9_apple 96 = .ok (.iload_n 2, 1) := dk_28 (dk_at dksX9_apple_4 3 rfl rfl)
theorem dX9_apple_97 : decode cX9_apple 97 = .ok (.bipush 6, 2) := dk_16 6 (dk_at dksX9_apple_4 4 rfl rfl)
theorem dX9_apple_99 : decode cX9_apple 99 = .ok (.if_icmp .ne 14, 3) := dk_160 0 14 (dk_at dksX9_apple_4 6 rfl rfl)
theorem dX9_apple_102 : decode cX9_apple 102 = .ok (.aload_n 0, 1) := dk_42 (dk_at dksX9_apple_4 9 rfl rfl)
theorem dX9_apple_103 : decode cX9_apple 103 = .ok (.getfield 168, 3) := dk_180 0 168 (dk_at dksX9_apple_4 10 rfl rfl)
theorem dX9_apple_106 : decode cX9_apple 106 = .ok (.iconst 5, 1) := dk_8 (dk_at dksX9_apple_4 13 rfl rfl)
theorem dX9_apple_107 : decode cX9_apple 107 = .ok (.iload_n 1, 1) := dk_27 (dk_at dksX9_apple_4 14 rfl rfl)
theorem dX9_apple_108 : decode cX9_apple 108 = .ok (.iadd, 1) := dk_96 (dk_at dksX9_apple_4 15 rfl rfl)
theorem dX9_apple_109 : decode cX9_apple 109 = .ok (.iaload, 1) := dk_46 (dk_at dksX9_apple_4 16 rfl rfl)
theorem dX9_apple_110 : decode cX9_apple 110 = .ok (.goto 22, 3) := dk_167 0 22 (dk_at dksX9_apple_4 17 rfl rfl)
theorem dX9_apple_113 : decode cX9_apple 113 = .ok (.aload_n 0, 1) := dk_42 (dk_at dksX9_apple_4 20 rfl rfl)
theorem dX9_apple_114 : decode cX9_apple 114 = .ok (.getfield 168, 3) := dk_180 0 168 (dk_at dksX9_apple_4 21 rfl rfl)
theorem dX9_apple_117 : decode cX9_apple 117 = .ok (.iload_n 2, 1) := dk_28 (dk_at dksX9_apple_5 0 rfl rfl)
theorem dX9_apple_118 : decode cX9_apple 118 = .ok (.iconst 5, 1) := dk_8 (dk_at dksX9_apple_5 1 rfl rfl)
theorem dX9_apple_119 : decode cX9_apple 119 = .ok (.if_icmp .ne 7, 3) := dk_160 0 7 (dk_at dksX9_apple_5 2 rfl rfl)
theorem dX9_apple_122 : decode cX9_apple 122 = .ok (.iconst 0, 1) := dk_3 (dk_at dksX9_apple_5 5 rfl rfl)
theorem dX9_apple_123 : decode cX9_apple 123 = .ok (.goto 4, 3) := dk_167 0 4 (dk_at dksX9_apple_5 6 rfl rfl)
theorem dX9_apple_126 : decode cX9_apple 126 = .ok (.iconst 1, 1) := dk_4 (dk_at dksX9_apple_5 9 rfl rfl)
theorem dX9_apple_127 : decode cX9_apple 127 = .ok (.iaload, 1) := dk_46 (dk_at dksX9_apple_5 10 rfl rfl)
theorem dX9_apple_128 : decode cX9_apple 128 = .ok (.iload_n 1, 1) := dk_27 (dk_at dksX9_apple_5 11 rfl rfl)
theorem dX9_apple_129 : decode cX9_apple 129 = .ok (.ishr, 1) := dk_122 (dk_at dksX9_apple_5 12 rfl rfl)
theorem dX9_apple_130 : decode cX9_apple 130 = .ok (.iconst 1, 1) := dk_4 (dk_at dksX9_apple_5 13 rfl rfl)
theorem dX9_apple_131 : decode cX9_apple 131 = .ok (.iand, 1) := dk_126 (dk_at dksX9_apple_5 14 rfl rfl)
theorem dX9_apple_132 : decode cX9_apple 132 = .ok (.ireturn, 1) := dk_172 (dk_at dksX9_apple_5 15 rfl rfl)
theorem dX9_apple_133 : decode cX9_apple 133 = .ok (.iload_n 2, 1) := dk_28 (dk_at dksX9_apple_5 16 rfl rfl)
theorem dX9_apple_134 : decode cX9_apple 134 = .ok (.bipush 8, 2) := dk_16 8 (dk_at dksX9_apple_5 17 rfl rfl)
theorem dX9_apple_136 : decode cX9_apple 136 = .ok (.if_icmp .ne 12, 3) := dk_160 0 12 (dk_at dksX9_apple_5 19 rfl rfl)
theorem dX9_apple_139 : decode cX9_apple 139 = .ok (.aload_n 0, 1) := dk_42 (dk_at dksX9_apple_5 22 rfl rfl)
theorem dX9_apple_140 : decode cX9_apple 140 = .ok (.getfield 41, 3) := dk_180 0 41 (dk_at dksX9_apple_6 0 rfl rfl)
theorem dX9_apple_143 : decode cX9_apple 143 = .ok (.iload_n 1, 1) := dk_27 (dk_at dksX9_apple_6 3 rfl rfl)
theorem dX9_apple_144 : decode cX9_apple 144 = .ok (.iaload, 1) := dk_46 (dk_at dksX9_apple_6 4 rfl rfl)
theorem dX9_apple_145 : decode cX9_apple 145 = .ok (.goto 14, 3) := dk_167 0 14 (dk_at dksX9_apple_6 5 rfl rfl)
theorem dX9_apple_148 : decode cX9_apple 148 = .ok (.aload_n 0, 1) := dk_42 (dk_at dksX9_apple_6 8 rfl rfl)
theorem dX9_apple_149 : decode cX9_apple 149 = .ok (.iload_n 1, 1) := dk_27 (dk_at dksX9_apple_6 9 rfl rfl)
theorem dX9_apple_150 : decode cX9_apple 150 = .ok (.aload_n 0, 1) := dk_42 (dk_at dksX9_apple_6 10 rfl rfl)
theorem dX9_apple_151 : decode cX9_apple 151 = .ok (.getfield 168, 3) := dk_180 0 168 (dk_at dksX9_apple_6 11 rfl rfl)
theorem dX9_apple_154 : decode cX9_apple 154 = .ok (.iconst 2, 1) := dk_5 (dk_at dksX9_apple_6 14 rfl rfl)
theorem dX9_apple_155 : decode cX9_apple 155 = .ok (.iaload, 1) := dk_46 (dk_at dksX9_apple_6 15 rfl rfl)
theorem dX9_apple_156 : decode cX9_apple 156 = .ok (.invokevirtual 481, 3) := dk_182 1 225 (dk_at dksX9_apple_6 16 rfl rfl)
theorem dX9_apple_159 : decode cX9_apple 159 = .ok (.ireturn, 1) := dk_172 (dk_at dksX9_apple_6 19 rfl rfl)
abbrev cX9_isApple : ByteArray := prog_35_method_56_code
def yX9_isApple : MethodName := ⟨RX9, "isApple", "(I)Z"⟩
def dkwX9_isApple_0 : List UInt8 := [27, 155, 0, 17, 27, 42, 180, 0, 13, 3, 46, 162, 0, 7, 4, 167, 0, 4, 3, 172]
abbrev dktX9_isApple_0 : List UInt8 := dkwX9_isApple_0 ++ []
theorem dksX9_isApple_0 : cX9_isApple.data.toList.drop 0 = dktX9_isApple_0 := by decide +kernel
theorem dX9_isApple_0 : decode cX9_isApple 0 = .ok (.iload_n 1, 1) := dk_27 (dk_at dksX9_isApple_0 0 rfl rfl)
theorem dX9_isApple_1 : decode cX9_isApple 1 = .ok (.ifCond .lt 17, 3) := dk_155 0 17 (dk_at dksX9_isApple_0 1 rfl rfl)
theorem dX9_isApple_4 : decode cX9_isApple 4 = .ok (.iload_n 1, 1) := dk_27 (dk_at dksX9_isApple_0 4 rfl rfl)
theorem dX9_isApple_5 : decode cX9_isApple 5 = .ok (.aload_n 0, 1) := dk_42 (dk_at dksX9_isApple_0 5 rfl rfl)
theorem dX9_isApple_6 : decode cX9_isApple 6 = .ok (.getfield 13, 3) := dk_180 0 13 (dk_at dksX9_isApple_0 6 rfl rfl)
theorem dX9_isApple_9 : decode cX9_isApple 9 = .ok (.iconst 0, 1) := dk_3 (dk_at dksX9_isApple_0 9 rfl rfl)
theorem dX9_isApple_10 : decode cX9_isApple 10 = .ok (.iaload, 1) := dk_46 (dk_at dksX9_isApple_0 10 rfl rfl)
theorem dX9_isApple_11 : decode cX9_isApple 11 = .ok (.if_icmp .ge 7, 3) := dk_162 0 7 (dk_at dksX9_isApple_0 11 rfl rfl)
theorem dX9_isApple_14 : decode cX9_isApple 14 = .ok (.iconst 1, 1) := dk_4 (dk_at dksX9_isApple_0 14 rfl rfl)
theorem dX9_isApple_15 : decode cX9_isApple 15 = .ok (.goto 4, 3) := dk_167 0 4 (dk_at dksX9_isApple_0 15 rfl rfl)
theorem dX9_isApple_18 : decode cX9_isApple 18 = .ok (.iconst 0, 1) := dk_3 (dk_at dksX9_isApple_0 18 rfl rfl)
theorem dX9_isApple_19 : decode cX9_isApple 19 = .ok (.ireturn, 1) := dk_172 (dk_at dksX9_isApple_0 19 rfl rfl)
abbrev cX9_valueOn : ByteArray := prog_35_method_60_code
def yX9_valueOn : MethodName := ⟨RX9, "valueOn", "(II)I"⟩
def dkwX9_valueOn_2 : List UInt8 := [27, 46, 79, 42, 180, 0, 114, 16, 6, 29, 79, 42, 4, 182, 1, 197, 3, 17, 3, 231, 184, 1, 218, 172]
abbrev dktX9_valueOn_2 : List UInt8 := dkwX9_valueOn_2 ++ []
def dkwX9_valueOn_1 : List UInt8 := [29, 156, 0, 7, 3, 167, 0, 9, 42, 180, 0, 38, 27, 46, 172, 42, 180, 0, 114, 8, 42, 180, 0, 38]
abbrev dktX9_valueOn_1 : List UInt8 := dkwX9_valueOn_1 ++ dktX9_valueOn_2
def dkwX9_valueOn_0 : List UInt8 := [28, 42, 180, 0, 35, 27, 46, 100, 62, 42, 180, 0, 74, 4, 46, 42, 180, 0, 71, 4, 46, 160, 0, 18]
abbrev dktX9_valueOn_0 : List UInt8 := dkwX9_valueOn_0 ++ dktX9_valueOn_1
theorem dksX9_valueOn_0 : cX9_valueOn.data.toList.drop 0 = dktX9_valueOn_0 := by decide +kernel
theorem dksX9_valueOn_1 : cX9_valueOn.data.toList.drop 24 = dktX9_valueOn_1 := dk_seg dksX9_valueOn_0 24 rfl rfl
theorem dksX9_valueOn_2 : cX9_valueOn.data.toList.drop 48 = dktX9_valueOn_2 := dk_seg dksX9_valueOn_1 24 rfl rfl
theorem dX9_valueOn_0 : decode cX9_valueOn 0 = .ok (.iload_n 2, 1) := dk_28 (dk_at dksX9_valueOn_0 0 rfl rfl)
theorem dX9_valueOn_1 : decode cX9_valueOn 1 = .ok (.aload_n 0, 1) := dk_42 (dk_at dksX9_valueOn_0 1 rfl rfl)
theorem dX9_valueOn_2 : decode cX9_valueOn 2 = .ok (.getfield 35, 3) := dk_180 0 35 (dk_at dksX9_valueOn_0 2 rfl rfl)
theorem dX9_valueOn_5 : decode cX9_valueOn 5 = .ok (.iload_n 1, 1) := dk_27 (dk_at dksX9_valueOn_0 5 rfl rfl)
theorem dX9_valueOn_6 : decode cX9_valueOn 6 = .ok (.iaload, 1) := dk_46 (dk_at dksX9_valueOn_0 6 rfl rfl)
theorem dX9_valueOn_7 : decode cX9_valueOn 7 = .ok (.isub, 1) := dk_100 (dk_at dksX9_valueOn_0 7 rfl rfl)
theorem dX9_valueOn_8 : decode cX9_valueOn 8 = .ok (.istore_n 3, 1) := dk_62 (dk_at dksX9_valueOn_0 8 rfl rfl)
theorem dX9_valueOn_9 : decode cX9_valueOn 9 = .ok (.aload_n 0, 1) := dk_42 (dk_at dksX9_valueOn_0 9 rfl rfl)
theorem dX9_valueOn_10 : decode cX9_valueOn 10 = .ok (.getfield 74, 3) := dk_180 0 74 (dk_at dksX9_valueOn_0 10 rfl rfl)
theorem dX9_valueOn_13 : decode cX9_valueOn 13 = .ok (.iconst 1, 1) := dk_4 (dk_at dksX9_valueOn_0 13 rfl rfl)
theorem dX9_valueOn_14 : decode cX9_valueOn 14 = .ok (.iaload, 1) := dk_46 (dk_at dksX9_valueOn_0 14 rfl rfl)
theorem dX9_valueOn_15 : decode cX9_valueOn 15 = .ok (.aload_n 0, 1) := dk_42 (dk_at dksX9_valueOn_0 15 rfl rfl)
theorem dX9_valueOn_16 : decode cX9_valueOn 16 = .ok (.getfield 71, 3) := dk_180 0 71 (dk_at dksX9_valueOn_0 16 rfl rfl)
theorem dX9_valueOn_19 : decode cX9_valueOn 19 = .ok (.iconst 1, 1) := dk_4 (dk_at dksX9_valueOn_0 19 rfl rfl)
theorem dX9_valueOn_20 : decode cX9_valueOn 20 = .ok (.iaload, 1) := dk_46 (dk_at dksX9_valueOn_0 20 rfl rfl)
theorem dX9_valueOn_21 : decode cX9_valueOn 21 = .ok (.if_icmp .ne 18, 3) := dk_160 0 18 (dk_at dksX9_valueOn_0 21 rfl rfl)
theorem dX9_valueOn_24 : decode cX9_valueOn 24 = .ok (.iload_n 3, 1) := dk_29 (dk_at dksX9_valueOn_1 0 rfl rfl)
theorem dX9_valueOn_25 : decode cX9_valueOn 25 = .ok (.ifCond .ge 7, 3) := dk_156 0 7 (dk_at dksX9_valueOn_1 1 rfl rfl)
theorem dX9_valueOn_28 : decode cX9_valueOn 28 = .ok (.iconst 0, 1) := dk_3 (dk_at dksX9_valueOn_1 4 rfl rfl)
theorem dX9_valueOn_29 : decode cX9_valueOn 29 = .ok (.goto 9, 3) := dk_167 0 9 (dk_at dksX9_valueOn_1 5 rfl rfl)
theorem dX9_valueOn_32 : decode cX9_valueOn 32 = .ok (.aload_n 0, 1) := dk_42 (dk_at dksX9_valueOn_1 8 rfl rfl)
theorem dX9_valueOn_33 : decode cX9_valueOn 33 = .ok (.getfield 38, 3) := dk_180 0 38 (dk_at dksX9_valueOn_1 9 rfl rfl)
theorem dX9_valueOn_36 : decode cX9_valueOn 36 = .ok (.iload_n 1, 1) := dk_27 (dk_at dksX9_valueOn_1 12 rfl rfl)
theorem dX9_valueOn_37 : decode cX9_valueOn 37 = .ok (.iaload, 1) := dk_46 (dk_at dksX9_valueOn_1 13 rfl rfl)
theorem dX9_valueOn_38 : decode cX9_valueOn 38 = .ok (.ireturn, 1) := dk_172 (dk_at dksX9_valueOn_1 14 rfl rfl)
theorem dX9_valueOn_39 : decode cX9_valueOn 39 = .ok (.aload_n 0, 1) := dk_42 (dk_at dksX9_valueOn_1 15 rfl rfl)
theorem dX9_valueOn_40 : decode cX9_valueOn 40 = .ok (.getfield 114, 3) := dk_180 0 114 (dk_at dksX9_valueOn_1 16 rfl rfl)
theorem dX9_valueOn_43 : decode cX9_valueOn 43 = .ok (.iconst 5, 1) := dk_8 (dk_at dksX9_valueOn_1 19 rfl rfl)
theorem dX9_valueOn_44 : decode cX9_valueOn 44 = .ok (.aload_n 0, 1) := dk_42 (dk_at dksX9_valueOn_1 20 rfl rfl)
theorem dX9_valueOn_45 : decode cX9_valueOn 45 = .ok (.getfield 38, 3) := dk_180 0 38 (dk_at dksX9_valueOn_1 21 rfl rfl)
theorem dX9_valueOn_48 : decode cX9_valueOn 48 = .ok (.iload_n 1, 1) := dk_27 (dk_at dksX9_valueOn_2 0 rfl rfl)
theorem dX9_valueOn_49 : decode cX9_valueOn 49 = .ok (.iaload, 1) := dk_46 (dk_at dksX9_valueOn_2 1 rfl rfl)
theorem dX9_valueOn_50 : decode cX9_valueOn 50 = .ok (.iastore, 1) := dk_79 (dk_at dksX9_valueOn_2 2 rfl rfl)
theorem dX9_valueOn_51 : decode cX9_valueOn 51 = .ok (.aload_n 0, 1) := dk_42 (dk_at dksX9_valueOn_2 3 rfl rfl)
theorem dX9_valueOn_52 : decode cX9_valueOn 52 = .ok (.getfield 114, 3) := dk_180 0 114 (dk_at dksX9_valueOn_2 4 rfl rfl)
theorem dX9_valueOn_55 : decode cX9_valueOn 55 = .ok (.bipush 6, 2) := dk_16 6 (dk_at dksX9_valueOn_2 7 rfl rfl)
theorem dX9_valueOn_57 : decode cX9_valueOn 57 = .ok (.iload_n 3, 1) := dk_29 (dk_at dksX9_valueOn_2 9 rfl rfl)
theorem dX9_valueOn_58 : decode cX9_valueOn 58 = .ok (.iastore, 1) := dk_79 (dk_at dksX9_valueOn_2 10 rfl rfl)
theorem dX9_valueOn_59 : decode cX9_valueOn 59 = .ok (.aload_n 0, 1) := dk_42 (dk_at dksX9_valueOn_2 11 rfl rfl)
theorem dX9_valueOn_60 : decode cX9_valueOn 60 = .ok (.iconst 1, 1) := dk_4 (dk_at dksX9_valueOn_2 12 rfl rfl)
theorem dX9_valueOn_61 : decode cX9_valueOn 61 = .ok (.invokevirtual 453, 3) := dk_182 1 197 (dk_at dksX9_valueOn_2 13 rfl rfl)
theorem dX9_valueOn_64 : decode cX9_valueOn 64 = .ok (.iconst 0, 1) := dk_3 (dk_at dksX9_valueOn_2 16 rfl rfl)
theorem dX9_valueOn_65 : decode cX9_valueOn 65 = .ok (.sipush 999, 3) := dk_17 3 231 (dk_at dksX9_valueOn_2 17 rfl rfl)
theorem dX9_valueOn_68 : decode cX9_valueOn 68 = .ok (.invokestatic 474, 3) := dk_184 1 218 (dk_at dksX9_valueOn_2 20 rfl rfl)
theorem dX9_valueOn_71 : decode cX9_valueOn 71 = .ok (.ireturn, 1) := dk_172 (dk_at dksX9_valueOn_2 23 rfl rfl)
abbrev cX9_between : ByteArray := prog_35_method_4_code
def yX9_between : MethodName := ⟨RX9, "between", "(III)I"⟩
def dkwX9_between_0 : List UInt8 := [26, 27, 162, 0, 7, 27, 167, 0, 13, 26, 28, 164, 0, 7, 28, 167, 0, 4, 26, 172]
abbrev dktX9_between_0 : List UInt8 := dkwX9_between_0 ++ []
theorem dksX9_between_0 : cX9_between.data.toList.drop 0 = dktX9_between_0 := by decide +kernel
theorem dX9_between_0 : decode cX9_between 0 = .ok (.iload_n 0, 1) := dk_26 (dk_at dksX9_between_0 0 rfl rfl)
theorem dX9_between_1 : decode cX9_between 1 = .ok (.iload_n 1, 1) := dk_27 (dk_at dksX9_between_0 1 rfl rfl)
theorem dX9_between_2 : decode cX9_between 2 = .ok (.if_icmp .ge 7, 3) := dk_162 0 7 (dk_at dksX9_between_0 2 rfl rfl)
theorem dX9_between_5 : decode cX9_between 5 = .ok (.iload_n 1, 1) := dk_27 (dk_at dksX9_between_0 5 rfl rfl)
theorem dX9_between_6 : decode cX9_between 6 = .ok (.goto 13, 3) := dk_167 0 13 (dk_at dksX9_between_0 6 rfl rfl)
theorem dX9_between_9 : decode cX9_between 9 = .ok (.iload_n 0, 1) := dk_26 (dk_at dksX9_between_0 9 rfl rfl)
theorem dX9_between_10 : decode cX9_between 10 = .ok (.iload_n 2, 1) := dk_28 (dk_at dksX9_between_0 10 rfl rfl)
theorem dX9_between_11 : decode cX9_between 11 = .ok (.if_icmp .le 7, 3) := dk_164 0 7 (dk_at dksX9_between_0 11 rfl rfl)
theorem dX9_between_14 : decode cX9_between 14 = .ok (.iload_n 2, 1) := dk_28 (dk_at dksX9_between_0 14 rfl rfl)
theorem dX9_between_15 : decode cX9_between 15 = .ok (.goto 4, 3) := dk_167 0 4 (dk_at dksX9_between_0 15 rfl rfl)
theorem dX9_between_18 : decode cX9_between 18 = .ok (.iload_n 0, 1) := dk_26 (dk_at dksX9_between_0 18 rfl rfl)
theorem dX9_between_19 : decode cX9_between 19 = .ok (.ireturn, 1) := dk_172 (dk_at dksX9_between_0 19 rfl rfl)
abbrev cX9_near : ByteArray := prog_35_method_62_code
def yX9_near : MethodName := ⟨RX9, "near", "(III)I"⟩
def dkwX9_near_4 : List UInt8 := [167, 0, 4, 3, 172]
abbrev dktX9_near_4 : List UInt8 := dkwX9_near_4 ++ []
def dkwX9_near_3 : List UInt8 := [160, 0, 13, 42, 180, 0, 123, 21, 4, 46, 167, 0, 18, 42, 180, 0, 126, 21, 4, 51, 153, 0, 7, 4]
abbrev dktX9_near_3 : List UInt8 := dkwX9_near_3 ++ dktX9_near_4
def dkwX9_near_2 : List UInt8 := [21, 4, 46, 167, 0, 48, 29, 4, 160, 0, 13, 42, 180, 0, 120, 21, 4, 46, 167, 0, 33, 29, 5]
abbrev dktX9_near_2 : List UInt8 := dkwX9_near_2 ++ dktX9_near_3
def dkwX9_near_1 : List UInt8 := [184, 1, 95, 154, 0, 5, 2, 172, 16, 16, 27, 104, 28, 96, 54, 4, 29, 154, 0, 13, 42, 180, 0, 117]
abbrev dktX9_near_1 : List UInt8 := dkwX9_near_1 ++ dktX9_near_2
def dkwX9_near_0 : List UInt8 := [42, 3, 181, 0, 212, 42, 27, 182, 1, 228, 153, 0, 20, 42, 28, 182, 1, 228, 153, 0, 12, 29, 3, 6]
abbrev dktX9_near_0 : List UInt8 := dkwX9_near_0 ++ dktX9_near_1
theorem dksX9_near_0 : cX9_near.data.toList.drop 0 = dktX9_near_0 := by decide +kernel
theorem dksX9_near_1 : cX9_near.data.toList.drop 24 = dktX9_near_1 := dk_seg dksX9_near_0 24 rfl rfl
theorem dksX9_near_2 : cX9_near.data.toList.drop 48 = dktX9_near_2 := dk_seg dksX9_near_1 24 rfl rfl
theorem dksX9_near_3 : cX9_near.data.toList.drop 71 = dktX9_near_3 := dk_seg dksX9_near_2 23 rfl rfl
theorem dksX9_near_4 : cX9_near.data.toList.drop 95 = dktX9_near_4 := dk_seg dksX9_near_3 24 rfl rfl
theorem dX9_near_0 : decode cX9_near 0 = .ok (.aload_n 0, 1) := dk_42 (dk_at dksX9_near_0 0 rfl rfl)
theorem dX9_near_1 : decode cX9_near 1 = .ok (.iconst 0, 1) := dk_3 (dk_at dksX9_near_0 1 rfl rfl)
theorem dX9_near_2 : decode cX9_near 2 = .ok (.putfield 212, 3) := dk_181 0 212 (dk_at dksX9_near_0 2 rfl rfl)
theorem dX9_near_5 : decode cX9_near 5 = .ok (.aload_n 0, 1) := dk_42 (dk_at dksX9_near_0 5 rfl rfl)
theorem dX9_near_6 : decode cX9_near 6 = .ok (.iload_n 1, 1) := dk_27 (dk_at dksX9_near_0 6 rfl rfl)
theorem dX9_near_7 : decode cX9_near 7 = .ok (.invokevirtual 484, 3) := dk_182 1 228 (dk_at dksX9_near_0 7 rfl rfl)
theorem dX9_near_10 : decode cX9_near 10 = .ok (.ifCond .eq 20, 3) := dk_153 0 20 (dk_at dksX9_near_0 10 rfl rfl)
theorem dX9_near_13 : decode cX9_near 13 = .ok (.aload_n 0, 1) := dk_42 (dk_at dksX9_near_0 13 rfl rfl)
theorem dX9_near_14 : decode cX9_near 14 = .ok (.iload_n 2, 1) := dk_28 (dk_at dksX9_near_0 14 rfl rfl)
theorem dX9_near_15 : decode cX9_near 15 = .ok (.invokevirtual 484, 3) := dk_182 1 228 (dk_at dksX9_near_0 15 rfl rfl)
theorem dX9_near_18 : decode cX9_near 18 = .ok (.ifCond .eq 12, 3) := dk_153 0 12 (dk_at dksX9_near_0 18 rfl rfl)
theorem dX9_near_21 : decode cX9_near 21 = .ok (.iload_n 3, 1) := dk_29 (dk_at dksX9_near_0 21 rfl rfl)
theorem dX9_near_22 : decode cX9_near 22 = .ok (.iconst 0, 1) := dk_3 (dk_at dksX9_near_0 22 rfl rfl)
theorem dX9_near_23 : decode cX9_near 23 = .ok (.iconst 3, 1) := dk_6 (dk_at dksX9_near_0 23 rfl rfl)
theorem dX9_near_24 : decode cX9_near 24 = .ok (.invokestatic 351, 3) := dk_184 1 95 (dk_at dksX9_near_1 0 rfl rfl)
theorem dX9_near_27 : decode cX9_near 27 = .ok (.ifCond .ne 5, 3) := dk_154 0 5 (dk_at dksX9_near_1 3 rfl rfl)
theorem dX9_near_30 : decode cX9_near 30 = .ok (.iconst (-1), 1) := dk_2 (dk_at dksX9_near_1 6 rfl rfl)
theorem dX9_near_31 : decode cX9_near 31 = .ok (.ireturn, 1) := dk_172 (dk_at dksX9_near_1 7 rfl rfl)
theorem dX9_near_32 : decode cX9_near 32 = .ok (.bipush 16, 2) := dk_16 16 (dk_at dksX9_near_1 8 rfl rfl)
theorem dX9_near_34 : decode cX9_near 34 = .ok (.iload_n 1, 1) := dk_27 (dk_at dksX9_near_1 10 rfl rfl)
theorem dX9_near_35 : decode cX9_near 35 = .ok (.imul, 1) := dk_104 (dk_at dksX9_near_1 11 rfl rfl)
theorem dX9_near_36 : decode cX9_near 36 = .ok (.iload_n 2, 1) := dk_28 (dk_at dksX9_near_1 12 rfl rfl)
theorem dX9_near_37 : decode cX9_near 37 = .ok (.iadd, 1) := dk_96 (dk_at dksX9_near_1 13 rfl rfl)
theorem dX9_near_38 : decode cX9_near 38 = .ok (.istore 4, 2) := dk_54 4 (dk_at dksX9_near_1 14 rfl rfl)
theorem dX9_near_40 : decode cX9_near 40 = .ok (.iload_n 3, 1) := dk_29 (dk_at dksX9_near_1 16 rfl rfl)
theorem dX9_near_41 : decode cX9_near 41 = .ok (.ifCond .ne 13, 3) := dk_154 0 13 (dk_at dksX9_near_1 17 rfl rfl)
theorem dX9_near_44 : decode cX9_near 44 = .ok (.aload_n 0, 1) := dk_42 (dk_at dksX9_near_1 20 rfl rfl)
theorem dX9_near_45 : decode cX9_near 45 = .ok (.getfield 117, 3) := dk_180 0 117 (dk_at dksX9_near_1 21 rfl rfl)
theorem dX9_near_48 : decode cX9_near 48 = .ok (.iload 4, 2) := dk_21 4 (dk_at dksX9_near_2 0 rfl rfl)
theorem dX9_near_50 : decode cX9_near 50 = .ok (.iaload, 1) := dk_46 (dk_at dksX9_near_2 2 rfl rfl)
theorem dX9_near_51 : decode cX9_near 51 = .ok (.goto 48, 3) := dk_167 0 48 (dk_at dksX9_near_2 3 rfl rfl)
theorem dX9_near_54 : decode cX9_near 54 = .ok (.iload_n 3, 1) := dk_29 (dk_at dksX9_near_2 6 rfl rfl)
theorem dX9_near_55 : decode cX9_near 55 = .ok (.iconst 1, 1) := dk_4 (dk_at dksX9_near_2 7 rfl rfl)
theorem dX9_near_56 : decode cX9_near 56 = .ok (.if_icmp .ne 13, 3) := dk_160 0 13 (dk_at dksX9_near_2 8 rfl rfl)
theorem dX9_near_59 : decode cX9_near 59 = .ok (.aload_n 0, 1) := dk_42 (dk_at dksX9_near_2 11 rfl rfl)
theorem dX9_near_60 : decode cX9_near 60 = .ok (.getfield 120, 3) := dk_180 0 120 (dk_at dksX9_near_2 12 rfl rfl)
theorem dX9_near_63 : decode cX9_near 63 = .ok (.iload 4, 2) := dk_21 4 (dk_at dksX9_near_2 15 rfl rfl)
theorem dX9_near_65 : decode cX9_near 65 = .ok (.iaload, 1) := dk_46 (dk_at dksX9_near_2 17 rfl rfl)
theorem dX9_near_66 : decode cX9_near 66 = .ok (.goto 33, 3) := dk_167 0 33 (dk_at dksX9_near_2 18 rfl rfl)
theorem dX9_near_69 : decode cX9_near 69 = .ok (.iload_n 3, 1) := dk_29 (dk_at dksX9_near_2 21 rfl rfl)
theorem dX9_near_70 : decode cX9_near 70 = .ok (.iconst 2, 1) := dk_5 (dk_at dksX9_near_2 22 rfl rfl)
theorem dX9_near_71 : decode cX9_near 71 = .ok (.if_icmp .ne 13, 3) := dk_160 0 13 (dk_at dksX9_near_3 0 rfl rfl)
theorem dX9_near_74 : decode cX9_near 74 = .ok (.aload_n 0, 1) := dk_42 (dk_at dksX9_near_3 3 rfl rfl)
theorem dX9_near_75 : decode cX9_near 75 = .ok (.getfield 123, 3) := dk_180 0 123 (dk_at dksX9_near_3 4 rfl rfl)
theorem dX9_near_78 : decode cX9_near 78 = .ok (.iload 4, 2) := dk_21 4 (dk_at dksX9_near_3 7 rfl rfl)
theorem dX9_near_80 : decode cX9_near 80 = .ok (.iaload, 1) := dk_46 (dk_at dksX9_near_3 9 rfl rfl)
theorem dX9_near_81 : decode cX9_near 81 = .ok (.goto 18, 3) := dk_167 0 18 (dk_at dksX9_near_3 10 rfl rfl)
theorem dX9_near_84 : decode cX9_near 84 = .ok (.aload_n 0, 1) := dk_42 (dk_at dksX9_near_3 13 rfl rfl)
theorem dX9_near_85 : decode cX9_near 85 = .ok (.getfield 126, 3) := dk_180 0 126 (dk_at dksX9_near_3 14 rfl rfl)
theorem dX9_near_88 : decode cX9_near 88 = .ok (.iload 4, 2) := dk_21 4 (dk_at dksX9_near_3 17 rfl rfl)
theorem dX9_near_90 : decode cX9_near 90 = .ok (.baload, 1) := dk_51 (dk_at dksX9_near_3 19 rfl rfl)
theorem dX9_near_91 : decode cX9_near 91 = .ok (.ifCond .eq 7, 3) := dk_153 0 7 (dk_at dksX9_near_3 20 rfl rfl)
theorem dX9_near_94 : decode cX9_near 94 = .ok (.iconst 1, 1) := dk_4 (dk_at dksX9_near_3 23 rfl rfl)
theorem dX9_near_95 : decode cX9_near 95 = .ok (.goto 4, 3) := dk_167 0 4 (dk_at dksX9_near_4 0 rfl rfl)
theorem dX9_near_98 : decode cX9_near 98 = .ok (.iconst 0, 1) := dk_3 (dk_at dksX9_near_4 3 rfl rfl)
theorem dX9_near_99 : decode cX9_near 99 = .ok (.ireturn, 1) := dk_172 (dk_at dksX9_near_4 4 rfl rfl)
abbrev cX9_isSound : ByteArray := prog_35_method_57_code
def yX9_isSound : MethodName := ⟨RX9, "isSound", "(I)Z"⟩
def dkwX9_isSound_0 : List UInt8 := [27, 155, 0, 17, 27, 42, 180, 0, 13, 4, 46, 162, 0, 7, 4, 167, 0, 4, 3, 172]
abbrev dktX9_isSound_0 : List UInt8 := dkwX9_isSound_0 ++ []
theorem dksX9_isSound_0 : cX9_isSound.data.toList.drop 0 = dktX9_isSound_0 := by decide +kernel
theorem dX9_isSound_0 : decode cX9_isSound 0 = .ok (.iload_n 1, 1) := dk_27 (dk_at dksX9_isSound_0 0 rfl rfl)
theorem dX9_isSound_1 : decode cX9_isSound 1 = .ok (.ifCond .lt 17, 3) := dk_155 0 17 (dk_at dksX9_isSound_0 1 rfl rfl)
theorem dX9_isSound_4 : decode cX9_isSound 4 = .ok (.iload_n 1, 1) := dk_27 (dk_at dksX9_isSound_0 4 rfl rfl)
theorem dX9_isSound_5 : decode cX9_isSound 5 = .ok (.aload_n 0, 1) := dk_42 (dk_at dksX9_isSound_0 5 rfl rfl)
theorem dX9_isSound_6 : decode cX9_isSound 6 = .ok (.getfield 13, 3) := dk_180 0 13 (dk_at dksX9_isSound_0 6 rfl rfl)
theorem dX9_isSound_9 : decode cX9_isSound 9 = .ok (.iconst 1, 1) := dk_4 (dk_at dksX9_isSound_0 9 rfl rfl)
theorem dX9_isSound_10 : decode cX9_isSound 10 = .ok (.iaload, 1) := dk_46 (dk_at dksX9_isSound_0 10 rfl rfl)
theorem dX9_isSound_11 : decode cX9_isSound 11 = .ok (.if_icmp .ge 7, 3) := dk_162 0 7 (dk_at dksX9_isSound_0 11 rfl rfl)
theorem dX9_isSound_14 : decode cX9_isSound 14 = .ok (.iconst 1, 1) := dk_4 (dk_at dksX9_isSound_0 14 rfl rfl)
theorem dX9_isSound_15 : decode cX9_isSound 15 = .ok (.goto 4, 3) := dk_167 0 4 (dk_at dksX9_isSound_0 15 rfl rfl)
theorem dX9_isSound_18 : decode cX9_isSound 18 = .ok (.iconst 0, 1) := dk_3 (dk_at dksX9_isSound_0 18 rfl rfl)
theorem dX9_isSound_19 : decode cX9_isSound 19 = .ok (.ireturn, 1) := dk_172 (dk_at dksX9_isSound_0 19 rfl rfl)
abbrev cX9_says : ByteArray := prog_35_method_63_code
def yX9_says : MethodName := ⟨RX9, "says", "(II)I"⟩
def dkwX9_says_1 : List UInt8 := [182, 1, 234, 153, 0, 7, 4, 167, 0, 8, 3, 167, 0, 4, 2, 172]
abbrev dktX9_says_1 : List UInt8 := dkwX9_says_1 ++ []
def dkwX9_says_0 : List UInt8 := [42, 3, 181, 0, 212, 42, 27, 182, 1, 231, 153, 0, 28, 42, 28, 182, 1, 228, 153, 0, 20, 42, 27, 28]
abbrev dktX9_says_0 : List UInt8 := dkwX9_says_0 ++ dktX9_says_1
theorem dksX9_says_0 : cX9_says.data.toList.drop 0 = dktX9_says_0 := by decide +kernel
theorem dksX9_says_1 : cX9_says.data.toList.drop 24 = dktX9_says_1 := dk_seg dksX9_says_0 24 rfl rfl
theorem dX9_says_0 : decode cX9_says 0 = .ok (.aload_n 0, 1) := dk_42 (dk_at dksX9_says_0 0 rfl rfl)
theorem dX9_says_1 : decode cX9_says 1 = .ok (.iconst 0, 1) := dk_3 (dk_at dksX9_says_0 1 rfl rfl)
theorem dX9_says_2 : decode cX9_says 2 = .ok (.putfield 212, 3) := dk_181 0 212 (dk_at dksX9_says_0 2 rfl rfl)
theorem dX9_says_5 : decode cX9_says 5 = .ok (.aload_n 0, 1) := dk_42 (dk_at dksX9_says_0 5 rfl rfl)
theorem dX9_says_6 : decode cX9_says 6 = .ok (.iload_n 1, 1) := dk_27 (dk_at dksX9_says_0 6 rfl rfl)
theorem dX9_says_7 : decode cX9_says 7 = .ok (.invokevirtual 487, 3) := dk_182 1 231 (dk_at dksX9_says_0 7 rfl rfl)
theorem dX9_says_10 : decode cX9_says 10 = .ok (.ifCond .eq 28, 3) := dk_153 0 28 (dk_at dksX9_says_0 10 rfl rfl)
theorem dX9_says_13 : decode cX9_says 13 = .ok (.aload_n 0, 1) := dk_42 (dk_at dksX9_says_0 13 rfl rfl)
theorem dX9_says_14 : decode cX9_says 14 = .ok (.iload_n 2, 1) := dk_28 (dk_at dksX9_says_0 14 rfl rfl)
theorem dX9_says_15 : decode cX9_says 15 = .ok (.invokevirtual 484, 3) := dk_182 1 228 (dk_at dksX9_says_0 15 rfl rfl)
theorem dX9_says_18 : decode cX9_says 18 = .ok (.ifCond .eq 20, 3) := dk_153 0 20 (dk_at dksX9_says_0 18 rfl rfl)
theorem dX9_says_21 : decode cX9_says 21 = .ok (.aload_n 0, 1) := dk_42 (dk_at dksX9_says_0 21 rfl rfl)
theorem dX9_says_22 : decode cX9_says 22 = .ok (.iload_n 1, 1) := dk_27 (dk_at dksX9_says_0 22 rfl rfl)
theorem dX9_says_23 : decode cX9_says 23 = .ok (.iload_n 2, 1) := dk_28 (dk_at dksX9_says_0 23 rfl rfl)
theorem dX9_says_24 : decode cX9_says 24 = .ok (.invokevirtual 490, 3) := dk_182 1 234 (dk_at dksX9_says_1 0 rfl rfl)
theorem dX9_says_27 : decode cX9_says 27 = .ok (.ifCond .eq 7, 3) := dk_153 0 7 (dk_at dksX9_says_1 3 rfl rfl)
theorem dX9_says_30 : decode cX9_says 30 = .ok (.iconst 1, 1) := dk_4 (dk_at dksX9_says_1 6 rfl rfl)
theorem dX9_says_31 : decode cX9_says 31 = .ok (.goto 8, 3) := dk_167 0 8 (dk_at dksX9_says_1 7 rfl rfl)
theorem dX9_says_34 : decode cX9_says 34 = .ok (.iconst 0, 1) := dk_3 (dk_at dksX9_says_1 10 rfl rfl)
theorem dX9_says_35 : decode cX9_says 35 = .ok (.goto 4, 3) := dk_167 0 4 (dk_at dksX9_says_1 11 rfl rfl)
theorem dX9_says_38 : decode cX9_says 38 = .ok (.iconst (-1), 1) := dk_2 (dk_at dksX9_says_1 14 rfl rfl)
theorem dX9_says_39 : decode cX9_says 39 = .ok (.ireturn, 1) := dk_172 (dk_at dksX9_says_1 15 rfl rfl)
abbrev cX9_isPerson : ByteArray := prog_35_method_58_code
def yX9_isPerson : MethodName := ⟨RX9, "isPerson", "(I)Z"⟩
def dkwX9_isPerson_0 : List UInt8 := [27, 155, 0, 17, 27, 42, 180, 0, 13, 5, 46, 162, 0, 7, 4, 167, 0, 4, 3, 172]
abbrev dktX9_isPerson_0 : List UInt8 := dkwX9_isPerson_0 ++ []
theorem dksX9_isPerson_0 : cX9_isPerson.data.toList.drop 0 = dktX9_isPerson_0 := by decide +kernel
theorem dX9_isPerson_0 : decode cX9_isPerson 0 = .ok (.iload_n 1, 1) := dk_27 (dk_at dksX9_isPerson_0 0 rfl rfl)
theorem dX9_isPerson_1 : decode cX9_isPerson 1 = .ok (.ifCond .lt 17, 3) := dk_155 0 17 (dk_at dksX9_isPerson_0 1 rfl rfl)
theorem dX9_isPerson_4 : decode cX9_isPerson 4 = .ok (.iload_n 1, 1) := dk_27 (dk_at dksX9_isPerson_0 4 rfl rfl)
theorem dX9_isPerson_5 : decode cX9_isPerson 5 = .ok (.aload_n 0, 1) := dk_42 (dk_at dksX9_isPerson_0 5 rfl rfl)
theorem dX9_isPerson_6 : decode cX9_isPerson 6 = .ok (.getfield 13, 3) := dk_180 0 13 (dk_at dksX9_isPerson_0 6 rfl rfl)
theorem dX9_isPerson_9 : decode cX9_isPerson 9 = .ok (.iconst 2, 1) := dk_5 (dk_at dksX9_isPerson_0 9 rfl rfl)
theorem dX9_isPerson_10 : decode cX9_isPerson 10 = .ok (.iaload, 1) := dk_46 (dk_at dksX9_isPerson_0 10 rfl rfl)
theorem dX9_isPerson_11 : decode cX9_isPerson 11 = .ok (.if_icmp .ge 7, 3) := dk_162 0 7 (dk_at dksX9_isPerson_0 11 rfl rfl)
theorem dX9_isPerson_14 : decode cX9_isPerson 14 = .ok (.iconst 1, 1) := dk_4 (dk_at dksX9_isPerson_0 14 rfl rfl)
theorem dX9_isPerson_15 : decode cX9_isPerson 15 = .ok (.goto 4, 3) := dk_167 0 4 (dk_at dksX9_isPerson_0 15 rfl rfl)
theorem dX9_isPerson_18 : decode cX9_isPerson 18 = .ok (.iconst 0, 1) := dk_3 (dk_at dksX9_isPerson_0 18 rfl rfl)
theorem dX9_isPerson_19 : decode cX9_isPerson 19 = .ok (.ireturn, 1) := dk_172 (dk_at dksX9_isPerson_0 19 rfl rfl)
abbrev cX9_isSaid : ByteArray := prog_35_method_48_code
def yX9_isSaid : MethodName := ⟨RX9, "isSaid", "(II)Z"⟩
def dkwX9_isSaid_2 : List UInt8 := [167, 255, 226, 4, 172]
abbrev dktX9_isSaid_2 : List UInt8 := dkwX9_isSaid_2 ++ []
def dkwX9_isSaid_1 : List UInt8 := [33, 20, 0, 244, 113, 42, 180, 0, 50, 27, 46, 133, 148, 154, 0, 5, 3, 172, 33, 20, 0, 244, 109, 66]
abbrev dktX9_isSaid_1 : List UInt8 := dkwX9_isSaid_1 ++ dktX9_isSaid_2
def dkwX9_isSaid_0 : List UInt8 := [42, 180, 0, 50, 27, 46, 154, 0, 5, 4, 172, 42, 180, 0, 16, 28, 47, 66, 33, 9, 148, 158, 0, 30]
abbrev dktX9_isSaid_0 : List UInt8 := dkwX9_isSaid_0 ++ dktX9_isSaid_1
theorem dksX9_isSaid_0 : cX9_isSaid.data.toList.drop 0 = dktX9_isSaid_0 := by decide +kernel
theorem dksX9_isSaid_1 : cX9_isSaid.data.toList.drop 24 = dktX9_isSaid_1 := dk_seg dksX9_isSaid_0 24 rfl rfl
theorem dksX9_isSaid_2 : cX9_isSaid.data.toList.drop 48 = dktX9_isSaid_2 := dk_seg dksX9_isSaid_1 24 rfl rfl
theorem dX9_isSaid_0 : decode cX9_isSaid 0 = .ok (.aload_n 0, 1) := dk_42 (dk_at dksX9_isSaid_0 0 rfl rfl)
theorem dX9_isSaid_1 : decode cX9_isSaid 1 = .ok (.getfield 50, 3) := dk_180 0 50 (dk_at dksX9_isSaid_0 1 rfl rfl)
theorem dX9_isSaid_4 : decode cX9_isSaid 4 = .ok (.iload_n 1, 1) := dk_27 (dk_at dksX9_isSaid_0 4 rfl rfl)
theorem dX9_isSaid_5 : decode cX9_isSaid 5 = .ok (.iaload, 1) := dk_46 (dk_at dksX9_isSaid_0 5 rfl rfl)
theorem dX9_isSaid_6 : decode cX9_isSaid 6 = .ok (.ifCond .ne 5, 3) := dk_154 0 5 (dk_at dksX9_isSaid_0 6 rfl rfl)
theorem dX9_isSaid_9 : decode cX9_isSaid 9 = .ok (.iconst 1, 1) := dk_4 (dk_at dksX9_isSaid_0 9 rfl rfl)
theorem dX9_isSaid_10 : decode cX9_isSaid 10 = .ok (.ireturn, 1) := dk_172 (dk_at dksX9_isSaid_0 10 rfl rfl)
theorem dX9_isSaid_11 : decode cX9_isSaid 11 = .ok (.aload_n 0, 1) := dk_42 (dk_at dksX9_isSaid_0 11 rfl rfl)
theorem dX9_isSaid_12 : decode cX9_isSaid 12 = .ok (.getfield 16, 3) := dk_180 0 16 (dk_at dksX9_isSaid_0 12 rfl rfl)
theorem dX9_isSaid_15 : decode cX9_isSaid 15 = .ok (.iload_n 2, 1) := dk_28 (dk_at dksX9_isSaid_0 15 rfl rfl)
theorem dX9_isSaid_16 : decode cX9_isSaid 16 = .ok (.laload, 1) := dk_47 (dk_at dksX9_isSaid_0 16 rfl rfl)
theorem dX9_isSaid_17 : decode cX9_isSaid 17 = .ok (.lstore_n 3, 1) := dk_66 (dk_at dksX9_isSaid_0 17 rfl rfl)
theorem dX9_isSaid_18 : decode cX9_isSaid 18 = .ok (.lload_n 3, 1) := dk_33 (dk_at dksX9_isSaid_0 18 rfl rfl)
theorem dX9_isSaid_19 : decode cX9_isSaid 19 = .ok (.lconst 0, 1) := dk_9 (dk_at dksX9_isSaid_0 19 rfl rfl)
theorem dX9_isSaid_20 : decode cX9_isSaid 20 = .ok (.lcmp, 1) := dk_148 (dk_at dksX9_isSaid_0 20 rfl rfl)
theorem dX9_isSaid_21 : decode cX9_isSaid 21 = .ok (.ifCond .le 30, 3) := dk_158 0 30 (dk_at dksX9_isSaid_0 21 rfl rfl)
theorem dX9_isSaid_24 : decode cX9_isSaid 24 = .ok (.lload_n 3, 1) := dk_33 (dk_at dksX9_isSaid_1 0 rfl rfl)
theorem dX9_isSaid_25 : decode cX9_isSaid 25 = .ok (.ldc2_w 244, 3) := dk_20 0 244 (dk_at dksX9_isSaid_1 1 rfl rfl)
theorem dX9_isSaid_28 : decode cX9_isSaid 28 = .ok (.lrem, 1) := dk_113 (dk_at dksX9_isSaid_1 4 rfl rfl)
theorem dX9_isSaid_29 : decode cX9_isSaid 29 = .ok (.aload_n 0, 1) := dk_42 (dk_at dksX9_isSaid_1 5 rfl rfl)
theorem dX9_isSaid_30 : decode cX9_isSaid 30 = .ok (.getfield 50, 3) := dk_180 0 50 (dk_at dksX9_isSaid_1 6 rfl rfl)
theorem dX9_isSaid_33 : decode cX9_isSaid 33 = .ok (.iload_n 1, 1) := dk_27 (dk_at dksX9_isSaid_1 9 rfl rfl)
theorem dX9_isSaid_34 : decode cX9_isSaid 34 = .ok (.iaload, 1) := dk_46 (dk_at dksX9_isSaid_1 10 rfl rfl)
theorem dX9_isSaid_35 : decode cX9_isSaid 35 = .ok (.i2l, 1) := dk_133 (dk_at dksX9_isSaid_1 11 rfl rfl)
theorem dX9_isSaid_36 : decode cX9_isSaid 36 = .ok (.lcmp, 1) := dk_148 (dk_at dksX9_isSaid_1 12 rfl rfl)
theorem dX9_isSaid_37 : decode cX9_isSaid 37 = .ok (.ifCond .ne 5, 3) := dk_154 0 5 (dk_at dksX9_isSaid_1 13 rfl rfl)
theorem dX9_isSaid_40 : decode cX9_isSaid 40 = .ok (.iconst 0, 1) := dk_3 (dk_at dksX9_isSaid_1 16 rfl rfl)
theorem dX9_isSaid_41 : decode cX9_isSaid 41 = .ok (.ireturn, 1) := dk_172 (dk_at dksX9_isSaid_1 17 rfl rfl)
theorem dX9_isSaid_42 : decode cX9_isSaid 42 = .ok (.lload_n 3, 1) := dk_33 (dk_at dksX9_isSaid_1 18 rfl rfl)
theorem dX9_isSaid_43 : decode cX9_isSaid 43 = .ok (.ldc2_w 244, 3) := dk_20 0 244 (dk_at dksX9_isSaid_1 19 rfl rfl)
theorem dX9_isSaid_46 : decode cX9_isSaid 46 = .ok (.ldiv, 1) := dk_109 (dk_at dksX9_isSaid_1 22 rfl rfl)
theorem dX9_isSaid_47 : decode cX9_isSaid 47 = .ok (.lstore_n 3, 1) := dk_66 (dk_at dksX9_isSaid_1 23 rfl rfl)
theorem dX9_isSaid_48 : decode cX9_isSaid 48 = .ok (.goto (-30), 3) := dk_167 255 226 (dk_at dksX9_isSaid_2 0 rfl rfl)
theorem dX9_isSaid_51 : decode cX9_isSaid 51 = .ok (.iconst 1, 1) := dk_4 (dk_at dksX9_isSaid_2 3 rfl rfl)
theorem dX9_isSaid_52 : decode cX9_isSaid 52 = .ok (.ireturn, 1) := dk_172 (dk_at dksX9_isSaid_2 4 rfl rfl)
abbrev cX9_falls : ByteArray := prog_35_method_70_code
def yX9_falls : MethodName := ⟨RX9, "falls", "(II)I"⟩
def dkwX9_falls_3 : List UInt8 := [182, 2, 3, 172]
abbrev dktX9_falls_3 : List UInt8 := dkwX9_falls_3 ++ []
def dkwX9_falls_2 : List UInt8 := [182, 1, 255, 42, 42, 180, 0, 168, 3, 46, 42, 180, 0, 168, 4, 46, 42, 180, 1, 237, 42, 180, 1, 240]
abbrev dktX9_falls_2 : List UInt8 := dkwX9_falls_2 ++ dktX9_falls_3
def dkwX9_falls_1 : List UInt8 := [182, 1, 234, 154, 0, 5, 2, 172, 42, 28, 42, 180, 0, 44, 27, 46, 42, 180, 0, 47, 27, 46]
abbrev dktX9_falls_1 : List UInt8 := dkwX9_falls_1 ++ dktX9_falls_2
def dkwX9_falls_0 : List UInt8 := [42, 3, 181, 0, 212, 42, 27, 182, 1, 231, 153, 0, 20, 42, 28, 182, 1, 228, 153, 0, 12, 42, 27, 28]
abbrev dktX9_falls_0 : List UInt8 := dkwX9_falls_0 ++ dktX9_falls_1
theorem dksX9_falls_0 : cX9_falls.data.toList.drop 0 = dktX9_falls_0 := by decide +kernel
theorem dksX9_falls_1 : cX9_falls.data.toList.drop 24 = dktX9_falls_1 := dk_seg dksX9_falls_0 24 rfl rfl
theorem dksX9_falls_2 : cX9_falls.data.toList.drop 46 = dktX9_falls_2 := dk_seg dksX9_falls_1 22 rfl rfl
theorem dksX9_falls_3 : cX9_falls.data.toList.drop 70 = dktX9_falls_3 := dk_seg dksX9_falls_2 24 rfl rfl
theorem dX9_falls_0 : decode cX9_falls 0 = .ok (.aload_n 0, 1) := dk_42 (dk_at dksX9_falls_0 0 rfl rfl)
theorem dX9_falls_1 : decode cX9_falls 1 = .ok (.iconst 0, 1) := dk_3 (dk_at dksX9_falls_0 1 rfl rfl)
theorem dX9_falls_2 : decode cX9_falls 2 = .ok (.putfield 212, 3) := dk_181 0 212 (dk_at dksX9_falls_0 2 rfl rfl)
theorem dX9_falls_5 : decode cX9_falls 5 = .ok (.aload_n 0, 1) := dk_42 (dk_at dksX9_falls_0 5 rfl rfl)
theorem dX9_falls_6 : decode cX9_falls 6 = .ok (.iload_n 1, 1) := dk_27 (dk_at dksX9_falls_0 6 rfl rfl)
theorem dX9_falls_7 : decode cX9_falls 7 = .ok (.invokevirtual 487, 3) := dk_182 1 231 (dk_at dksX9_falls_0 7 rfl rfl)
theorem dX9_falls_10 : decode cX9_falls 10 = .ok (.ifCond .eq 20, 3) := dk_153 0 20 (dk_at dksX9_falls_0 10 rfl rfl)
theorem dX9_falls_13 : decode cX9_falls 13 = .ok (.aload_n 0, 1) := dk_42 (dk_at dksX9_falls_0 13 rfl rfl)
theorem dX9_falls_14 : decode cX9_falls 14 = .ok (.iload_n 2, 1) := dk_28 (dk_at dksX9_falls_0 14 rfl rfl)
theorem dX9_falls_15 : decode cX9_falls 15 = .ok (.invokevirtual 484, 3) := dk_182 1 228 (dk_at dksX9_falls_0 15 rfl rfl)
theorem dX9_falls_18 : decode cX9_falls 18 = .ok (.ifCond .eq 12, 3) := dk_153 0 12 (dk_at dksX9_falls_0 18 rfl rfl)
theorem dX9_falls_21 : decode cX9_falls 21 = .ok (.aload_n 0, 1) := dk_42 (dk_at dksX9_falls_0 21 rfl rfl)
theorem dX9_falls_22 : decode cX9_falls 22 = .ok (.iload_n 1, 1) := dk_27 (dk_at dksX9_falls_0 22 rfl rfl)
theorem dX9_falls_23 : decode cX9_falls 23 = .ok (.iload_n 2, 1) := dk_28 (dk_at dksX9_falls_0 23 rfl rfl)
theorem dX9_falls_24 : decode cX9_falls 24 = .ok (.invokevirtual 490, 3) := dk_182 1 234 (dk_at dksX9_falls_1 0 rfl rfl)
theorem dX9_falls_27 : decode cX9_falls 27 = .ok (.ifCond .ne 5, 3) := dk_154 0 5 (dk_at dksX9_falls_1 3 rfl rfl)
theorem dX9_falls_30 : decode cX9_falls 30 = .ok (.iconst (-1), 1) := dk_2 (dk_at dksX9_falls_1 6 rfl rfl)
theorem dX9_falls_31 : decode cX9_falls 31 = .ok (.ireturn, 1) := dk_172 (dk_at dksX9_falls_1 7 rfl rfl)
theorem dX9_falls_32 : decode cX9_falls 32 = .ok (.aload_n 0, 1) := dk_42 (dk_at dksX9_falls_1 8 rfl rfl)
theorem dX9_falls_33 : decode cX9_falls 33 = .ok (.iload_n 2, 1) := dk_28 (dk_at dksX9_falls_1 9 rfl rfl)
theorem dX9_falls_34 : decode cX9_falls 34 = .ok (.aload_n 0, 1) := dk_42 (dk_at dksX9_falls_1 10 rfl rfl)
theorem dX9_falls_35 : decode cX9_falls 35 = .ok (.getfield 44, 3) := dk_180 0 44 (dk_at dksX9_falls_1 11 rfl rfl)
theorem dX9_falls_38 : decode cX9_falls 38 = .ok (.iload_n 1, 1) := dk_27 (dk_at dksX9_falls_1 14 rfl rfl)
theorem dX9_falls_39 : decode cX9_falls 39 = .ok (.iaload, 1) := dk_46 (dk_at dksX9_falls_1 15 rfl rfl)
theorem dX9_falls_40 : decode cX9_falls 40 = .ok (.aload_n 0, 1) := dk_42 (dk_at dksX9_falls_1 16 rfl rfl)
theorem dX9_falls_41 : decode cX9_falls 41 = .ok (.getfield 47, 3) := dk_180 0 47 (dk_at dksX9_falls_1 17 rfl rfl)
theorem dX9_falls_44 : decode cX9_falls 44 = .ok (.iload_n 1, 1) := dk_27 (dk_at dksX9_falls_1 20 rfl rfl)
theorem dX9_falls_45 : decode cX9_falls 45 = .ok (.iaload, 1) := dk_46 (dk_at dksX9_falls_1 21 rfl rfl)
theorem dX9_falls_46 : decode cX9_falls 46 = .ok (.invokevirtual 511, 3) := dk_182 1 255 (dk_at dksX9_falls_2 0 rfl rfl)
theorem dX9_falls_49 : decode cX9_falls 49 = .ok (.aload_n 0, 1) := dk_42 (dk_at dksX9_falls_2 3 rfl rfl)
theorem dX9_falls_50 : decode cX9_falls 50 = .ok (.aload_n 0, 1) := dk_42 (dk_at dksX9_falls_2 4 rfl rfl)
theorem dX9_falls_51 : decode cX9_falls 51 = .ok (.getfield 168, 3) := dk_180 0 168 (dk_at dksX9_falls_2 5 rfl rfl)
theorem dX9_falls_54 : decode cX9_falls 54 = .ok (.iconst 0, 1) := dk_3 (dk_at dksX9_falls_2 8 rfl rfl)
theorem dX9_falls_55 : decode cX9_falls 55 = .ok (.iaload, 1) := dk_46 (dk_at dksX9_falls_2 9 rfl rfl)
theorem dX9_falls_56 : decode cX9_falls 56 = .ok (.aload_n 0, 1) := dk_42 (dk_at dksX9_falls_2 10 rfl rfl)
theorem dX9_falls_57 : decode cX9_falls 57 = .ok (.getfield 168, 3) := dk_180 0 168 (dk_at dksX9_falls_2 11 rfl rfl)
theorem dX9_falls_60 : decode cX9_falls 60 = .ok (.iconst 1, 1) := dk_4 (dk_at dksX9_falls_2 14 rfl rfl)
theorem dX9_falls_61 : decode cX9_falls 61 = .ok (.iaload, 1) := dk_46 (dk_at dksX9_falls_2 15 rfl rfl)
theorem dX9_falls_62 : decode cX9_falls 62 = .ok (.aload_n 0, 1) := dk_42 (dk_at dksX9_falls_2 16 rfl rfl)
theorem dX9_falls_63 : decode cX9_falls 63 = .ok (.getfield 493, 3) := dk_180 1 237 (dk_at dksX9_falls_2 17 rfl rfl)
theorem dX9_falls_66 : decode cX9_falls 66 = .ok (.aload_n 0, 1) := dk_42 (dk_at dksX9_falls_2 20 rfl rfl)
theorem dX9_falls_67 : decode cX9_falls 67 = .ok (.getfield 496, 3) := dk_180 1 240 (dk_at dksX9_falls_2 21 rfl rfl)
theorem dX9_falls_70 : decode cX9_falls 70 = .ok (.invokevirtual 515, 3) := dk_182 2 3 (dk_at dksX9_falls_3 0 rfl rfl)
theorem dX9_falls_73 : decode cX9_falls 73 = .ok (.ireturn, 1) := dk_172 (dk_at dksX9_falls_3 3 rfl rfl)
abbrev cX9_hears : ByteArray := prog_35_method_65_code
def yX9_hears : MethodName := ⟨RX9, "hears", "(III)V"⟩
def dkwX9_hears_4 : List UInt8 := [4, 21, 4, 120, 128, 181, 1, 240, 132, 4, 1, 167, 255, 162, 177]
abbrev dktX9_hears_4 : List UInt8 := dkwX9_hears_4 ++ []
def dkwX9_hears_3 : List UInt8 := [4, 21, 4, 120, 128, 181, 1, 237, 167, 0, 24, 21, 5, 5, 29, 104, 163, 0, 16, 42, 89, 180, 1, 240]
abbrev dktX9_hears_3 : List UInt8 := dkwX9_hears_3 ++ dktX9_hears_4
def dkwX9_hears_2 : List UInt8 := [42, 180, 0, 32, 21, 4, 46, 28, 184, 1, 246, 54, 5, 21, 5, 29, 163, 0, 19, 42, 89, 180, 1, 237]
abbrev dktX9_hears_2 : List UInt8 := dkwX9_hears_2 ++ dktX9_hears_3
def dkwX9_hears_1 : List UInt8 := [42, 180, 0, 26, 21, 4, 46, 6, 159, 0, 72, 42, 27, 21, 4, 182, 1, 243, 154, 0, 6, 167, 0, 59]
abbrev dktX9_hears_1 : List UInt8 := dkwX9_hears_1 ++ dktX9_hears_2
def dkwX9_hears_0 : List UInt8 := [42, 3, 181, 1, 237, 42, 3, 181, 1, 240, 3, 54, 4, 21, 4, 42, 180, 0, 13, 3, 46, 162, 0, 89]
abbrev dktX9_hears_0 : List UInt8 := dkwX9_hears_0 ++ dktX9_hears_1
theorem dksX9_hears_0 : cX9_hears.data.toList.drop 0 = dktX9_hears_0 := by decide +kernel
theorem dksX9_hears_1 : cX9_hears.data.toList.drop 24 = dktX9_hears_1 := dk_seg dksX9_hears_0 24 rfl rfl
theorem dksX9_hears_2 : cX9_hears.data.toList.drop 48 = dktX9_hears_2 := dk_seg dksX9_hears_1 24 rfl rfl
theorem dksX9_hears_3 : cX9_hears.data.toList.drop 72 = dktX9_hears_3 := dk_seg dksX9_hears_2 24 rfl rfl
theorem dksX9_hears_4 : cX9_hears.data.toList.drop 96 = dktX9_hears_4 := dk_seg dksX9_hears_3 24 rfl rfl
theorem dX9_hears_0 : decode cX9_hears 0 = .ok (.aload_n 0, 1) := dk_42 (dk_at dksX9_hears_0 0 rfl rfl)
theorem dX9_hears_1 : decode cX9_hears 1 = .ok (.iconst 0, 1) := dk_3 (dk_at dksX9_hears_0 1 rfl rfl)
theorem dX9_hears_2 : decode cX9_hears 2 = .ok (.putfield 493, 3) := dk_181 1 237 (dk_at dksX9_hears_0 2 rfl rfl)
theorem dX9_hears_5 : decode cX9_hears 5 = .ok (.aload_n 0, 1) := dk_42 (dk_at dksX9_hears_0 5 rfl rfl)
theorem dX9_hears_6 : decode cX9_hears 6 = .ok (.iconst 0, 1) := dk_3 (dk_at dksX9_hears_0 6 rfl rfl)
theorem dX9_hears_7 : decode cX9_hears 7 = .ok (.putfield 496, 3) := dk_181 1 240 (dk_at dksX9_hears_0 7 rfl rfl)
theorem dX9_hears_10 : decode cX9_hears 10 = .ok (.iconst 0, 1) := dk_3 (dk_at dksX9_hears_0 10 rfl rfl)
theorem dX9_hears_11 : decode cX9_hears 11 = .ok (.istore 4, 2) := dk_54 4 (dk_at dksX9_hears_0 11 rfl rfl)
theorem dX9_hears_13 : decode cX9_hears 13 = .ok (.iload 4, 2) := dk_21 4 (dk_at dksX9_hears_0 13 rfl rfl)
theorem dX9_hears_15 : decode cX9_hears 15 = .ok (.aload_n 0, 1) := dk_42 (dk_at dksX9_hears_0 15 rfl rfl)
theorem dX9_hears_16 : decode cX9_hears 16 = .ok (.getfield 13, 3) := dk_180 0 13 (dk_at dksX9_hears_0 16 rfl rfl)
theorem dX9_hears_19 : decode cX9_hears 19 = .ok (.iconst 0, 1) := dk_3 (dk_at dksX9_hears_0 19 rfl rfl)
theorem dX9_hears_20 : decode cX9_hears 20 = .ok (.iaload, 1) := dk_46 (dk_at dksX9_hears_0 20 rfl rfl)
theorem dX9_hears_21 : decode cX9_hears 21 = .ok (.if_icmp .ge 89, 3) := dk_162 0 89 (dk_at dksX9_hears_0 21 rfl rfl)
theorem dX9_hears_24 : decode cX9_hears 24 = .ok (.aload_n 0, 1) := dk_42 (dk_at dksX9_hears_1 0 rfl rfl)
theorem dX9_hears_25 : decode cX9_hears 25 = .ok (.getfield 26, 3) := dk_180 0 26 (dk_at dksX9_hears_1 1 rfl rfl)
theorem dX9_hears_28 : decode cX9_hears 28 = .ok (.iload 4, 2) := dk_21 4 (dk_at dksX9_hears_1 4 rfl rfl)
theorem dX9_hears_30 : decode cX9_hears 30 = .ok (.iaload, 1) := dk_46 (dk_at dksX9_hears_1 6 rfl rfl)
theorem dX9_hears_31 : decode cX9_hears 31 = .ok (.iconst 3, 1) := dk_6 (dk_at dksX9_hears_1 7 rfl rfl)
theorem dX9_hears_32 : decode cX9_hears 32 = .ok (.if_icmp .eq 72, 3) := dk_159 0 72 (dk_at dksX9_hears_1 8 rfl rfl)
theorem dX9_hears_35 : decode cX9_hears 35 = .ok (.aload_n 0, 1) := dk_42 (dk_at dksX9_hears_1 11 rfl rfl)
theorem dX9_hears_36 : decode cX9_hears 36 = .ok (.iload_n 1, 1) := dk_27 (dk_at dksX9_hears_1 12 rfl rfl)
theorem dX9_hears_37 : decode cX9_hears 37 = .ok (.iload 4, 2) := dk_21 4 (dk_at dksX9_hears_1 13 rfl rfl)
theorem dX9_hears_39 : decode cX9_hears 39 = .ok (.invokevirtual 499, 3) := dk_182 1 243 (dk_at dksX9_hears_1 15 rfl rfl)
theorem dX9_hears_42 : decode cX9_hears 42 = .ok (.ifCond .ne 6, 3) := dk_154 0 6 (dk_at dksX9_hears_1 18 rfl rfl)
theorem dX9_hears_45 : decode cX9_hears 45 = .ok (.goto 59, 3) := dk_167 0 59 (dk_at dksX9_hears_1 21 rfl rfl)
theorem dX9_hears_48 : decode cX9_hears 48 = .ok (.aload_n 0, 1) := dk_42 (dk_at dksX9_hears_2 0 rfl rfl)
theorem dX9_hears_49 : decode cX9_hears 49 = .ok (.getfield 32, 3) := dk_180 0 32 (dk_at dksX9_hears_2 1 rfl rfl)
theorem dX9_hears_52 : decode cX9_hears 52 = .ok (.iload 4, 2) := dk_21 4 (dk_at dksX9_hears_2 4 rfl rfl)
theorem dX9_hears_54 : decode cX9_hears 54 = .ok (.iaload, 1) := dk_46 (dk_at dksX9_hears_2 6 rfl rfl)
theorem dX9_hears_55 : decode cX9_hears 55 = .ok (.iload_n 2, 1) := dk_28 (dk_at dksX9_hears_2 7 rfl rfl)
theorem dX9_hears_56 : decode cX9_hears 56 = .ok (.invokestatic 502, 3) := dk_184 1 246 (dk_at dksX9_hears_2 8 rfl rfl)
theorem dX9_hears_59 : decode cX9_hears 59 = .ok (.istore 5, 2) := dk_54 5 (dk_at dksX9_hears_2 11 rfl rfl)
theorem dX9_hears_61 : decode cX9_hears 61 = .ok (.iload 5, 2) := dk_21 5 (dk_at dksX9_hears_2 13 rfl rfl)
theorem dX9_hears_63 : decode cX9_hears 63 = .ok (.iload_n 3, 1) := dk_29 (dk_at dksX9_hears_2 15 rfl rfl)
theorem dX9_hears_64 : decode cX9_hears 64 = .ok (.if_icmp .gt 19, 3) := dk_163 0 19 (dk_at dksX9_hears_2 16 rfl rfl)
theorem dX9_hears_67 : decode cX9_hears 67 = .ok (.aload_n 0, 1) := dk_42 (dk_at dksX9_hears_2 19 rfl rfl)
theorem dX9_hears_68 : decode cX9_hears 68 = .ok (.dup, 1) := dk_89 (dk_at dksX9_hears_2 20 rfl rfl)
theorem dX9_hears_69 : decode cX9_hears 69 = .ok (.getfield 493, 3) := dk_180 1 237 (dk_at dksX9_hears_2 21 rfl rfl)
theorem dX9_hears_72 : decode cX9_hears 72 = .ok (.iconst 1, 1) := dk_4 (dk_at dksX9_hears_3 0 rfl rfl)
theorem dX9_hears_73 : decode cX9_hears 73 = .ok (.iload 4, 2) := dk_21 4 (dk_at dksX9_hears_3 1 rfl rfl)
theorem dX9_hears_75 : decode cX9_hears 75 = .ok (.ishl, 1) := dk_120 (dk_at dksX9_hears_3 3 rfl rfl)
theorem dX9_hears_76 : decode cX9_hears 76 = .ok (.ior, 1) := dk_128 (dk_at dksX9_hears_3 4 rfl rfl)
theorem dX9_hears_77 : decode cX9_hears 77 = .ok (.putfield 493, 3) := dk_181 1 237 (dk_at dksX9_hears_3 5 rfl rfl)
theorem dX9_hears_80 : decode cX9_hears 80 = .ok (.goto 24, 3) := dk_167 0 24 (dk_at dksX9_hears_3 8 rfl rfl)
theorem dX9_hears_83 : decode cX9_hears 83 = .ok (.iload 5, 2) := dk_21 5 (dk_at dksX9_hears_3 11 rfl rfl)
theorem dX9_hears_85 : decode cX9_hears 85 = .ok (.iconst 2, 1) := dk_5 (dk_at dksX9_hears_3 13 rfl rfl)
theorem dX9_hears_86 : decode cX9_hears 86 = .ok (.iload_n 3, 1) := dk_29 (dk_at dksX9_hears_3 14 rfl rfl)
theorem dX9_hears_87 : decode cX9_hears 87 = .ok (.imul, 1) := dk_104 (dk_at dksX9_hears_3 15 rfl rfl)
theorem dX9_hears_88 : decode cX9_hears 88 = .ok (.if_icmp .gt 16, 3) := dk_163 0 16 (dk_at dksX9_hears_3 16 rfl rfl)
theorem dX9_hears_91 : decode cX9_hears 91 = .ok (.aload_n 0, 1) := dk_42 (dk_at dksX9_hears_3 19 rfl rfl)
theorem dX9_hears_92 : decode cX9_hears 92 = .ok (.dup, 1) := dk_89 (dk_at dksX9_hears_3 20 rfl rfl)
theorem dX9_hears_93 : decode cX9_hears 93 = .ok (.getfield 496, 3) := dk_180 1 240 (dk_at dksX9_hears_3 21 rfl rfl)
theorem dX9_hears_96 : decode cX9_hears 96 = .ok (.iconst 1, 1) := dk_4 (dk_at dksX9_hears_4 0 rfl rfl)
theorem dX9_hears_97 : decode cX9_hears 97 = .ok (.iload 4, 2) := dk_21 4 (dk_at dksX9_hears_4 1 rfl rfl)
theorem dX9_hears_99 : decode cX9_hears 99 = .ok (.ishl, 1) := dk_120 (dk_at dksX9_hears_4 3 rfl rfl)
theorem dX9_hears_100 : decode cX9_hears 100 = .ok (.ior, 1) := dk_128 (dk_at dksX9_hears_4 4 rfl rfl)
theorem dX9_hears_101 : decode cX9_hears 101 = .ok (.putfield 496, 3) := dk_181 1 240 (dk_at dksX9_hears_4 5 rfl rfl)
theorem dX9_hears_104 : decode cX9_hears 104 = .ok (.iinc 4 1, 3) := dk_132 4 1 (dk_at dksX9_hears_4 8 rfl rfl)
theorem dX9_hears_107 : decode cX9_hears 107 = .ok (.goto (-94), 3) := dk_167 255 162 (dk_at dksX9_hears_4 11 rfl rfl)
theorem dX9_hears_110 : decode cX9_hears 110 = .ok (.return_, 1) := dk_177 (dk_at dksX9_hears_4 14 rfl rfl)
abbrev cX9_soundsLike : ByteArray := prog_35_method_64_code
def yX9_soundsLike : MethodName := ⟨RX9, "soundsLike", "(II)Z"⟩
def dkwX9_soundsLike_2 : List UInt8 := [51, 172]
abbrev dktX9_soundsLike_2 : List UInt8 := dkwX9_soundsLike_2 ++ []
def dkwX9_soundsLike_1 : List UInt8 := [167, 0, 25, 3, 167, 0, 21, 42, 180, 0, 126, 16, 16, 27, 104, 42, 180, 0, 168, 8, 28, 96, 46, 96]
abbrev dktX9_soundsLike_1 : List UInt8 := dkwX9_soundsLike_1 ++ dktX9_soundsLike_2
def dkwX9_soundsLike_0 : List UInt8 := [42, 180, 0, 26, 28, 46, 4, 160, 0, 23, 27, 42, 180, 0, 168, 8, 28, 96, 46, 160, 0, 7, 4]
abbrev dktX9_soundsLike_0 : List UInt8 := dkwX9_soundsLike_0 ++ dktX9_soundsLike_1
theorem dksX9_soundsLike_0 : cX9_soundsLike.data.toList.drop 0 = dktX9_soundsLike_0 := by decide +kernel
theorem dksX9_soundsLike_1 : cX9_soundsLike.data.toList.drop 23 = dktX9_soundsLike_1 := dk_seg dksX9_soundsLike_0 23 rfl rfl
theorem dksX9_soundsLike_2 : cX9_soundsLike.data.toList.drop 47 = dktX9_soundsLike_2 := dk_seg dksX9_soundsLike_1 24 rfl rfl
theorem dX9_soundsLike_0 : decode cX9_soundsLike 0 = .ok (.aload_n 0, 1) := dk_42 (dk_at dksX9_soundsLike_0 0 rfl rfl)
theorem dX9_soundsLike_1 : decode cX9_soundsLike 1 = .ok (.getfield 26, 3) := dk_180 0 26 (dk_at dksX9_soundsLike_0 1 rfl rfl)
theorem dX9_soundsLike_4 : decode cX9_soundsLike 4 = .ok (.iload_n 2, 1) := dk_28 (dk_at dksX9_soundsLike_0 4 rfl rfl)
theorem dX9_soundsLike_5 : decode cX9_soundsLike 5 = .ok (.iaload, 1) := dk_46 (dk_at dksX9_soundsLike_0 5 rfl rfl)
theorem dX9_soundsLike_6 : decode cX9_soundsLike 6 = .ok (.iconst 1, 1) := dk_4 (dk_at dksX9_soundsLike_0 6 rfl rfl)
theorem dX9_soundsLike_7 : decode cX9_soundsLike 7 = .ok (.if_icmp .ne 23, 3) := dk_160 0 23 (dk_at dksX9_soundsLike_0 7 rfl rfl)
theorem dX9_soundsLike_10 : decode cX9_soundsLike 10 = .ok (.iload_n 1, 1) := dk_27 (dk_at dksX9_soundsLike_0 10 rfl rfl)
theorem dX9_soundsLike_11 : decode cX9_soundsLike 11 = .ok (.aload_n 0, 1) := dk_42 (dk_at dksX9_soundsLike_0 11 rfl rfl)
theorem dX9_soundsLike_12 : decode cX9_soundsLike 12 = .ok (.getfield 168, 3) := dk_180 0 168 (dk_at dksX9_soundsLike_0 12 rfl rfl)
theorem dX9_soundsLike_15 : decode cX9_soundsLike 15 = .ok (.iconst 5, 1) := dk_8 (dk_at dksX9_soundsLike_0 15 rfl rfl)
theorem dX9_soundsLike_16 : decode cX9_soundsLike 16 = .ok (.iload_n 2, 1) := dk_28 (dk_at dksX9_soundsLike_0 16 rfl rfl)
theorem dX9_soundsLike_17 : decode cX9_soundsLike 17 = .ok (.iadd, 1) := dk_96 (dk_at dksX9_soundsLike_0 17 rfl rfl)
theorem dX9_soundsLike_18 : decode cX9_soundsLike 18 = .ok (.iaload, 1) := dk_46 (dk_at dksX9_soundsLike_0 18 rfl rfl)
theorem dX9_soundsLike_19 : decode cX9_soundsLike 19 = .ok (.if_icmp .ne 7, 3) := dk_160 0 7 (dk_at dksX9_soundsLike_0 19 rfl rfl)
theorem dX9_soundsLike_22 : decode cX9_soundsLike 22 = .ok (.iconst 1, 1) := dk_4 (dk_at dksX9_soundsLike_0 22 rfl rfl)
theorem dX9_soundsLike_23 : decode cX9_soundsLike 23 = .ok (.goto 25, 3) := dk_167 0 25 (dk_at dksX9_soundsLike_1 0 rfl rfl)
theorem dX9_soundsLike_26 : decode cX9_soundsLike 26 = .ok (.iconst 0, 1) := dk_3 (dk_at dksX9_soundsLike_1 3 rfl rfl)
theorem dX9_soundsLike_27 : decode cX9_soundsLike 27 = .ok (.goto 21, 3) := dk_167 0 21 (dk_at dksX9_soundsLike_1 4 rfl rfl)
theorem dX9_soundsLike_30 : decode cX9_soundsLike 30 = .ok (.aload_n 0, 1) := dk_42 (dk_at dksX9_soundsLike_1 7 rfl rfl)
theorem dX9_soundsLike_31 : decode cX9_soundsLike 31 = .ok (.getfield 126, 3) := dk_180 0 126 (dk_at dksX9_soundsLike_1 8 rfl rfl)
theorem dX9_soundsLike_34 : decode cX9_soundsLike 34 = .ok (.bipush 16, 2) := dk_16 16 (dk_at dksX9_soundsLike_1 11 rfl rfl)
theorem dX9_soundsLike_36 : decode cX9_soundsLike 36 = .ok (.iload_n 1, 1) := dk_27 (dk_at dksX9_soundsLike_1 13 rfl rfl)
theorem dX9_soundsLike_37 : decode cX9_soundsLike 37 = .ok (.imul, 1) := dk_104 (dk_at dksX9_soundsLike_1 14 rfl rfl)
theorem dX9_soundsLike_38 : decode cX9_soundsLike 38 = .ok (.aload_n 0, 1) := dk_42 (dk_at dksX9_soundsLike_1 15 rfl rfl)
theorem dX9_soundsLike_39 : decode cX9_soundsLike 39 = .ok (.getfield 168, 3) := dk_180 0 168 (dk_at dksX9_soundsLike_1 16 rfl rfl)
theorem dX9_soundsLike_42 : decode cX9_soundsLike 42 = .ok (.iconst 5, 1) := dk_8 (dk_at dksX9_soundsLike_1 19 rfl rfl)
theorem dX9_soundsLike_43 : decode cX9_soundsLike 43 = .ok (.iload_n 2, 1) := dk_28 (dk_at dksX9_soundsLike_1 20 rfl rfl)
theorem dX9_soundsLike_44 : decode cX9_soundsLike 44 = .ok (.iadd, 1) := dk_96 (dk_at dksX9_soundsLike_1 21 rfl rfl)
theorem dX9_soundsLike_45 : decode cX9_soundsLike 45 = .ok (.iaload, 1) := dk_46 (dk_at dksX9_soundsLike_1 22 rfl rfl)
theorem dX9_soundsLike_46 : decode cX9_soundsLike 46 = .ok (.iadd, 1) := dk_96 (dk_at dksX9_soundsLike_1 23 rfl rfl)
theorem dX9_soundsLike_47 : decode cX9_soundsLike 47 = .ok (.baload, 1) := dk_51 (dk_at dksX9_soundsLike_2 0 rfl rfl)
theorem dX9_soundsLike_48 : decode cX9_soundsLike 48 = .ok (.ireturn, 1) := dk_172 (dk_at dksX9_soundsLike_2 1 rfl rfl)
abbrev cX9_away : ByteArray := prog_35_method_5_code
def yX9_away : MethodName := ⟨RX9, "away", "(II)I"⟩
def dkwX9_away_0 : List UInt8 := [26, 27, 162, 0, 9, 27, 26, 100, 167, 0, 6, 26, 27, 100, 172]
abbrev dktX9_away_0 : List UInt8 := dkwX9_away_0 ++ []
theorem dksX9_away_0 : cX9_away.data.toList.drop 0 = dktX9_away_0 := by decide +kernel
theorem dX9_away_0 : decode cX9_away 0 = .ok (.iload_n 0, 1) := dk_26 (dk_at dksX9_away_0 0 rfl rfl)
theorem dX9_away_1 : decode cX9_away 1 = .ok (.iload_n 1, 1) := dk_27 (dk_at dksX9_away_0 1 rfl rfl)
theorem dX9_away_2 : decode cX9_away 2 = .ok (.if_icmp .ge 9, 3) := dk_162 0 9 (dk_at dksX9_away_0 2 rfl rfl)
theorem dX9_away_5 : decode cX9_away 5 = .ok (.iload_n 1, 1) := dk_27 (dk_at dksX9_away_0 5 rfl rfl)
theorem dX9_away_6 : decode cX9_away 6 = .ok (.iload_n 0, 1) := dk_26 (dk_at dksX9_away_0 6 rfl rfl)
theorem dX9_away_7 : decode cX9_away 7 = .ok (.isub, 1) := dk_100 (dk_at dksX9_away_0 7 rfl rfl)
theorem dX9_away_8 : decode cX9_away 8 = .ok (.goto 6, 3) := dk_167 0 6 (dk_at dksX9_away_0 8 rfl rfl)
theorem dX9_away_11 : decode cX9_away 11 = .ok (.iload_n 0, 1) := dk_26 (dk_at dksX9_away_0 11 rfl rfl)
theorem dX9_away_12 : decode cX9_away 12 = .ok (.iload_n 1, 1) := dk_27 (dk_at dksX9_away_0 12 rfl rfl)
theorem dX9_away_13 : decode cX9_away 13 = .ok (.isub, 1) := dk_100 (dk_at dksX9_away_0 13 rfl rfl)
theorem dX9_away_14 : decode cX9_away 14 = .ok (.ireturn, 1) := dk_172 (dk_at dksX9_away_0 14 rfl rfl)
abbrev cX9_fallsBy : ByteArray := prog_35_method_67_code
def yX9_fallsBy : MethodName := ⟨RX9, "fallsBy", "(IIII)I"⟩
def dkwX9_fallsBy_4 : List UInt8 := [132, 8, 1, 167, 255, 205, 42, 89, 180, 1, 252, 27, 21, 7, 2, 130, 126, 126, 181, 1, 252, 21, 7, 172]
abbrev dktX9_fallsBy_4 : List UInt8 := dkwX9_fallsBy_4 ++ []
def dkwX9_fallsBy_3 : List UInt8 := [21, 8, 46, 155, 0, 19, 21, 7, 27, 4, 42, 180, 0, 41, 21, 8, 46, 120, 126, 128, 54, 7]
abbrev dktX9_fallsBy_3 : List UInt8 := dkwX9_fallsBy_3 ++ dktX9_fallsBy_4
def dkwX9_fallsBy_2 : List UInt8 := [180, 0, 13, 3, 46, 162, 0, 46, 21, 6, 21, 8, 122, 4, 126, 4, 160, 0, 29, 42, 180, 0, 41]
abbrev dktX9_fallsBy_2 : List UInt8 := dkwX9_fallsBy_2 ++ dktX9_fallsBy_3
def dkwX9_fallsBy_1 : List UInt8 := [28, 27, 29, 21, 5, 126, 21, 4, 128, 126, 128, 181, 1, 252, 21, 6, 54, 7, 3, 54, 8, 21, 8, 42]
abbrev dktX9_fallsBy_1 : List UInt8 := dkwX9_fallsBy_1 ++ dktX9_fallsBy_2
def dkwX9_fallsBy_0 : List UInt8 := [42, 182, 1, 249, 54, 5, 27, 29, 21, 5, 2, 130, 28, 128, 126, 21, 4, 28, 126, 128, 126, 54, 6, 42]
abbrev dktX9_fallsBy_0 : List UInt8 := dkwX9_fallsBy_0 ++ dktX9_fallsBy_1
theorem dksX9_fallsBy_0 : cX9_fallsBy.data.toList.drop 0 = dktX9_fallsBy_0 := by decide +kernel
theorem dksX9_fallsBy_1 : cX9_fallsBy.data.toList.drop 24 = dktX9_fallsBy_1 := dk_seg dksX9_fallsBy_0 24 rfl rfl
theorem dksX9_fallsBy_2 : cX9_fallsBy.data.toList.drop 48 = dktX9_fallsBy_2 := dk_seg dksX9_fallsBy_1 24 rfl rfl
theorem dksX9_fallsBy_3 : cX9_fallsBy.data.toList.drop 71 = dktX9_fallsBy_3 := dk_seg dksX9_fallsBy_2 23 rfl rfl
theorem dksX9_fallsBy_4 : cX9_fallsBy.data.toList.drop 93 = dktX9_fallsBy_4 := dk_seg dksX9_fallsBy_3 22 rfl rfl
theorem dX9_fallsBy_0 : decode cX9_fallsBy 0 = .ok (.aload_n 0, 1) := dk_42 (dk_at dksX9_fallsBy_0 0 rfl rfl)
theorem dX9_fallsBy_1 : decode cX9_fallsBy 1 = .ok (.invokevirtual 505, 3) := dk_182 1 249 (dk_at dksX9_fallsBy_0 1 rfl rfl)
theorem dX9_fallsBy_4 : decode cX9_fallsBy 4 = .ok (.istore 5, 2) := dk_54 5 (dk_at dksX9_fallsBy_0 4 rfl rfl)
theorem dX9_fallsBy_6 : decode cX9_fallsBy 6 = .ok (.iload_n 1, 1) := dk_27 (dk_at dksX9_fallsBy_0 6 rfl rfl)
theorem dX9_fallsBy_7 : decode cX9_fallsBy 7 = .ok (.iload_n 3, 1) := dk_29 (dk_at dksX9_fallsBy_0 7 rfl rfl)
theorem dX9_fallsBy_8 : decode cX9_fallsBy 8 = .ok (.iload 5, 2) := dk_21 5 (dk_at dksX9_fallsBy_0 8 rfl rfl)
theorem dX9_fallsBy_10 : decode cX9_fallsBy 10 = .ok (.iconst (-1), 1) := dk_2 (dk_at dksX9_fallsBy_0 10 rfl rfl)
theorem dX9_fallsBy_11 : decode cX9_fallsBy 11 = .ok (.ixor, 1) := dk_130 (dk_at dksX9_fallsBy_0 11 rfl rfl)
theorem dX9_fallsBy_12 : decode cX9_fallsBy 12 = .ok (.iload_n 2, 1) := dk_28 (dk_at dksX9_fallsBy_0 12 rfl rfl)
theorem dX9_fallsBy_13 : decode cX9_fallsBy 13 = .ok (.ior, 1) := dk_128 (dk_at dksX9_fallsBy_0 13 rfl rfl)
theorem dX9_fallsBy_14 : decode cX9_fallsBy 14 = .ok (.iand, 1) := dk_126 (dk_at dksX9_fallsBy_0 14 rfl rfl)
theorem dX9_fallsBy_15 : decode cX9_fallsBy 15 = .ok (.iload 4, 2) := dk_21 4 (dk_at dksX9_fallsBy_0 15 rfl rfl)
theorem dX9_fallsBy_17 : decode cX9_fallsBy 17 = .ok (.iload_n 2, 1) := dk_28 (dk_at dksX9_fallsBy_0 17 rfl rfl)
theorem dX9_fallsBy_18 : decode cX9_fallsBy 18 = .ok (.iand, 1) := dk_126 (dk_at dksX9_fallsBy_0 18 rfl rfl)
theorem dX9_fallsBy_19 : decode cX9_fallsBy 19 = .ok (.ior, 1) := dk_128 (dk_at dksX9_fallsBy_0 19 rfl rfl)
theorem dX9_fallsBy_20 : decode cX9_fallsBy 20 = .ok (.iand, 1) := dk_126 (dk_at dksX9_fallsBy_0 20 rfl rfl)
theorem dX9_fallsBy_21 : decode cX9_fallsBy 21 = .ok (.istore 6, 2) := dk_54 6 (dk_at dksX9_fallsBy_0 21 rfl rfl)
theorem dX9_fallsBy_23 : decode cX9_fallsBy 23 = .ok (.aload_n 0, 1) := dk_42 (dk_at dksX9_fallsBy_0 23 rfl rfl)
theorem dX9_fallsBy_24 : decode cX9_fallsBy 24 = .ok (.iload_n 2, 1) := dk_28 (dk_at dksX9_fallsBy_1 0 rfl rfl)
theorem dX9_fallsBy_25 : decode cX9_fallsBy 25 = .ok (.iload_n 1, 1) := dk_27 (dk_at dksX9_fallsBy_1 1 rfl rfl)
theorem dX9_fallsBy_26 : decode cX9_fallsBy 26 = .ok (.iload_n 3, 1) := dk_29 (dk_at dksX9_fallsBy_1 2 rfl rfl)
theorem dX9_fallsBy_27 : decode cX9_fallsBy 27 = .ok (.iload 5, 2) := dk_21 5 (dk_at dksX9_fallsBy_1 3 rfl rfl)
theorem dX9_fallsBy_29 : decode cX9_fallsBy 29 = .ok (.iand, 1) := dk_126 (dk_at dksX9_fallsBy_1 5 rfl rfl)
theorem dX9_fallsBy_30 : decode cX9_fallsBy 30 = .ok (.iload 4, 2) := dk_21 4 (dk_at dksX9_fallsBy_1 6 rfl rfl)
theorem dX9_fallsBy_32 : decode cX9_fallsBy 32 = .ok (.ior, 1) := dk_128 (dk_at dksX9_fallsBy_1 8 rfl rfl)
theorem dX9_fallsBy_33 : decode cX9_fallsBy 33 = .ok (.iand, 1) := dk_126 (dk_at dksX9_fallsBy_1 9 rfl rfl)
theorem dX9_fallsBy_34 : decode cX9_fallsBy 34 = .ok (.ior, 1) := dk_128 (dk_at dksX9_fallsBy_1 10 rfl rfl)
theorem dX9_fallsBy_35 : decode cX9_fallsBy 35 = .ok (.putfield 508, 3) := dk_181 1 252 (dk_at dksX9_fallsBy_1 11 rfl rfl)
theorem dX9_fallsBy_38 : decode cX9_fallsBy 38 = .ok (.iload 6, 2) := dk_21 6 (dk_at dksX9_fallsBy_1 14 rfl rfl)
theorem dX9_fallsBy_40 : decode cX9_fallsBy 40 = .ok (.istore 7, 2) := dk_54 7 (dk_at dksX9_fallsBy_1 16 rfl rfl)
theorem dX9_fallsBy_42 : decode cX9_fallsBy 42 = .ok (.iconst 0, 1) := dk_3 (dk_at dksX9_fallsBy_1 18 rfl rfl)
theorem dX9_fallsBy_43 : decode cX9_fallsBy 43 = .ok (.istore 8, 2) := dk_54 8 (dk_at dksX9_fallsBy_1 19 rfl rfl)
theorem dX9_fallsBy_45 : decode cX9_fallsBy 45 = .ok (.iload 8, 2) := dk_21 8 (dk_at dksX9_fallsBy_1 21 rfl rfl)
theorem dX9_fallsBy_47 : decode cX9_fallsBy 47 = .ok (.aload_n 0, 1) := dk_42 (dk_at dksX9_fallsBy_1 23 rfl rfl)
theorem dX9_fallsBy_48 : decode cX9_fallsBy 48 = .ok (.getfield 13, 3) := dk_180 0 13 (dk_at dksX9_fallsBy_2 0 rfl rfl)
theorem dX9_fallsBy_51 : decode cX9_fallsBy 51 = .ok (.iconst 0, 1) := dk_3 (dk_at dksX9_fallsBy_2 3 rfl rfl)
theorem dX9_fallsBy_52 : decode cX9_fallsBy 52 = .ok (.iaload, 1) := dk_46 (dk_at dksX9_fallsBy_2 4 rfl rfl)
theorem dX9_fallsBy_53 : decode cX9_fallsBy 53 = .ok (.if_icmp .ge 46, 3) := dk_162 0 46 (dk_at dksX9_fallsBy_2 5 rfl rfl)
theorem dX9_fallsBy_56 : decode cX9_fallsBy 56 = .ok (.iload 6, 2) := dk_21 6 (dk_at dksX9_fallsBy_2 8 rfl rfl)
theorem dX9_fallsBy_58 : decode cX9_fallsBy 58 = .ok (.iload 8, 2) := dk_21 8 (dk_at dksX9_fallsBy_2 10 rfl rfl)
theorem dX9_fallsBy_60 : decode cX9_fallsBy 60 = .ok (.ishr, 1) := dk_122 (dk_at dksX9_fallsBy_2 12 rfl rfl)
theorem dX9_fallsBy_61 : decode cX9_fallsBy 61 = .ok (.iconst 1, 1) := dk_4 (dk_at dksX9_fallsBy_2 13 rfl rfl)
theorem dX9_fallsBy_62 : decode cX9_fallsBy 62 = .ok (.iand, 1) := dk_126 (dk_at dksX9_fallsBy_2 14 rfl rfl)
theorem dX9_fallsBy_63 : decode cX9_fallsBy 63 = .ok (.iconst 1, 1) := dk_4 (dk_at dksX9_fallsBy_2 15 rfl rfl)
theorem dX9_fallsBy_64 : decode cX9_fallsBy 64 = .ok (.if_icmp .ne 29, 3) := dk_160 0 29 (dk_at dksX9_fallsBy_2 16 rfl rfl)
theorem dX9_fallsBy_67 : decode cX9_fallsBy 67 = .ok (.aload_n 0, 1) := dk_42 (dk_at dksX9_fallsBy_2 19 rfl rfl)
theorem dX9_fallsBy_68 : decode cX9_fallsBy 68 = .ok (.getfield 41, 3) := dk_180 0 41 (dk_at dksX9_fallsBy_2 20 rfl rfl)
theorem dX9_fallsBy_71 : decode cX9_fallsBy 71 = .ok (.iload 8, 2) := dk_21 8 (dk_at dksX9_fallsBy_3 0 rfl rfl)
theorem dX9_fallsBy_73 : decode cX9_fallsBy 73 = .ok (.iaload, 1) := dk_46 (dk_at dksX9_fallsBy_3 2 rfl rfl)
theorem dX9_fallsBy_74 : decode cX9_fallsBy 74 = .ok (.ifCond .lt 19, 3) := dk_155 0 19 (dk_at dksX9_fallsBy_3 3 rfl rfl)
theorem dX9_fallsBy_77 : decode cX9_fallsBy 77 = .ok (.iload 7, 2) := dk_21 7 (dk_at dksX9_fallsBy_3 6 rfl rfl)
theorem dX9_fallsBy_79 : decode cX9_fallsBy 79 = .ok (.iload_n 1, 1) := dk_27 (dk_at dksX9_fallsBy_3 8 rfl rfl)
theorem dX9_fallsBy_80 : decode cX9_fallsBy 80 = .ok (.iconst 1, 1) := dk_4 (dk_at dksX9_fallsBy_3 9 rfl rfl)
theorem dX9_fallsBy_81 : decode cX9_fallsBy 81 = .ok (.aload_n 0, 1) := dk_42 (dk_at dksX9_fallsBy_3 10 rfl rfl)
theorem dX9_fallsBy_82 : decode cX9_fallsBy 82 = .ok (.getfield 41, 3) := dk_180 0 41 (dk_at dksX9_fallsBy_3 11 rfl rfl)
theorem dX9_fallsBy_85 : decode cX9_fallsBy 85 = .ok (.iload 8, 2) := dk_21 8 (dk_at dksX9_fallsBy_3 14 rfl rfl)
theorem dX9_fallsBy_87 : decode cX9_fallsBy 87 = .ok (.iaload, 1) := dk_46 (dk_at dksX9_fallsBy_3 16 rfl rfl)
theorem dX9_fallsBy_88 : decode cX9_fallsBy 88 = .ok (.ishl, 1) := dk_120 (dk_at dksX9_fallsBy_3 17 rfl rfl)
theorem dX9_fallsBy_89 : decode cX9_fallsBy 89 = .ok (.iand, 1) := dk_126 (dk_at dksX9_fallsBy_3 18 rfl rfl)
theorem dX9_fallsBy_90 : decode cX9_fallsBy 90 = .ok (.ior, 1) := dk_128 (dk_at dksX9_fallsBy_3 19 rfl rfl)
theorem dX9_fallsBy_91 : decode cX9_fallsBy 91 = .ok (.istore 7, 2) := dk_54 7 (dk_at dksX9_fallsBy_3 20 rfl rfl)
theorem dX9_fallsBy_93 : decode cX9_fallsBy 93 = .ok (.iinc 8 1, 3) := dk_132 8 1 (dk_at dksX9_fallsBy_4 0 rfl rfl)
theorem dX9_fallsBy_96 : decode cX9_fallsBy 96 = .ok (.goto (-51), 3) := dk_167 255 205 (dk_at dksX9_fallsBy_4 3 rfl rfl)
theorem dX9_fallsBy_99 : decode cX9_fallsBy 99 = .ok (.aload_n 0, 1) := dk_42 (dk_at dksX9_fallsBy_4 6 rfl rfl)
theorem dX9_fallsBy_100 : decode cX9_fallsBy 100 = .ok (.dup, 1) := dk_89 (dk_at dksX9_fallsBy_4 7 rfl rfl)
theorem dX9_fallsBy_101 : decode cX9_fallsBy 101 = .ok (.getfield 508, 3) := dk_180 1 252 (dk_at dksX9_fallsBy_4 8 rfl rfl)
theorem dX9_fallsBy_104 : decode cX9_fallsBy 104 = .ok (.iload_n 1, 1) := dk_27 (dk_at dksX9_fallsBy_4 11 rfl rfl)
theorem dX9_fallsBy_105 : decode cX9_fallsBy 105 = .ok (.iload 7, 2) := dk_21 7 (dk_at dksX9_fallsBy_4 12 rfl rfl)
theorem dX9_fallsBy_107 : decode cX9_fallsBy 107 = .ok (.iconst (-1), 1) := dk_2 (dk_at dksX9_fallsBy_4 14 rfl rfl)
theorem dX9_fallsBy_108 : decode cX9_fallsBy 108 = .ok (.ixor, 1) := dk_130 (dk_at dksX9_fallsBy_4 15 rfl rfl)
theorem dX9_fallsBy_109 : decode cX9_fallsBy 109 = .ok (.iand, 1) := dk_126 (dk_at dksX9_fallsBy_4 16 rfl rfl)
theorem dX9_fallsBy_110 : decode cX9_fallsBy 110 = .ok (.iand, 1) := dk_126 (dk_at dksX9_fallsBy_4 17 rfl rfl)
theorem dX9_fallsBy_111 : decode cX9_fallsBy 111 = .ok (.putfield 508, 3) := dk_181 1 252 (dk_at dksX9_fallsBy_4 18 rfl rfl)
theorem dX9_fallsBy_114 : decode cX9_fallsBy 114 = .ok (.iload 7, 2) := dk_21 7 (dk_at dksX9_fallsBy_4 21 rfl rfl)
theorem dX9_fallsBy_116 : decode cX9_fallsBy 116 = .ok (.ireturn, 1) := dk_172 (dk_at dksX9_fallsBy_4 23 rfl rfl)
abbrev cX9_welsh : ByteArray := prog_35_method_66_code
def yX9_welsh : MethodName := ⟨RX9, "welsh", "()I"⟩
def dkwX9_welsh_1 : List UInt8 := [160, 0, 9, 4, 28, 120, 167, 0, 4, 3, 128, 60, 132, 2, 1, 167, 255, 223, 27, 172]
abbrev dktX9_welsh_1 : List UInt8 := dkwX9_welsh_1 ++ []
def dkwX9_welsh_0 : List UInt8 := [3, 60, 3, 61, 28, 42, 180, 0, 13, 3, 46, 162, 0, 29, 27, 42, 180, 0, 26, 28, 46, 5]
abbrev dktX9_welsh_0 : List UInt8 := dkwX9_welsh_0 ++ dktX9_welsh_1
theorem dksX9_welsh_0 : cX9_welsh.data.toList.drop 0 = dktX9_welsh_0 := by decide +kernel
theorem dksX9_welsh_1 : cX9_welsh.data.toList.drop 22 = dktX9_welsh_1 := dk_seg dksX9_welsh_0 22 rfl rfl
theorem dX9_welsh_0 : decode cX9_welsh 0 = .ok (.iconst 0, 1) := dk_3 (dk_at dksX9_welsh_0 0 rfl rfl)
theorem dX9_welsh_1 : decode cX9_welsh 1 = .ok (.istore_n 1, 1) := dk_60 (dk_at dksX9_welsh_0 1 rfl rfl)
theorem dX9_welsh_2 : decode cX9_welsh 2 = .ok (.iconst 0, 1) := dk_3 (dk_at dksX9_welsh_0 2 rfl rfl)
theorem dX9_welsh_3 : decode cX9_welsh 3 = .ok (.istore_n 2, 1) := dk_61 (dk_at dksX9_welsh_0 3 rfl rfl)
theorem dX9_welsh_4 : decode cX9_welsh 4 = .ok (.iload_n 2, 1) := dk_28 (dk_at dksX9_welsh_0 4 rfl rfl)
theorem dX9_welsh_5 : decode cX9_welsh 5 = .ok (.aload_n 0, 1) := dk_42 (dk_at dksX9_welsh_0 5 rfl rfl)
theorem dX9_welsh_6 : decode cX9_welsh 6 = .ok (.getfield 13, 3) := dk_180 0 13 (dk_at dksX9_welsh_0 6 rfl rfl)
theorem dX9_welsh_9 : decode cX9_welsh 9 = .ok (.iconst 0, 1) := dk_3 (dk_at dksX9_welsh_0 9 rfl rfl)
theorem dX9_welsh_10 : decode cX9_welsh 10 = .ok (.iaload, 1) := dk_46 (dk_at dksX9_welsh_0 10 rfl rfl)
theorem dX9_welsh_11 : decode cX9_welsh 11 = .ok (.if_icmp .ge 29, 3) := dk_162 0 29 (dk_at dksX9_welsh_0 11 rfl rfl)
theorem dX9_welsh_14 : decode cX9_welsh 14 = .ok (.iload_n 1, 1) := dk_27 (dk_at dksX9_welsh_0 14 rfl rfl)
theorem dX9_welsh_15 : decode cX9_welsh 15 = .ok (.aload_n 0, 1) := dk_42 (dk_at dksX9_welsh_0 15 rfl rfl)
theorem dX9_welsh_16 : decode cX9_welsh 16 = .ok (.getfield 26, 3) := dk_180 0 26 (dk_at dksX9_welsh_0 16 rfl rfl)
theorem dX9_welsh_19 : decode cX9_welsh 19 = .ok (.iload_n 2, 1) := dk_28 (dk_at dksX9_welsh_0 19 rfl rfl)
theorem dX9_welsh_20 : decode cX9_welsh 20 = .ok (.iaload, 1) := dk_46 (dk_at dksX9_welsh_0 20 rfl rfl)
theorem dX9_welsh_21 : decode cX9_welsh 21 = .ok (.iconst 2, 1) := dk_5 (dk_at dksX9_welsh_0 21 rfl rfl)
theorem dX9_welsh_22 : decode cX9_welsh 22 = .ok (.if_icmp .ne 9, 3) := dk_160 0 9 (dk_at dksX9_welsh_1 0 rfl rfl)
theorem dX9_welsh_25 : decode cX9_welsh 25 = .ok (.iconst 1, 1) := dk_4 (dk_at dksX9_welsh_1 3 rfl rfl)
theorem dX9_welsh_26 : decode cX9_welsh 26 = .ok (.iload_n 2, 1) := dk_28 (dk_at dksX9_welsh_1 4 rfl rfl)
theorem dX9_welsh_27 : decode cX9_welsh 27 = .ok (.ishl, 1) := dk_120 (dk_at dksX9_welsh_1 5 rfl rfl)
theorem dX9_welsh_28 : decode cX9_welsh 28 = .ok (.goto 4, 3) := dk_167 0 4 (dk_at dksX9_welsh_1 6 rfl rfl)
theorem dX9_welsh_31 : decode cX9_welsh 31 = .ok (.iconst 0, 1) := dk_3 (dk_at dksX9_welsh_1 9 rfl rfl)
theorem dX9_welsh_32 : decode cX9_welsh 32 = .ok (.ior, 1) := dk_128 (dk_at dksX9_welsh_1 10 rfl rfl)
theorem dX9_welsh_33 : decode cX9_welsh 33 = .ok (.istore_n 1, 1) := dk_60 (dk_at dksX9_welsh_1 11 rfl rfl)
theorem dX9_welsh_34 : decode cX9_welsh 34 = .ok (.iinc 2 1, 3) := dk_132 2 1 (dk_at dksX9_welsh_1 12 rfl rfl)
theorem dX9_welsh_37 : decode cX9_welsh 37 = .ok (.goto (-33), 3) := dk_167 255 223 (dk_at dksX9_welsh_1 15 rfl rfl)
theorem dX9_welsh_40 : decode cX9_welsh 40 = .ok (.iload_n 1, 1) := dk_27 (dk_at dksX9_welsh_1 18 rfl rfl)
theorem dX9_welsh_41 : decode cX9_welsh 41 = .ok (.ireturn, 1) := dk_172 (dk_at dksX9_welsh_1 19 rfl rfl)
abbrev cX9_call : ByteArray := prog_35_method_72_code
def yX9_call : MethodName := ⟨RX9, "call", "(II)I"⟩
def dkwX9_call_2 : List UInt8 := [27, 46, 182, 2, 17, 172]
abbrev dktX9_call_2 : List UInt8 := dkwX9_call_2 ++ []
def dkwX9_call_1 : List UInt8 := [182, 1, 234, 154, 0, 5, 2, 172, 42, 182, 2, 14, 42, 28, 42, 180, 0, 44, 27, 46, 42, 180, 0, 47]
abbrev dktX9_call_1 : List UInt8 := dkwX9_call_1 ++ dktX9_call_2
def dkwX9_call_0 : List UInt8 := [42, 3, 181, 0, 212, 42, 27, 182, 1, 231, 153, 0, 20, 42, 28, 182, 1, 228, 153, 0, 12, 42, 27, 28]
abbrev dktX9_call_0 : List UInt8 := dkwX9_call_0 ++ dktX9_call_1
theorem dksX9_call_0 : cX9_call.data.toList.drop 0 = dktX9_call_0 := by decide +kernel
theorem dksX9_call_1 : cX9_call.data.toList.drop 24 = dktX9_call_1 := dk_seg dksX9_call_0 24 rfl rfl
theorem dksX9_call_2 : cX9_call.data.toList.drop 48 = dktX9_call_2 := dk_seg dksX9_call_1 24 rfl rfl
theorem dX9_call_0 : decode cX9_call 0 = .ok (.aload_n 0, 1) := dk_42 (dk_at dksX9_call_0 0 rfl rfl)
theorem dX9_call_1 : decode cX9_call 1 = .ok (.iconst 0, 1) := dk_3 (dk_at dksX9_call_0 1 rfl rfl)
theorem dX9_call_2 : decode cX9_call 2 = .ok (.putfield 212, 3) := dk_181 0 212 (dk_at dksX9_call_0 2 rfl rfl)
theorem dX9_call_5 : decode cX9_call 5 = .ok (.aload_n 0, 1) := dk_42 (dk_at dksX9_call_0 5 rfl rfl)
theorem dX9_call_6 : decode cX9_call 6 = .ok (.iload_n 1, 1) := dk_27 (dk_at dksX9_call_0 6 rfl rfl)
theorem dX9_call_7 : decode cX9_call 7 = .ok (.invokevirtual 487, 3) := dk_182 1 231 (dk_at dksX9_call_0 7 rfl rfl)
theorem dX9_call_10 : decode cX9_call 10 = .ok (.ifCond .eq 20, 3) := dk_153 0 20 (dk_at dksX9_call_0 10 rfl rfl)
theorem dX9_call_13 : decode cX9_call 13 = .ok (.aload_n 0, 1) := dk_42 (dk_at dksX9_call_0 13 rfl rfl)
theorem dX9_call_14 : decode cX9_call 14 = .ok (.iload_n 2, 1) := dk_28 (dk_at dksX9_call_0 14 rfl rfl)
theorem dX9_call_15 : decode cX9_call 15 = .ok (.invokevirtual 484, 3) := dk_182 1 228 (dk_at dksX9_call_0 15 rfl rfl)
theorem dX9_call_18 : decode cX9_call 18 = .ok (.ifCond .eq 12, 3) := dk_153 0 12 (dk_at dksX9_call_0 18 rfl rfl)
theorem dX9_call_21 : decode cX9_call 21 = .ok (.aload_n 0, 1) := dk_42 (dk_at dksX9_call_0 21 rfl rfl)
theorem dX9_call_22 : decode cX9_call 22 = .ok (.iload_n 1, 1) := dk_27 (dk_at dksX9_call_0 22 rfl rfl)
theorem dX9_call_23 : decode cX9_call 23 = .ok (.iload_n 2, 1) := dk_28 (dk_at dksX9_call_0 23 rfl rfl)
theorem dX9_call_24 : decode cX9_call 24 = .ok (.invokevirtual 490, 3) := dk_182 1 234 (dk_at dksX9_call_1 0 rfl rfl)
theorem dX9_call_27 : decode cX9_call 27 = .ok (.ifCond .ne 5, 3) := dk_154 0 5 (dk_at dksX9_call_1 3 rfl rfl)
theorem dX9_call_30 : decode cX9_call 30 = .ok (.iconst (-1), 1) := dk_2 (dk_at dksX9_call_1 6 rfl rfl)
theorem dX9_call_31 : decode cX9_call 31 = .ok (.ireturn, 1) := dk_172 (dk_at dksX9_call_1 7 rfl rfl)
theorem dX9_call_32 : decode cX9_call 32 = .ok (.aload_n 0, 1) := dk_42 (dk_at dksX9_call_1 8 rfl rfl)
theorem dX9_call_33 : decode cX9_call 33 = .ok (.invokevirtual 526, 3) := dk_182 2 14 (dk_at dksX9_call_1 9 rfl rfl)
theorem dX9_call_36 : decode cX9_call 36 = .ok (.aload_n 0, 1) := dk_42 (dk_at dksX9_call_1 12 rfl rfl)
theorem dX9_call_37 : decode cX9_call 37 = .ok (.iload_n 2, 1) := dk_28 (dk_at dksX9_call_1 13 rfl rfl)
theorem dX9_call_38 : decode cX9_call 38 = .ok (.aload_n 0, 1) := dk_42 (dk_at dksX9_call_1 14 rfl rfl)
theorem dX9_call_39 : decode cX9_call 39 = .ok (.getfield 44, 3) := dk_180 0 44 (dk_at dksX9_call_1 15 rfl rfl)
theorem dX9_call_42 : decode cX9_call 42 = .ok (.iload_n 1, 1) := dk_27 (dk_at dksX9_call_1 18 rfl rfl)
theorem dX9_call_43 : decode cX9_call 43 = .ok (.iaload, 1) := dk_46 (dk_at dksX9_call_1 19 rfl rfl)
theorem dX9_call_44 : decode cX9_call 44 = .ok (.aload_n 0, 1) := dk_42 (dk_at dksX9_call_1 20 rfl rfl)
theorem dX9_call_45 : decode cX9_call 45 = .ok (.getfield 47, 3) := dk_180 0 47 (dk_at dksX9_call_1 21 rfl rfl)
theorem dX9_call_48 : decode cX9_call 48 = .ok (.iload_n 1, 1) := dk_27 (dk_at dksX9_call_2 0 rfl rfl)
theorem dX9_call_49 : decode cX9_call 49 = .ok (.iaload, 1) := dk_46 (dk_at dksX9_call_2 1 rfl rfl)
theorem dX9_call_50 : decode cX9_call 50 = .ok (.invokevirtual 529, 3) := dk_182 2 17 (dk_at dksX9_call_2 2 rfl rfl)
theorem dX9_call_53 : decode cX9_call 53 = .ok (.ireturn, 1) := dk_172 (dk_at dksX9_call_2 5 rfl rfl)
abbrev cX9_keeps : ByteArray := prog_35_method_71_code
def yX9_keeps : MethodName := ⟨RX9, "keeps", "()V"⟩
def dkwX9_keeps_3 : List UInt8 := [180, 1, 209, 4, 96, 181, 1, 209, 177]
abbrev dktX9_keeps_3 : List UInt8 := dkwX9_keeps_3 ++ []
def dkwX9_keeps_2 : List UInt8 := [181, 1, 209, 42, 180, 0, 168, 3, 42, 180, 0, 177, 16, 15, 42, 180, 1, 209, 104, 184, 2, 10, 42, 89]
abbrev dktX9_keeps_2 : List UInt8 := dkwX9_keeps_2 ++ dktX9_keeps_3
def dkwX9_keeps_1 : List UInt8 := [180, 0, 177, 27, 16, 15, 96, 46, 79, 132, 1, 1, 167, 255, 231, 42, 89, 180, 1, 209, 4, 100]
abbrev dktX9_keeps_1 : List UInt8 := dkwX9_keeps_1 ++ dktX9_keeps_2
def dkwX9_keeps_0 : List UInt8 := [42, 180, 1, 209, 16, 16, 160, 0, 43, 3, 60, 27, 17, 0, 225, 162, 0, 24, 42, 180, 0, 177, 27, 42]
abbrev dktX9_keeps_0 : List UInt8 := dkwX9_keeps_0 ++ dktX9_keeps_1
theorem dksX9_keeps_0 : cX9_keeps.data.toList.drop 0 = dktX9_keeps_0 := by decide +kernel
theorem dksX9_keeps_1 : cX9_keeps.data.toList.drop 24 = dktX9_keeps_1 := dk_seg dksX9_keeps_0 24 rfl rfl
theorem dksX9_keeps_2 : cX9_keeps.data.toList.drop 46 = dktX9_keeps_2 := dk_seg dksX9_keeps_1 22 rfl rfl
theorem dksX9_keeps_3 : cX9_keeps.data.toList.drop 70 = dktX9_keeps_3 := dk_seg dksX9_keeps_2 24 rfl rfl
theorem dX9_keeps_0 : decode cX9_keeps 0 = .ok (.aload_n 0, 1) := dk_42 (dk_at dksX9_keeps_0 0 rfl rfl)
theorem dX9_keeps_1 : decode cX9_keeps 1 = .ok (.getfield 465, 3) := dk_180 1 209 (dk_at dksX9_keeps_0 1 rfl rfl)
theorem dX9_keeps_4 : decode cX9_keeps 4 = .ok (.bipush 16, 2) := dk_16 16 (dk_at dksX9_keeps_0 4 rfl rfl)
theorem dX9_keeps_6 : decode cX9_keeps 6 = .ok (.if_icmp .ne 43, 3) := dk_160 0 43 (dk_at dksX9_keeps_0 6 rfl rfl)
theorem dX9_keeps_9 : decode cX9_keeps 9 = .ok (.iconst 0, 1) := dk_3 (dk_at dksX9_keeps_0 9 rfl rfl)
theorem dX9_keeps_10 : decode cX9_keeps 10 = .ok (.istore_n 1, 1) := dk_60 (dk_at dksX9_keeps_0 10 rfl rfl)
theorem dX9_keeps_11 : decode cX9_keeps 11 = .ok (.iload_n 1, 1) := dk_27 (dk_at dksX9_keeps_0 11 rfl rfl)
theorem dX9_keeps_12 : decode cX9_keeps 12 = .ok (.sipush 225, 3) := dk_17 0 225 (dk_at dksX9_keeps_0 12 rfl rfl)
theorem dX9_keeps_15 : decode cX9_keeps 15 = .ok (.if_icmp .ge 24, 3) := dk_162 0 24 (dk_at dksX9_keeps_0 15 rfl rfl)
theorem dX9_keeps_18 : decode cX9_keeps 18 = .ok (.aload_n 0, 1) := dk_42 (dk_at dksX9_keeps_0 18 rfl rfl)
theorem dX9_keeps_19 : decode cX9_keeps 19 = .ok (.getfield 177, 3) := dk_180 0 177 (dk_at dksX9_keeps_0 19 rfl rfl)
theorem dX9_keeps_22 : decode cX9_keeps 22 = .ok (.iload_n 1, 1) := dk_27 (dk_at dksX9_keeps_0 22 rfl rfl)
theorem dX9_keeps_23 : decode cX9_keeps 23 = .ok (.aload_n 0, 1) := dk_42 (dk_at dksX9_keeps_0 23 rfl rfl)
theorem dX9_keeps_24 : decode cX9_keeps 24 = .ok (.getfield 177, 3) := dk_180 0 177 (dk_at dksX9_keeps_1 0 rfl rfl)
theorem dX9_keeps_27 : decode cX9_keeps 27 = .ok (.iload_n 1, 1) := dk_27 (dk_at dksX9_keeps_1 3 rfl rfl)
theorem dX9_keeps_28 : decode cX9_keeps 28 = .ok (.bipush 15, 2) := dk_16 15 (dk_at dksX9_keeps_1 4 rfl rfl)
theorem dX9_keeps_30 : decode cX9_keeps 30 = .ok (.iadd, 1) := dk_96 (dk_at dksX9_keeps_1 6 rfl rfl)
theorem dX9_keeps_31 : decode cX9_keeps 31 = .ok (.iaload, 1) := dk_46 (dk_at dksX9_keeps_1 7 rfl rfl)
theorem dX9_keeps_32 : decode cX9_keeps 32 = .ok (.iastore, 1) := dk_79 (dk_at dksX9_keeps_1 8 rfl rfl)
theorem dX9_keeps_33 : decode cX9_keeps 33 = .ok (.iinc 1 1, 3) := dk_132 1 1 (dk_at dksX9_keeps_1 9 rfl rfl)
theorem dX9_keeps_36 : decode cX9_keeps 36 = .ok (.goto (-25), 3) := dk_167 255 231 (dk_at dksX9_keeps_1 12 rfl rfl)
theorem dX9_keeps_39 : decode cX9_keeps 39 = .ok (.aload_n 0, 1) := dk_42 (dk_at dksX9_keeps_1 15 rfl rfl)
theorem dX9_keeps_40 : decode cX9_keeps 40 = .ok (.dup, 1) := dk_89 (dk_at dksX9_keeps_1 16 rfl rfl)
theorem dX9_keeps_41 : decode cX9_keeps 41 = .ok (.getfield 465, 3) := dk_180 1 209 (dk_at dksX9_keeps_1 17 rfl rfl)
theorem dX9_keeps_44 : decode cX9_keeps 44 = .ok (.iconst 1, 1) := dk_4 (dk_at dksX9_keeps_1 20 rfl rfl)
theorem dX9_keeps_45 : decode cX9_keeps 45 = .ok (.isub, 1) := dk_100 (dk_at dksX9_keeps_1 21 rfl rfl)
theorem dX9_keeps_46 : decode cX9_keeps 46 = .ok (.putfield 465, 3) := dk_181 1 209 (dk_at dksX9_keeps_2 0 rfl rfl)
theorem dX9_keeps_49 : decode cX9_keeps 49 = .ok (.aload_n 0, 1) := dk_42 (dk_at dksX9_keeps_2 3 rfl rfl)
theorem dX9_keeps_50 : decode cX9_keeps 50 = .ok (.getfield 168, 3) := dk_180 0 168 (dk_at dksX9_keeps_2 4 rfl rfl)
theorem dX9_keeps_53 : decode cX9_keeps 53 = .ok (.iconst 0, 1) := dk_3 (dk_at dksX9_keeps_2 7 rfl rfl)
theorem dX9_keeps_54 : decode cX9_keeps 54 = .ok (.aload_n 0, 1) := dk_42 (dk_at dksX9_keeps_2 8 rfl rfl)
theorem dX9_keeps_55 : decode cX9_keeps 55 = .ok (.getfield 177, 3) := dk_180 0 177 (dk_at dksX9_keeps_2 9 rfl rfl)
theorem dX9_keeps_58 : decode cX9_keeps 58 = .ok (.bipush 15, 2) := dk_16 15 (dk_at dksX9_keeps_2 12 rfl rfl)
theorem dX9_keeps_60 : decode cX9_keeps 60 = .ok (.aload_n 0, 1) := dk_42 (dk_at dksX9_keeps_2 14 rfl rfl)
theorem dX9_keeps_61 : decode cX9_keeps 61 = .ok (.getfield 465, 3) := dk_180 1 209 (dk_at dksX9_keeps_2 15 rfl rfl)
theorem dX9_keeps_64 : decode cX9_keeps 64 = .ok (.imul, 1) := dk_104 (dk_at dksX9_keeps_2 18 rfl rfl)
theorem dX9_keeps_65 : decode cX9_keeps 65 = .ok (.invokestatic 522, 3) := dk_184 2 10 (dk_at dksX9_keeps_2 19 rfl rfl)
theorem dX9_keeps_68 : decode cX9_keeps 68 = .ok (.aload_n 0, 1) := dk_42 (dk_at dksX9_keeps_2 22 rfl rfl)
theorem dX9_keeps_69 : decode cX9_keeps 69 = .ok (.dup, 1) := dk_89 (dk_at dksX9_keeps_2 23 rfl rfl)
theorem dX9_keeps_70 : decode cX9_keeps 70 = .ok (.getfield 465, 3) := dk_180 1 209 (dk_at dksX9_keeps_3 0 rfl rfl)
theorem dX9_keeps_73 : decode cX9_keeps 73 = .ok (.iconst 1, 1) := dk_4 (dk_at dksX9_keeps_3 3 rfl rfl)
theorem dX9_keeps_74 : decode cX9_keeps 74 = .ok (.iadd, 1) := dk_96 (dk_at dksX9_keeps_3 4 rfl rfl)
theorem dX9_keeps_75 : decode cX9_keeps 75 = .ok (.putfield 465, 3) := dk_181 1 209 (dk_at dksX9_keeps_3 5 rfl rfl)
theorem dX9_keeps_78 : decode cX9_keeps 78 = .ok (.return_, 1) := dk_177 (dk_at dksX9_keeps_3 8 rfl rfl)
abbrev cX9_copies : ByteArray := prog_35_method_49_code
def yX9_copies : MethodName := ⟨RX9, "copies", "([II[II)V"⟩
def dkwX9_copies_1 : List UInt8 := [132, 4, 1, 167, 255, 234, 177]
abbrev dktX9_copies_1 : List UInt8 := dkwX9_copies_1 ++ []
def dkwX9_copies_0 : List UInt8 := [3, 54, 4, 21, 4, 16, 15, 162, 0, 21, 44, 29, 21, 4, 96, 42, 27, 21, 4, 96, 46, 79]
abbrev dktX9_copies_0 : List UInt8 := dkwX9_copies_0 ++ dktX9_copies_1
theorem dksX9_copies_0 : cX9_copies.data.toList.drop 0 = dktX9_copies_0 := by decide +kernel
theorem dksX9_copies_1 : cX9_copies.data.toList.drop 22 = dktX9_copies_1 := dk_seg dksX9_copies_0 22 rfl rfl
theorem dX9_copies_0 : decode cX9_copies 0 = .ok (.iconst 0, 1) := dk_3 (dk_at dksX9_copies_0 0 rfl rfl)
theorem dX9_copies_1 : decode cX9_copies 1 = .ok (.istore 4, 2) := dk_54 4 (dk_at dksX9_copies_0 1 rfl rfl)
theorem dX9_copies_3 : decode cX9_copies 3 = .ok (.iload 4, 2) := dk_21 4 (dk_at dksX9_copies_0 3 rfl rfl)
theorem dX9_copies_5 : decode cX9_copies 5 = .ok (.bipush 15, 2) := dk_16 15 (dk_at dksX9_copies_0 5 rfl rfl)
theorem dX9_copies_7 : decode cX9_copies 7 = .ok (.if_icmp .ge 21, 3) := dk_162 0 21 (dk_at dksX9_copies_0 7 rfl rfl)
theorem dX9_copies_10 : decode cX9_copies 10 = .ok (.aload_n 2, 1) := dk_44 (dk_at dksX9_copies_0 10 rfl rfl)
theorem dX9_copies_11 : decode cX9_copies 11 = .ok (.iload_n 3, 1) := dk_29 (dk_at dksX9_copies_0 11 rfl rfl)
theorem dX9_copies_12 : decode cX9_copies 12 = .ok (.iload 4, 2) := dk_21 4 (dk_at dksX9_copies_0 12 rfl rfl)
theorem dX9_copies_14 : decode cX9_copies 14 = .ok (.iadd, 1) := dk_96 (dk_at dksX9_copies_0 14 rfl rfl)
theorem dX9_copies_15 : decode cX9_copies 15 = .ok (.aload_n 0, 1) := dk_42 (dk_at dksX9_copies_0 15 rfl rfl)
theorem dX9_copies_16 : decode cX9_copies 16 = .ok (.iload_n 1, 1) := dk_27 (dk_at dksX9_copies_0 16 rfl rfl)
theorem dX9_copies_17 : decode cX9_copies 17 = .ok (.iload 4, 2) := dk_21 4 (dk_at dksX9_copies_0 17 rfl rfl)
theorem dX9_copies_19 : decode cX9_copies 19 = .ok (.iadd, 1) := dk_96 (dk_at dksX9_copies_0 19 rfl rfl)
theorem dX9_copies_20 : decode cX9_copies 20 = .ok (.iaload, 1) := dk_46 (dk_at dksX9_copies_0 20 rfl rfl)
theorem dX9_copies_21 : decode cX9_copies 21 = .ok (.iastore, 1) := dk_79 (dk_at dksX9_copies_0 21 rfl rfl)
theorem dX9_copies_22 : decode cX9_copies 22 = .ok (.iinc 4 1, 3) := dk_132 4 1 (dk_at dksX9_copies_1 0 rfl rfl)
theorem dX9_copies_25 : decode cX9_copies 25 = .ok (.goto (-22), 3) := dk_167 255 234 (dk_at dksX9_copies_1 3 rfl rfl)
theorem dX9_copies_28 : decode cX9_copies 28 = .ok (.return_, 1) := dk_177 (dk_at dksX9_copies_1 6 rfl rfl)
abbrev cX9_calls : ByteArray := prog_35_method_69_code
def yX9_calls : MethodName := ⟨RX9, "calls", "(III)I"⟩
def dkwX9_calls_3 : List UInt8 := [46, 182, 2, 7, 96, 79, 21, 4, 172]
abbrev dktX9_calls_3 : List UInt8 := dkwX9_calls_3 ++ []
def dkwX9_calls_2 : List UInt8 := [180, 0, 168, 4, 42, 180, 1, 252, 79, 42, 180, 0, 168, 7, 92, 46, 42, 21, 4, 42, 180, 0, 168, 5]
abbrev dktX9_calls_2 : List UInt8 := dkwX9_calls_2 ++ dktX9_calls_3
def dkwX9_calls_1 : List UInt8 := [42, 180, 1, 240, 182, 2, 3, 54, 4, 42, 180, 0, 168, 3, 92, 46, 21, 4, 2, 130, 126, 79, 42]
abbrev dktX9_calls_1 : List UInt8 := dkwX9_calls_1 ++ dktX9_calls_2
def dkwX9_calls_0 : List UInt8 := [42, 27, 28, 29, 182, 1, 255, 42, 42, 180, 0, 168, 3, 46, 42, 180, 0, 168, 4, 46, 42, 180, 1, 237]
abbrev dktX9_calls_0 : List UInt8 := dkwX9_calls_0 ++ dktX9_calls_1
theorem dksX9_calls_0 : cX9_calls.data.toList.drop 0 = dktX9_calls_0 := by decide +kernel
theorem dksX9_calls_1 : cX9_calls.data.toList.drop 24 = dktX9_calls_1 := dk_seg dksX9_calls_0 24 rfl rfl
theorem dksX9_calls_2 : cX9_calls.data.toList.drop 47 = dktX9_calls_2 := dk_seg dksX9_calls_1 23 rfl rfl
theorem dksX9_calls_3 : cX9_calls.data.toList.drop 71 = dktX9_calls_3 := dk_seg dksX9_calls_2 24 rfl rfl
theorem dX9_calls_0 : decode cX9_calls 0 = .ok (.aload_n 0, 1) := dk_42 (dk_at dksX9_calls_0 0 rfl rfl)
theorem dX9_calls_1 : decode cX9_calls 1 = .ok (.iload_n 1, 1) := dk_27 (dk_at dksX9_calls_0 1 rfl rfl)
theorem dX9_calls_2 : decode cX9_calls 2 = .ok (.iload_n 2, 1) := dk_28 (dk_at dksX9_calls_0 2 rfl rfl)
theorem dX9_calls_3 : decode cX9_calls 3 = .ok (.iload_n 3, 1) := dk_29 (dk_at dksX9_calls_0 3 rfl rfl)
theorem dX9_calls_4 : decode cX9_calls 4 = .ok (.invokevirtual 511, 3) := dk_182 1 255 (dk_at dksX9_calls_0 4 rfl rfl)
theorem dX9_calls_7 : decode cX9_calls 7 = .ok (.aload_n 0, 1) := dk_42 (dk_at dksX9_calls_0 7 rfl rfl)
theorem dX9_calls_8 : decode cX9_calls 8 = .ok (.aload_n 0, 1) := dk_42 (dk_at dksX9_calls_0 8 rfl rfl)
theorem dX9_calls_9 : decode cX9_calls 9 = .ok (.getfield 168, 3) := dk_180 0 168 (dk_at dksX9_calls_0 9 rfl rfl)
theorem dX9_calls_12 : decode cX9_calls 12 = .ok (.iconst 0, 1) := dk_3 (dk_at dksX9_calls_0 12 rfl rfl)
theorem dX9_calls_13 : decode cX9_calls 13 = .ok (.iaload, 1) := dk_46 (dk_at dksX9_calls_0 13 rfl rfl)
theorem dX9_calls_14 : decode cX9_calls 14 = .ok (.aload_n 0, 1) := dk_42 (dk_at dksX9_calls_0 14 rfl rfl)
theorem dX9_calls_15 : decode cX9_calls 15 = .ok (.getfield 168, 3) := dk_180 0 168 (dk_at dksX9_calls_0 15 rfl rfl)
theorem dX9_calls_18 : decode cX9_calls 18 = .ok (.iconst 1, 1) := dk_4 (dk_at dksX9_calls_0 18 rfl rfl)
theorem dX9_calls_19 : decode cX9_calls 19 = .ok (.iaload, 1) := dk_46 (dk_at dksX9_calls_0 19 rfl rfl)
theorem dX9_calls_20 : decode cX9_calls 20 = .ok (.aload_n 0, 1) := dk_42 (dk_at dksX9_calls_0 20 rfl rfl)
theorem dX9_calls_21 : decode cX9_calls 21 = .ok (.getfield 493, 3) := dk_180 1 237 (dk_at dksX9_calls_0 21 rfl rfl)
theorem dX9_calls_24 : decode cX9_calls 24 = .ok (.aload_n 0, 1) := dk_42 (dk_at dksX9_calls_1 0 rfl rfl)
theorem dX9_calls_25 : decode cX9_calls 25 = .ok (.getfield 496, 3) := dk_180 1 240 (dk_at dksX9_calls_1 1 rfl rfl)
theorem dX9_calls_28 : decode cX9_calls 28 = .ok (.invokevirtual 515, 3) := dk_182 2 3 (dk_at dksX9_calls_1 4 rfl rfl)
theorem dX9_calls_31 : decode cX9_calls 31 = .ok (.istore 4, 2) := dk_54 4 (dk_at dksX9_calls_1 7 rfl rfl)
theorem dX9_calls_33 : decode cX9_calls 33 = .ok (.aload_n 0, 1) := dk_42 (dk_at dksX9_calls_1 9 rfl rfl)
theorem dX9_calls_34 : decode cX9_calls 34 = .ok (.getfield 168, 3) := dk_180 0 168 (dk_at dksX9_calls_1 10 rfl rfl)
theorem dX9_calls_37 : decode cX9_calls 37 = .ok (.iconst 0, 1) := dk_3 (dk_at dksX9_calls_1 13 rfl rfl)
theorem dX9_calls_38 : decode cX9_calls 38 = .ok (.dup2, 1) := dk_92 (dk_at dksX9_calls_1 14 rfl rfl)
theorem dX9_calls_39 : decode cX9_calls 39 = .ok (.iaload, 1) := dk_46 (dk_at dksX9_calls_1 15 rfl rfl)
theorem dX9_calls_40 : decode cX9_calls 40 = .ok (.iload 4, 2) := dk_21 4 (dk_at dksX9_calls_1 16 rfl rfl)
theorem dX9_calls_42 : decode cX9_calls 42 = .ok (.iconst (-1), 1) := dk_2 (dk_at dksX9_calls_1 18 rfl rfl)
theorem dX9_calls_43 : decode cX9_calls 43 = .ok (.ixor, 1) := dk_130 (dk_at dksX9_calls_1 19 rfl rfl)
theorem dX9_calls_44 : decode cX9_calls 44 = .ok (.iand, 1) := dk_126 (dk_at dksX9_calls_1 20 rfl rfl)
theorem dX9_calls_45 : decode cX9_calls 45 = .ok (.iastore, 1) := dk_79 (dk_at dksX9_calls_1 21 rfl rfl)
theorem dX9_calls_46 : decode cX9_calls 46 = .ok (.aload_n 0, 1) := dk_42 (dk_at dksX9_calls_1 22 rfl rfl)
theorem dX9_calls_47 : decode cX9_calls 47 = .ok (.getfield 168, 3) := dk_180 0 168 (dk_at dksX9_calls_2 0 rfl rfl)
theorem dX9_calls_50 : decode cX9_calls 50 = .ok (.iconst 1, 1) := dk_4 (dk_at dksX9_calls_2 3 rfl rfl)
theorem dX9_calls_51 : decode cX9_calls 51 = .ok (.aload_n 0, 1) := dk_42 (dk_at dksX9_calls_2 4 rfl rfl)
theorem dX9_calls_52 : decode cX9_calls 52 = .ok (.getfield 508, 3) := dk_180 1 252 (dk_at dksX9_calls_2 5 rfl rfl)
theorem dX9_calls_55 : decode cX9_calls 55 = .ok (.iastore, 1) := dk_79 (dk_at dksX9_calls_2 8 rfl rfl)
theorem dX9_calls_56 : decode cX9_calls 56 = .ok (.aload_n 0, 1) := dk_42 (dk_at dksX9_calls_2 9 rfl rfl)
theorem dX9_calls_57 : decode cX9_calls 57 = .ok (.getfield 168, 3) := dk_180 0 168 (dk_at dksX9_calls_2 10 rfl rfl)
theorem dX9_calls_60 : decode cX9_calls 60 = .ok (.iconst 4, 1) := dk_7 (dk_at dksX9_calls_2 13 rfl rfl)
theorem dX9_calls_61 : decode cX9_calls 61 = .ok (.dup2, 1) := dk_92 (dk_at dksX9_calls_2 14 rfl rfl)
theorem dX9_calls_62 : decode cX9_calls 62 = .ok (.iaload, 1) := dk_46 (dk_at dksX9_calls_2 15 rfl rfl)
theorem dX9_calls_63 : decode cX9_calls 63 = .ok (.aload_n 0, 1) := dk_42 (dk_at dksX9_calls_2 16 rfl rfl)
theorem dX9_calls_64 : decode cX9_calls 64 = .ok (.iload 4, 2) := dk_21 4 (dk_at dksX9_calls_2 17 rfl rfl)
theorem dX9_calls_66 : decode cX9_calls 66 = .ok (.aload_n 0, 1) := dk_42 (dk_at dksX9_calls_2 19 rfl rfl)
theorem dX9_calls_67 : decode cX9_calls 67 = .ok (.getfield 168, 3) := dk_180 0 168 (dk_at dksX9_calls_2 20 rfl rfl)
theorem dX9_calls_70 : decode cX9_calls 70 = .ok (.iconst 2, 1) := dk_5 (dk_at dksX9_calls_2 23 rfl rfl)
theorem dX9_calls_71 : decode cX9_calls 71 = .ok (.iaload, 1) := dk_46 (dk_at dksX9_calls_3 0 rfl rfl)
theorem dX9_calls_72 : decode cX9_calls 72 = .ok (.invokevirtual 519, 3) := dk_182 2 7 (dk_at dksX9_calls_3 1 rfl rfl)
theorem dX9_calls_75 : decode cX9_calls 75 = .ok (.iadd, 1) := dk_96 (dk_at dksX9_calls_3 4 rfl rfl)
theorem dX9_calls_76 : decode cX9_calls 76 = .ok (.iastore, 1) := dk_79 (dk_at dksX9_calls_3 5 rfl rfl)
theorem dX9_calls_77 : decode cX9_calls 77 = .ok (.iload 4, 2) := dk_21 4 (dk_at dksX9_calls_3 6 rfl rfl)
theorem dX9_calls_79 : decode cX9_calls 79 = .ok (.ireturn, 1) := dk_172 (dk_at dksX9_calls_3 8 rfl rfl)
abbrev cX9_worthOf : ByteArray := prog_35_method_68_code
def yX9_worthOf : MethodName := ⟨RX9, "worthOf", "(II)I"⟩
def dkwX9_worthOf_1 : List UInt8 := [160, 0, 13, 42, 21, 4, 28, 182, 1, 225, 167, 0, 4, 3, 96, 62, 132, 4, 1, 167, 255, 218, 29, 172]
abbrev dktX9_worthOf_1 : List UInt8 := dkwX9_worthOf_1 ++ []
def dkwX9_worthOf_0 : List UInt8 := [3, 62, 3, 54, 4, 21, 4, 42, 180, 0, 13, 3, 46, 162, 0, 33, 29, 27, 21, 4, 122, 4, 126, 4]
abbrev dktX9_worthOf_0 : List UInt8 := dkwX9_worthOf_0 ++ dktX9_worthOf_1
theorem dksX9_worthOf_0 : cX9_worthOf.data.toList.drop 0 = dktX9_worthOf_0 := by decide +kernel
theorem dksX9_worthOf_1 : cX9_worthOf.data.toList.drop 24 = dktX9_worthOf_1 := dk_seg dksX9_worthOf_0 24 rfl rfl
theorem dX9_worthOf_0 : decode cX9_worthOf 0 = .ok (.iconst 0, 1) := dk_3 (dk_at dksX9_worthOf_0 0 rfl rfl)
theorem dX9_worthOf_1 : decode cX9_worthOf 1 = .ok (.istore_n 3, 1) := dk_62 (dk_at dksX9_worthOf_0 1 rfl rfl)
theorem dX9_worthOf_2 : decode cX9_worthOf 2 = .ok (.iconst 0, 1) := dk_3 (dk_at dksX9_worthOf_0 2 rfl rfl)
theorem dX9_worthOf_3 : decode cX9_worthOf 3 = .ok (.istore 4, 2) := dk_54 4 (dk_at dksX9_worthOf_0 3 rfl rfl)
theorem dX9_worthOf_5 : decode cX9_worthOf 5 = .ok (.iload 4, 2) := dk_21 4 (dk_at dksX9_worthOf_0 5 rfl rfl)
theorem dX9_worthOf_7 : decode cX9_worthOf 7 = .ok (.aload_n 0, 1) := dk_42 (dk_at dksX9_worthOf_0 7 rfl rfl)
theorem dX9_worthOf_8 : decode cX9_worthOf 8 = .ok (.getfield 13, 3) := dk_180 0 13 (dk_at dksX9_worthOf_0 8 rfl rfl)
theorem dX9_worthOf_11 : decode cX9_worthOf 11 = .ok (.iconst 0, 1) := dk_3 (dk_at dksX9_worthOf_0 11 rfl rfl)
theorem dX9_worthOf_12 : decode cX9_worthOf 12 = .ok (.iaload, 1) := dk_46 (dk_at dksX9_worthOf_0 12 rfl rfl)
theorem dX9_worthOf_13 : decode cX9_worthOf 13 = .ok (.if_icmp .ge 33, 3) := dk_162 0 33 (dk_at dksX9_worthOf_0 13 rfl rfl)
theorem dX9_worthOf_16 : decode cX9_worthOf 16 = .ok (.iload_n 3, 1) := dk_29 (dk_at dksX9_worthOf_0 16 rfl rfl)
theorem dX9_worthOf_17 : decode cX9_worthOf 17 = .ok (.iload_n 1, 1) := dk_27 (dk_at dksX9_worthOf_0 17 rfl rfl)
theorem dX9_worthOf_18 : decode cX9_worthOf 18 = .ok (.iload 4, 2) := dk_21 4 (dk_at dksX9_worthOf_0 18 rfl rfl)
theorem dX9_worthOf_20 : decode cX9_worthOf 20 = .ok (.ishr, 1) := dk_122 (dk_at dksX9_worthOf_0 20 rfl rfl)
theorem dX9_worthOf_21 : decode cX9_worthOf 21 = .ok (.iconst 1, 1) := dk_4 (dk_at dksX9_worthOf_0 21 rfl rfl)
theorem dX9_worthOf_22 : decode cX9_worthOf 22 = .ok (.iand, 1) := dk_126 (dk_at dksX9_worthOf_0 22 rfl rfl)
theorem dX9_worthOf_23 : decode cX9_worthOf 23 = .ok (.iconst 1, 1) := dk_4 (dk_at dksX9_worthOf_0 23 rfl rfl)
theorem dX9_worthOf_24 : decode cX9_worthOf 24 = .ok (.if_icmp .ne 13, 3) := dk_160 0 13 (dk_at dksX9_worthOf_1 0 rfl rfl)
theorem dX9_worthOf_27 : decode cX9_worthOf 27 = .ok (.aload_n 0, 1) := dk_42 (dk_at dksX9_worthOf_1 3 rfl rfl)
theorem dX9_worthOf_28 : decode cX9_worthOf 28 = .ok (.iload 4, 2) := dk_21 4 (dk_at dksX9_worthOf_1 4 rfl rfl)
theorem dX9_worthOf_30 : decode cX9_worthOf 30 = .ok (.iload_n 2, 1) := dk_28 (dk_at dksX9_worthOf_1 6 rfl rfl)
theorem dX9_worthOf_31 : decode cX9_worthOf 31 = .ok (.invokevirtual 481, 3) := dk_182 1 225 (dk_at dksX9_worthOf_1 7 rfl rfl)
theorem dX9_worthOf_34 : decode cX9_worthOf 34 = .ok (.goto 4, 3) := dk_167 0 4 (dk_at dksX9_worthOf_1 10 rfl rfl)
theorem dX9_worthOf_37 : decode cX9_worthOf 37 = .ok (.iconst 0, 1) := dk_3 (dk_at dksX9_worthOf_1 13 rfl rfl)
theorem dX9_worthOf_38 : decode cX9_worthOf 38 = .ok (.iadd, 1) := dk_96 (dk_at dksX9_worthOf_1 14 rfl rfl)
theorem dX9_worthOf_39 : decode cX9_worthOf 39 = .ok (.istore_n 3, 1) := dk_62 (dk_at dksX9_worthOf_1 15 rfl rfl)
theorem dX9_worthOf_40 : decode cX9_worthOf 40 = .ok (.iinc 4 1, 3) := dk_132 4 1 (dk_at dksX9_worthOf_1 16 rfl rfl)
theorem dX9_worthOf_43 : decode cX9_worthOf 43 = .ok (.goto (-38), 3) := dk_167 255 218 (dk_at dksX9_worthOf_1 19 rfl rfl)
theorem dX9_worthOf_46 : decode cX9_worthOf 46 = .ok (.iload_n 3, 1) := dk_29 (dk_at dksX9_worthOf_1 22 rfl rfl)
theorem dX9_worthOf_47 : decode cX9_worthOf 47 = .ok (.ireturn, 1) := dk_172 (dk_at dksX9_worthOf_1 23 rfl rfl)
abbrev cX9_pick : ByteArray := prog_35_method_75_code
def yX9_pick : MethodName := ⟨RX9, "pick", "(I)I"⟩
def dkwX9_pick_1 : List UInt8 := [182, 2, 14, 42, 27, 182, 2, 26, 172]
abbrev dktX9_pick_1 : List UInt8 := dkwX9_pick_1 ++ []
def dkwX9_pick_0 : List UInt8 := [42, 3, 181, 0, 212, 42, 27, 182, 1, 222, 153, 0, 11, 42, 27, 182, 2, 23, 154, 0, 5, 2, 172, 42]
abbrev dktX9_pick_0 : List UInt8 := dkwX9_pick_0 ++ dktX9_pick_1
theorem dksX9_pick_0 : cX9_pick.data.toList.drop 0 = dktX9_pick_0 := by decide +kernel
theorem dksX9_pick_1 : cX9_pick.data.toList.drop 24 = dktX9_pick_1 := dk_seg dksX9_pick_0 24 rfl rfl
theorem dX9_pick_0 : decode cX9_pick 0 = .ok (.aload_n 0, 1) := dk_42 (dk_at dksX9_pick_0 0 rfl rfl)
theorem dX9_pick_1 : decode cX9_pick 1 = .ok (.iconst 0, 1) := dk_3 (dk_at dksX9_pick_0 1 rfl rfl)
theorem dX9_pick_2 : decode cX9_pick 2 = .ok (.putfield 212, 3) := dk_181 0 212 (dk_at dksX9_pick_0 2 rfl rfl)
theorem dX9_pick_5 : decode cX9_pick 5 = .ok (.aload_n 0, 1) := dk_42 (dk_at dksX9_pick_0 5 rfl rfl)
theorem dX9_pick_6 : decode cX9_pick 6 = .ok (.iload_n 1, 1) := dk_27 (dk_at dksX9_pick_0 6 rfl rfl)
theorem dX9_pick_7 : decode cX9_pick 7 = .ok (.invokevirtual 478, 3) := dk_182 1 222 (dk_at dksX9_pick_0 7 rfl rfl)
theorem dX9_pick_10 : decode cX9_pick 10 = .ok (.ifCond .eq 11, 3) := dk_153 0 11 (dk_at dksX9_pick_0 10 rfl rfl)
theorem dX9_pick_13 : decode cX9_pick 13 = .ok (.aload_n 0, 1) := dk_42 (dk_at dksX9_pick_0 13 rfl rfl)
theorem dX9_pick_14 : decode cX9_pick 14 = .ok (.iload_n 1, 1) := dk_27 (dk_at dksX9_pick_0 14 rfl rfl)
theorem dX9_pick_15 : decode cX9_pick 15 = .ok (.invokevirtual 535, 3) := dk_182 2 23 (dk_at dksX9_pick_0 15 rfl rfl)
theorem dX9_pick_18 : decode cX9_pick 18 = .ok (.ifCond .ne 5, 3) := dk_154 0 5 (dk_at dksX9_pick_0 18 rfl rfl)
theorem dX9_pick_21 : decode cX9_pick 21 = .ok (.iconst (-1), 1) := dk_2 (dk_at dksX9_pick_0 21 rfl rfl)
theorem dX9_pick_22 : decode cX9_pick 22 = .ok (.ireturn, 1) := dk_172 (dk_at dksX9_pick_0 22 rfl rfl)
theorem dX9_pick_23 : decode cX9_pick 23 = .ok (.aload_n 0, 1) := dk_42 (dk_at dksX9_pick_0 23 rfl rfl)
theorem dX9_pick_24 : decode cX9_pick 24 = .ok (.invokevirtual 526, 3) := dk_182 2 14 (dk_at dksX9_pick_1 0 rfl rfl)
theorem dX9_pick_27 : decode cX9_pick 27 = .ok (.aload_n 0, 1) := dk_42 (dk_at dksX9_pick_1 3 rfl rfl)
theorem dX9_pick_28 : decode cX9_pick 28 = .ok (.iload_n 1, 1) := dk_27 (dk_at dksX9_pick_1 4 rfl rfl)
theorem dX9_pick_29 : decode cX9_pick 29 = .ok (.invokevirtual 538, 3) := dk_182 2 26 (dk_at dksX9_pick_1 5 rfl rfl)
theorem dX9_pick_32 : decode cX9_pick 32 = .ok (.ireturn, 1) := dk_172 (dk_at dksX9_pick_1 8 rfl rfl)
abbrev cX9_canPick : ByteArray := prog_35_method_73_code
def yX9_canPick : MethodName := ⟨RX9, "canPick", "(I)Z"⟩
def dkwX9_canPick_0 : List UInt8 := [42, 27, 182, 2, 20, 153, 0, 16, 42, 180, 0, 168, 6, 46, 154, 0, 7, 4, 167, 0, 4, 3, 172]
abbrev dktX9_canPick_0 : List UInt8 := dkwX9_canPick_0 ++ []
theorem dksX9_canPick_0 : cX9_canPick.data.toList.drop 0 = dktX9_canPick_0 := by decide +kernel
theorem dX9_canPick_0 : decode cX9_canPick 0 = .ok (.aload_n 0, 1) := dk_42 (dk_at dksX9_canPick_0 0 rfl rfl)
theorem dX9_canPick_1 : decode cX9_canPick 1 = .ok (.iload_n 1, 1) := dk_27 (dk_at dksX9_canPick_0 1 rfl rfl)
theorem dX9_canPick_2 : decode cX9_canPick 2 = .ok (.invokevirtual 532, 3) := dk_182 2 20 (dk_at dksX9_canPick_0 2 rfl rfl)
theorem dX9_canPick_5 : decode cX9_canPick 5 = .ok (.ifCond .eq 16, 3) := dk_153 0 16 (dk_at dksX9_canPick_0 5 rfl rfl)
theorem dX9_canPick_8 : decode cX9_canPick 8 = .ok (.aload_n 0, 1) := dk_42 (dk_at dksX9_canPick_0 8 rfl rfl)
theorem dX9_canPick_9 : decode cX9_canPick 9 = .ok (.getfield 168, 3) := dk_180 0 168 (dk_at dksX9_canPick_0 9 rfl rfl)
theorem dX9_canPick_12 : decode cX9_canPick 12 = .ok (.iconst 3, 1) := dk_6 (dk_at dksX9_canPick_0 12 rfl rfl)
theorem dX9_canPick_13 : decode cX9_canPick 13 = .ok (.iaload, 1) := dk_46 (dk_at dksX9_canPick_0 13 rfl rfl)
theorem dX9_canPick_14 : decode cX9_canPick 14 = .ok (.ifCond .ne 7, 3) := dk_154 0 7 (dk_at dksX9_canPick_0 14 rfl rfl)
theorem dX9_canPick_17 : decode cX9_canPick 17 = .ok (.iconst 1, 1) := dk_4 (dk_at dksX9_canPick_0 17 rfl rfl)
theorem dX9_canPick_18 : decode cX9_canPick 18 = .ok (.goto 4, 3) := dk_167 0 4 (dk_at dksX9_canPick_0 18 rfl rfl)
theorem dX9_canPick_21 : decode cX9_canPick 21 = .ok (.iconst 0, 1) := dk_3 (dk_at dksX9_canPick_0 21 rfl rfl)
theorem dX9_canPick_22 : decode cX9_canPick 22 = .ok (.ireturn, 1) := dk_172 (dk_at dksX9_canPick_0 22 rfl rfl)
abbrev cX9_hangs : ByteArray := prog_35_method_59_code
def yX9_hangs : MethodName := ⟨RX9, "hangs", "(I)Z"⟩
def dkwX9_hangs_0 : List UInt8 := [42, 180, 0, 168, 3, 46, 27, 122, 4, 126, 4, 160, 0, 7, 4, 167, 0, 4, 3, 172]
abbrev dktX9_hangs_0 : List UInt8 := dkwX9_hangs_0 ++ []
theorem dksX9_hangs_0 : cX9_hangs.data.toList.drop 0 = dktX9_hangs_0 := by decide +kernel
theorem dX9_hangs_0 : decode cX9_hangs 0 = .ok (.aload_n 0, 1) := dk_42 (dk_at dksX9_hangs_0 0 rfl rfl)
theorem dX9_hangs_1 : decode cX9_hangs 1 = .ok (.getfield 168, 3) := dk_180 0 168 (dk_at dksX9_hangs_0 1 rfl rfl)
theorem dX9_hangs_4 : decode cX9_hangs 4 = .ok (.iconst 0, 1) := dk_3 (dk_at dksX9_hangs_0 4 rfl rfl)
theorem dX9_hangs_5 : decode cX9_hangs 5 = .ok (.iaload, 1) := dk_46 (dk_at dksX9_hangs_0 5 rfl rfl)
theorem dX9_hangs_6 : decode cX9_hangs 6 = .ok (.iload_n 1, 1) := dk_27 (dk_at dksX9_hangs_0 6 rfl rfl)
theorem dX9_hangs_7 : decode cX9_hangs 7 = .ok (.ishr, 1) := dk_122 (dk_at dksX9_hangs_0 7 rfl rfl)
theorem dX9_hangs_8 : decode cX9_hangs 8 = .ok (.iconst 1, 1) := dk_4 (dk_at dksX9_hangs_0 8 rfl rfl)
theorem dX9_hangs_9 : decode cX9_hangs 9 = .ok (.iand, 1) := dk_126 (dk_at dksX9_hangs_0 9 rfl rfl)
theorem dX9_hangs_10 : decode cX9_hangs 10 = .ok (.iconst 1, 1) := dk_4 (dk_at dksX9_hangs_0 10 rfl rfl)
theorem dX9_hangs_11 : decode cX9_hangs 11 = .ok (.if_icmp .ne 7, 3) := dk_160 0 7 (dk_at dksX9_hangs_0 11 rfl rfl)
theorem dX9_hangs_14 : decode cX9_hangs 14 = .ok (.iconst 1, 1) := dk_4 (dk_at dksX9_hangs_0 14 rfl rfl)
theorem dX9_hangs_15 : decode cX9_hangs 15 = .ok (.goto 4, 3) := dk_167 0 4 (dk_at dksX9_hangs_0 15 rfl rfl)
theorem dX9_hangs_18 : decode cX9_hangs 18 = .ok (.iconst 0, 1) := dk_3 (dk_at dksX9_hangs_0 18 rfl rfl)
theorem dX9_hangs_19 : decode cX9_hangs 19 = .ok (.ireturn, 1) := dk_172 (dk_at dksX9_hangs_0 19 rfl rfl)
abbrev cX9_picks : ByteArray := prog_35_method_74_code
def yX9_picks : MethodName := ⟨RX9, "picks", "(I)I"⟩
def dkwX9_picks_2 : List UInt8 := [180, 0, 168, 7, 92, 46, 28, 96, 79, 28, 172]
abbrev dktX9_picks_2 : List UInt8 := dkwX9_picks_2 ++ []
def dkwX9_picks_1 : List UInt8 := [126, 79, 42, 180, 0, 168, 4, 92, 46, 4, 27, 120, 2, 130, 126, 79, 42, 180, 0, 168, 6, 4, 79, 42]
abbrev dktX9_picks_1 : List UInt8 := dkwX9_picks_1 ++ dktX9_picks_2
def dkwX9_picks_0 : List UInt8 := [42, 27, 42, 180, 0, 168, 5, 46, 182, 1, 225, 61, 42, 180, 0, 168, 3, 92, 46, 4, 27, 120, 2, 130]
abbrev dktX9_picks_0 : List UInt8 := dkwX9_picks_0 ++ dktX9_picks_1
theorem dksX9_picks_0 : cX9_picks.data.toList.drop 0 = dktX9_picks_0 := by decide +kernel
theorem dksX9_picks_1 : cX9_picks.data.toList.drop 24 = dktX9_picks_1 := dk_seg dksX9_picks_0 24 rfl rfl
theorem dksX9_picks_2 : cX9_picks.data.toList.drop 48 = dktX9_picks_2 := dk_seg dksX9_picks_1 24 rfl rfl
theorem dX9_picks_0 : decode cX9_picks 0 = .ok (.aload_n 0, 1) := dk_42 (dk_at dksX9_picks_0 0 rfl rfl)
theorem dX9_picks_1 : decode cX9_picks 1 = .ok (.iload_n 1, 1) := dk_27 (dk_at dksX9_picks_0 1 rfl rfl)
theorem dX9_picks_2 : decode cX9_picks 2 = .ok (.aload_n 0, 1) := dk_42 (dk_at dksX9_picks_0 2 rfl rfl)
theorem dX9_picks_3 : decode cX9_picks 3 = .ok (.getfield 168, 3) := dk_180 0 168 (dk_at dksX9_picks_0 3 rfl rfl)
theorem dX9_picks_6 : decode cX9_picks 6 = .ok (.iconst 2, 1) := dk_5 (dk_at dksX9_picks_0 6 rfl rfl)
theorem dX9_picks_7 : decode cX9_picks 7 = .ok (.iaload, 1) := dk_46 (dk_at dksX9_picks_0 7 rfl rfl)
theorem dX9_picks_8 : decode cX9_picks 8 = .ok (.invokevirtual 481, 3) := dk_182 1 225 (dk_at dksX9_picks_0 8 rfl rfl)
theorem dX9_picks_11 : decode cX9_picks 11 = .ok (.istore_n 2, 1) := dk_61 (dk_at dksX9_picks_0 11 rfl rfl)
theorem dX9_picks_12 : decode cX9_picks 12 = .ok (.aload_n 0, 1) := dk_42 (dk_at dksX9_picks_0 12 rfl rfl)
theorem dX9_picks_13 : decode cX9_picks 13 = .ok (.getfield 168, 3) := dk_180 0 168 (dk_at dksX9_picks_0 13 rfl rfl)
theorem dX9_picks_16 : decode cX9_picks 16 = .ok (.iconst 0, 1) := dk_3 (dk_at dksX9_picks_0 16 rfl rfl)
theorem dX9_picks_17 : decode cX9_picks 17 = .ok (.dup2, 1) := dk_92 (dk_at dksX9_picks_0 17 rfl rfl)
theorem dX9_picks_18 : decode cX9_picks 18 = .ok (.iaload, 1) := dk_46 (dk_at dksX9_picks_0 18 rfl rfl)
theorem dX9_picks_19 : decode cX9_picks 19 = .ok (.iconst 1, 1) := dk_4 (dk_at dksX9_picks_0 19 rfl rfl)
theorem dX9_picks_20 : decode cX9_picks 20 = .ok (.iload_n 1, 1) := dk_27 (dk_at dksX9_picks_0 20 rfl rfl)
theorem dX9_picks_21 : decode cX9_picks 21 = .ok (.ishl, 1) := dk_120 (dk_at dksX9_picks_0 21 rfl rfl)
theorem dX9_picks_22 : decode cX9_picks 22 = .ok (.iconst (-1), 1) := dk_2 (dk_at dksX9_picks_0 22 rfl rfl)
theorem dX9_picks_23 : decode cX9_picks 23 = .ok (.ixor, 1) := dk_130 (dk_at dksX9_picks_0 23 rfl rfl)
theorem dX9_picks_24 : decode cX9_picks 24 = .ok (.iand, 1) := dk_126 (dk_at dksX9_picks_1 0 rfl rfl)
theorem dX9_picks_25 : decode cX9_picks 25 = .ok (.iastore, 1) := dk_79 (dk_at dksX9_picks_1 1 rfl rfl)
theorem dX9_picks_26 : decode cX9_picks 26 = .ok (.aload_n 0, 1) := dk_42 (dk_at dksX9_picks_1 2 rfl rfl)
theorem dX9_picks_27 : decode cX9_picks 27 = .ok (.getfield 168, 3) := dk_180 0 168 (dk_at dksX9_picks_1 3 rfl rfl)
theorem dX9_picks_30 : decode cX9_picks 30 = .ok (.iconst 1, 1) := dk_4 (dk_at dksX9_picks_1 6 rfl rfl)
theorem dX9_picks_31 : decode cX9_picks 31 = .ok (.dup2, 1) := dk_92 (dk_at dksX9_picks_1 7 rfl rfl)
theorem dX9_picks_32 : decode cX9_picks 32 = .ok (.iaload, 1) := dk_46 (dk_at dksX9_picks_1 8 rfl rfl)
theorem dX9_picks_33 : decode cX9_picks 33 = .ok (.iconst 1, 1) := dk_4 (dk_at dksX9_picks_1 9 rfl rfl)
theorem dX9_picks_34 : decode cX9_picks 34 = .ok (.iload_n 1, 1) := dk_27 (dk_at dksX9_picks_1 10 rfl rfl)
theorem dX9_picks_35 : decode cX9_picks 35 = .ok (.ishl, 1) := dk_120 (dk_at dksX9_picks_1 11 rfl rfl)
theorem dX9_picks_36 : decode cX9_picks 36 = .ok (.iconst (-1), 1) := dk_2 (dk_at dksX9_picks_1 12 rfl rfl)
theorem dX9_picks_37 : decode cX9_picks 37 = .ok (.ixor, 1) := dk_130 (dk_at dksX9_picks_1 13 rfl rfl)
theorem dX9_picks_38 : decode cX9_picks 38 = .ok (.iand, 1) := dk_126 (dk_at dksX9_picks_1 14 rfl rfl)
theorem dX9_picks_39 : decode cX9_picks 39 = .ok (.iastore, 1) := dk_79 (dk_at dksX9_picks_1 15 rfl rfl)
theorem dX9_picks_40 : decode cX9_picks 40 = .ok (.aload_n 0, 1) := dk_42 (dk_at dksX9_picks_1 16 rfl rfl)
theorem dX9_picks_41 : decode cX9_picks 41 = .ok (.getfield 168, 3) := dk_180 0 168 (dk_at dksX9_picks_1 17 rfl rfl)
theorem dX9_picks_44 : decode cX9_picks 44 = .ok (.iconst 3, 1) := dk_6 (dk_at dksX9_picks_1 20 rfl rfl)
theorem dX9_picks_45 : decode cX9_picks 45 = .ok (.iconst 1, 1) := dk_4 (dk_at dksX9_picks_1 21 rfl rfl)
theorem dX9_picks_46 : decode cX9_picks 46 = .ok (.iastore, 1) := dk_79 (dk_at dksX9_picks_1 22 rfl rfl)
theorem dX9_picks_47 : decode cX9_picks 47 = .ok (.aload_n 0, 1) := dk_42 (dk_at dksX9_picks_1 23 rfl rfl)
theorem dX9_picks_48 : decode cX9_picks 48 = .ok (.getfield 168, 3) := dk_180 0 168 (dk_at dksX9_picks_2 0 rfl rfl)
theorem dX9_picks_51 : decode cX9_picks 51 = .ok (.iconst 4, 1) := dk_7 (dk_at dksX9_picks_2 3 rfl rfl)
theorem dX9_picks_52 : decode cX9_picks 52 = .ok (.dup2, 1) := dk_92 (dk_at dksX9_picks_2 4 rfl rfl)
theorem dX9_picks_53 : decode cX9_picks 53 = .ok (.iaload, 1) := dk_46 (dk_at dksX9_picks_2 5 rfl rfl)
theorem dX9_picks_54 : decode cX9_picks 54 = .ok (.iload_n 2, 1) := dk_28 (dk_at dksX9_picks_2 6 rfl rfl)
theorem dX9_picks_55 : decode cX9_picks 55 = .ok (.iadd, 1) := dk_96 (dk_at dksX9_picks_2 7 rfl rfl)
theorem dX9_picks_56 : decode cX9_picks 56 = .ok (.iastore, 1) := dk_79 (dk_at dksX9_picks_2 8 rfl rfl)
theorem dX9_picks_57 : decode cX9_picks 57 = .ok (.iload_n 2, 1) := dk_28 (dk_at dksX9_picks_2 9 rfl rfl)
theorem dX9_picks_58 : decode cX9_picks 58 = .ok (.ireturn, 1) := dk_172 (dk_at dksX9_picks_2 10 rfl rfl)
abbrev cX9_christen : ByteArray := prog_35_method_77_code
def yX9_christen : MethodName := ⟨RX9, "christen", "(II)Z"⟩
def dkwX9_christen_3 : List UInt8 := [182, 2, 14, 42, 180, 0, 168, 8, 27, 96, 28, 79, 4, 172]
abbrev dktX9_christen_3 : List UInt8 := dkwX9_christen_3 ++ []
def dkwX9_christen_2 : List UInt8 := [180, 0, 168, 8, 27, 96, 46, 28, 159, 0, 12, 42, 28, 27, 182, 2, 29, 154, 0, 5, 3, 172, 42]
abbrev dktX9_christen_2 : List UInt8 := dkwX9_christen_2 ++ dktX9_christen_3
def dkwX9_christen_1 : List UInt8 := [182, 2, 20, 153, 0, 39, 42, 180, 0, 168, 5, 46, 42, 180, 0, 35, 27, 46, 162, 0, 24, 42]
abbrev dktX9_christen_1 : List UInt8 := dkwX9_christen_1 ++ dktX9_christen_2
def dkwX9_christen_0 : List UInt8 := [42, 3, 181, 0, 212, 42, 27, 182, 1, 222, 153, 0, 55, 42, 28, 182, 1, 228, 153, 0, 47, 42, 27]
abbrev dktX9_christen_0 : List UInt8 := dkwX9_christen_0 ++ dktX9_christen_1
theorem dksX9_christen_0 : cX9_christen.data.toList.drop 0 = dktX9_christen_0 := by decide +kernel
theorem dksX9_christen_1 : cX9_christen.data.toList.drop 23 = dktX9_christen_1 := dk_seg dksX9_christen_0 23 rfl rfl
theorem dksX9_christen_2 : cX9_christen.data.toList.drop 45 = dktX9_christen_2 := dk_seg dksX9_christen_1 22 rfl rfl
theorem dksX9_christen_3 : cX9_christen.data.toList.drop 68 = dktX9_christen_3 := dk_seg dksX9_christen_2 23 rfl rfl
theorem dX9_christen_0 : decode cX9_christen 0 = .ok (.aload_n 0, 1) := dk_42 (dk_at dksX9_christen_0 0 rfl rfl)
theorem dX9_christen_1 : decode cX9_christen 1 = .ok (.iconst 0, 1) := dk_3 (dk_at dksX9_christen_0 1 rfl rfl)
theorem dX9_christen_2 : decode cX9_christen 2 = .ok (.putfield 212, 3) := dk_181 0 212 (dk_at dksX9_christen_0 2 rfl rfl)
theorem dX9_christen_5 : decode cX9_christen 5 = .ok (.aload_n 0, 1) := dk_42 (dk_at dksX9_christen_0 5 rfl rfl)
theorem dX9_christen_6 : decode cX9_christen 6 = .ok (.iload_n 1, 1) := dk_27 (dk_at dksX9_christen_0 6 rfl rfl)
theorem dX9_christen_7 : decode cX9_christen 7 = .ok (.invokevirtual 478, 3) := dk_182 1 222 (dk_at dksX9_christen_0 7 rfl rfl)
theorem dX9_christen_10 : decode cX9_christen 10 = .ok (.ifCond .eq 55, 3) := dk_153 0 55 (dk_at dksX9_christen_0 10 rfl rfl)
theorem dX9_christen_13 : decode cX9_christen 13 = .ok (.aload_n 0, 1) := dk_42 (dk_at dksX9_christen_0 13 rfl rfl)
theorem dX9_christen_14 : decode cX9_christen 14 = .ok (.iload_n 2, 1) := dk_28 (dk_at dksX9_christen_0 14 rfl rfl)
theorem dX9_christen_15 : decode cX9_christen 15 = .ok (.invokevirtual 484, 3) := dk_182 1 228 (dk_at dksX9_christen_0 15 rfl rfl)
theorem dX9_christen_18 : decode cX9_christen 18 = .ok (.ifCond .eq 47, 3) := dk_153 0 47 (dk_at dksX9_christen_0 18 rfl rfl)
theorem dX9_christen_21 : decode cX9_christen 21 = .ok (.aload_n 0, 1) := dk_42 (dk_at dksX9_christen_0 21 rfl rfl)
theorem dX9_christen_22 : decode cX9_christen 22 = .ok (.iload_n 1, 1) := dk_27 (dk_at dksX9_christen_0 22 rfl rfl)
theorem dX9_christen_23 : decode cX9_christen 23 = .ok (.invokevirtual 532, 3) := dk_182 2 20 (dk_at dksX9_christen_1 0 rfl rfl)
theorem dX9_christen_26 : decode cX9_christen 26 = .ok (.ifCond .eq 39, 3) := dk_153 0 39 (dk_at dksX9_christen_1 3 rfl rfl)
theorem dX9_christen_29 : decode cX9_christen 29 = .ok (.aload_n 0, 1) := dk_42 (dk_at dksX9_christen_1 6 rfl rfl)
theorem dX9_christen_30 : decode cX9_christen 30 = .ok (.getfield 168, 3) := dk_180 0 168 (dk_at dksX9_christen_1 7 rfl rfl)
theorem dX9_christen_33 : decode cX9_christen 33 = .ok (.iconst 2, 1) := dk_5 (dk_at dksX9_christen_1 10 rfl rfl)
theorem dX9_christen_34 : decode cX9_christen 34 = .ok (.iaload, 1) := dk_46 (dk_at dksX9_christen_1 11 rfl rfl)
theorem dX9_christen_35 : decode cX9_christen 35 = .ok (.aload_n 0, 1) := dk_42 (dk_at dksX9_christen_1 12 rfl rfl)
theorem dX9_christen_36 : decode cX9_christen 36 = .ok (.getfield 35, 3) := dk_180 0 35 (dk_at dksX9_christen_1 13 rfl rfl)
theorem dX9_christen_39 : decode cX9_christen 39 = .ok (.iload_n 1, 1) := dk_27 (dk_at dksX9_christen_1 16 rfl rfl)
theorem dX9_christen_40 : decode cX9_christen 40 = .ok (.iaload, 1) := dk_46 (dk_at dksX9_christen_1 17 rfl rfl)
theorem dX9_christen_41 : decode cX9_christen 41 = .ok (.if_icmp .ge 24, 3) := dk_162 0 24 (dk_at dksX9_christen_1 18 rfl rfl)
theorem dX9_christen_44 : decode cX9_christen 44 = .ok (.aload_n 0, 1) := dk_42 (dk_at dksX9_christen_1 21 rfl rfl)
theorem dX9_christen_45 : decode cX9_christen 45 = .ok (.getfield 168, 3) := dk_180 0 168 (dk_at dksX9_christen_2 0 rfl rfl)
theorem dX9_christen_48 : decode cX9_christen 48 = .ok (.iconst 5, 1) := dk_8 (dk_at dksX9_christen_2 3 rfl rfl)
theorem dX9_christen_49 : decode cX9_christen 49 = .ok (.iload_n 1, 1) := dk_27 (dk_at dksX9_christen_2 4 rfl rfl)
theorem dX9_christen_50 : decode cX9_christen 50 = .ok (.iadd, 1) := dk_96 (dk_at dksX9_christen_2 5 rfl rfl)
theorem dX9_christen_51 : decode cX9_christen 51 = .ok (.iaload, 1) := dk_46 (dk_at dksX9_christen_2 6 rfl rfl)
theorem dX9_christen_52 : decode cX9_christen 52 = .ok (.iload_n 2, 1) := dk_28 (dk_at dksX9_christen_2 7 rfl rfl)
theorem dX9_christen_53 : decode cX9_christen 53 = .ok (.if_icmp .eq 12, 3) := dk_159 0 12 (dk_at dksX9_christen_2 8 rfl rfl)
theorem dX9_christen_56 : decode cX9_christen 56 = .ok (.aload_n 0, 1) := dk_42 (dk_at dksX9_christen_2 11 rfl rfl)
theorem dX9_christen_57 : decode cX9_christen 57 = .ok (.iload_n 2, 1) := dk_28 (dk_at dksX9_christen_2 12 rfl rfl)
theorem dX9_christen_58 : decode cX9_christen 58 = .ok (.iload_n 1, 1) := dk_27 (dk_at dksX9_christen_2 13 rfl rfl)
theorem dX9_christen_59 : decode cX9_christen 59 = .ok (.invokevirtual 541, 3) := dk_182 2 29 (dk_at dksX9_christen_2 14 rfl rfl)
theorem dX9_christen_62 : decode cX9_christen 62 = .ok (.ifCond .ne 5, 3) := dk_154 0 5 (dk_at dksX9_christen_2 17 rfl rfl)
theorem dX9_christen_65 : decode cX9_christen 65 = .ok (.iconst 0, 1) := dk_3 (dk_at dksX9_christen_2 20 rfl rfl)
theorem dX9_christen_66 : decode cX9_christen 66 = .ok (.ireturn, 1) := dk_172 (dk_at dksX9_christen_2 21 rfl rfl)
theorem dX9_christen_67 : decode cX9_christen 67 = .ok (.aload_n 0, 1) := dk_42 (dk_at dksX9_christen_2 22 rfl rfl)
theorem dX9_christen_68 : decode cX9_christen 68 = .ok (.invokevirtual 526, 3) := dk_182 2 14 (dk_at dksX9_christen_3 0 rfl rfl)
theorem dX9_christen_71 : decode cX9_christen 71 = .ok (.aload_n 0, 1) := dk_42 (dk_at dksX9_christen_3 3 rfl rfl)
theorem dX9_christen_72 : decode cX9_christen 72 = .ok (.getfield 168, 3) := dk_180 0 168 (dk_at dksX9_christen_3 4 rfl rfl)
theorem dX9_christen_75 : decode cX9_christen 75 = .ok (.iconst 5, 1) := dk_8 (dk_at dksX9_christen_3 7 rfl rfl)
theorem dX9_christen_76 : decode cX9_christen 76 = .ok (.iload_n 1, 1) := dk_27 (dk_at dksX9_christen_3 8 rfl rfl)
theorem dX9_christen_77 : decode cX9_christen 77 = .ok (.iadd, 1) := dk_96 (dk_at dksX9_christen_3 9 rfl rfl)
theorem dX9_christen_78 : decode cX9_christen 78 = .ok (.iload_n 2, 1) := dk_28 (dk_at dksX9_christen_3 10 rfl rfl)
theorem dX9_christen_79 : decode cX9_christen 79 = .ok (.iastore, 1) := dk_79 (dk_at dksX9_christen_3 11 rfl rfl)
theorem dX9_christen_80 : decode cX9_christen 80 = .ok (.iconst 1, 1) := dk_4 (dk_at dksX9_christen_3 12 rfl rfl)
theorem dX9_christen_81 : decode cX9_christen 81 = .ok (.ireturn, 1) := dk_172 (dk_at dksX9_christen_3 13 rfl rfl)
abbrev cX9_isFree : ByteArray := prog_35_method_76_code
def yX9_isFree : MethodName := ⟨RX9, "isFree", "(II)Z"⟩
def dkwX9_isFree_2 : List UInt8 := [172]
abbrev dktX9_isFree_2 : List UInt8 := dkwX9_isFree_2 ++ []
def dkwX9_isFree_1 : List UInt8 := [153, 0, 17, 42, 180, 0, 168, 8, 29, 96, 46, 27, 160, 0, 5, 3, 172, 132, 3, 1, 167, 255, 216, 4]
abbrev dktX9_isFree_1 : List UInt8 := dkwX9_isFree_1 ++ dktX9_isFree_2
def dkwX9_isFree_0 : List UInt8 := [3, 62, 29, 42, 180, 0, 13, 3, 46, 162, 0, 36, 29, 28, 159, 0, 25, 42, 29, 182, 2, 20]
abbrev dktX9_isFree_0 : List UInt8 := dkwX9_isFree_0 ++ dktX9_isFree_1
theorem dksX9_isFree_0 : cX9_isFree.data.toList.drop 0 = dktX9_isFree_0 := by decide +kernel
theorem dksX9_isFree_1 : cX9_isFree.data.toList.drop 22 = dktX9_isFree_1 := dk_seg dksX9_isFree_0 22 rfl rfl
theorem dksX9_isFree_2 : cX9_isFree.data.toList.drop 46 = dktX9_isFree_2 := dk_seg dksX9_isFree_1 24 rfl rfl
theorem dX9_isFree_0 : decode cX9_isFree 0 = .ok (.iconst 0, 1) := dk_3 (dk_at dksX9_isFree_0 0 rfl rfl)
theorem dX9_isFree_1 : decode cX9_isFree 1 = .ok (.istore_n 3, 1) := dk_62 (dk_at dksX9_isFree_0 1 rfl rfl)
theorem dX9_isFree_2 : decode cX9_isFree 2 = .ok (.iload_n 3, 1) := dk_29 (dk_at dksX9_isFree_0 2 rfl rfl)
theorem dX9_isFree_3 : decode cX9_isFree 3 = .ok (.aload_n 0, 1) := dk_42 (dk_at dksX9_isFree_0 3 rfl rfl)
theorem dX9_isFree_4 : decode cX9_isFree 4 = .ok (.getfield 13, 3) := dk_180 0 13 (dk_at dksX9_isFree_0 4 rfl rfl)
theorem dX9_isFree_7 : decode cX9_isFree 7 = .ok (.iconst 0, 1) := dk_3 (dk_at dksX9_isFree_0 7 rfl rfl)
theorem dX9_isFree_8 : decode cX9_isFree 8 = .ok (.iaload, 1) := dk_46 (dk_at dksX9_isFree_0 8 rfl rfl)
theorem dX9_isFree_9 : decode cX9_isFree 9 = .ok (.if_icmp .ge 36, 3) := dk_162 0 36 (dk_at dksX9_isFree_0 9 rfl rfl)
theorem dX9_isFree_12 : decode cX9_isFree 12 = .ok (.iload_n 3, 1) := dk_29 (dk_at dksX9_isFree_0 12 rfl rfl)
theorem dX9_isFree_13 : decode cX9_isFree 13 = .ok (.iload_n 2, 1) := dk_28 (dk_at dksX9_isFree_0 13 rfl rfl)
theorem dX9_isFree_14 : decode cX9_isFree 14 = .ok (.if_icmp .eq 25, 3) := dk_159 0 25 (dk_at dksX9_isFree_0 14 rfl rfl)
theorem dX9_isFree_17 : decode cX9_isFree 17 = .ok (.aload_n 0, 1) := dk_42 (dk_at dksX9_isFree_0 17 rfl rfl)
theorem dX9_isFree_18 : decode cX9_isFree 18 = .ok (.iload_n 3, 1) := dk_29 (dk_at dksX9_isFree_0 18 rfl rfl)
theorem dX9_isFree_19 : decode cX9_isFree 19 = .ok (.invokevirtual 532, 3) := dk_182 2 20 (dk_at dksX9_isFree_0 19 rfl rfl)
theorem dX9_isFree_22 : decode cX9_isFree 22 = .ok (.ifCond .eq 17, 3) := dk_153 0 17 (dk_at dksX9_isFree_1 0 rfl rfl)
theorem dX9_isFree_25 : decode cX9_isFree 25 = .ok (.aload_n 0, 1) := dk_42 (dk_at dksX9_isFree_1 3 rfl rfl)
theorem dX9_isFree_26 : decode cX9_isFree 26 = .ok (.getfield 168, 3) := dk_180 0 168 (dk_at dksX9_isFree_1 4 rfl rfl)
theorem dX9_isFree_29 : decode cX9_isFree 29 = .ok (.iconst 5, 1) := dk_8 (dk_at dksX9_isFree_1 7 rfl rfl)
theorem dX9_isFree_30 : decode cX9_isFree 30 = .ok (.iload_n 3, 1) := dk_29 (dk_at dksX9_isFree_1 8 rfl rfl)
theorem dX9_isFree_31 : decode cX9_isFree 31 = .ok (.iadd, 1) := dk_96 (dk_at dksX9_isFree_1 9 rfl rfl)
theorem dX9_isFree_32 : decode cX9_isFree 32 = .ok (.iaload, 1) := dk_46 (dk_at dksX9_isFree_1 10 rfl rfl)
theorem dX9_isFree_33 : decode cX9_isFree 33 = .ok (.iload_n 1, 1) := dk_27 (dk_at dksX9_isFree_1 11 rfl rfl)
theorem dX9_isFree_34 : decode cX9_isFree 34 = .ok (.if_icmp .ne 5, 3) := dk_160 0 5 (dk_at dksX9_isFree_1 12 rfl rfl)
theorem dX9_isFree_37 : decode cX9_isFree 37 = .ok (.iconst 0, 1) := dk_3 (dk_at dksX9_isFree_1 15 rfl rfl)
theorem dX9_isFree_38 : decode cX9_isFree 38 = .ok (.ireturn, 1) := dk_172 (dk_at dksX9_isFree_1 16 rfl rfl)
theorem dX9_isFree_39 : decode cX9_isFree 39 = .ok (.iinc 3 1, 3) := dk_132 3 1 (dk_at dksX9_isFree_1 17 rfl rfl)
theorem dX9_isFree_42 : decode cX9_isFree 42 = .ok (.goto (-40), 3) := dk_167 255 216 (dk_at dksX9_isFree_1 20 rfl rfl)
theorem dX9_isFree_45 : decode cX9_isFree 45 = .ok (.iconst 1, 1) := dk_4 (dk_at dksX9_isFree_1 23 rfl rfl)
theorem dX9_isFree_46 : decode cX9_isFree 46 = .ok (.ireturn, 1) := dk_172 (dk_at dksX9_isFree_2 0 rfl rfl)
abbrev cX9_pass : ByteArray := prog_35_method_79_code
def yX9_pass : MethodName := ⟨RX9, "pass", "(I)I"⟩
def dkwX9_pass_1 : List UInt8 := [27, 162, 0, 13, 42, 182, 2, 32, 132, 2, 1, 167, 255, 244, 42, 180, 0, 168, 5, 46, 172]
abbrev dktX9_pass_1 : List UInt8 := dkwX9_pass_1 ++ []
def dkwX9_pass_0 : List UInt8 := [42, 3, 181, 0, 212, 27, 4, 16, 30, 184, 1, 95, 154, 0, 5, 2, 172, 42, 182, 2, 14, 3, 61, 28]
abbrev dktX9_pass_0 : List UInt8 := dkwX9_pass_0 ++ dktX9_pass_1
theorem dksX9_pass_0 : cX9_pass.data.toList.drop 0 = dktX9_pass_0 := by decide +kernel
theorem dksX9_pass_1 : cX9_pass.data.toList.drop 24 = dktX9_pass_1 := dk_seg dksX9_pass_0 24 rfl rfl
theorem dX9_pass_0 : decode cX9_pass 0 = .ok (.aload_n 0, 1) := dk_42 (dk_at dksX9_pass_0 0 rfl rfl)
theorem dX9_pass_1 : decode cX9_pass 1 = .ok (.iconst 0, 1) := dk_3 (dk_at dksX9_pass_0 1 rfl rfl)
theorem dX9_pass_2 : decode cX9_pass 2 = .ok (.putfield 212, 3) := dk_181 0 212 (dk_at dksX9_pass_0 2 rfl rfl)
theorem dX9_pass_5 : decode cX9_pass 5 = .ok (.iload_n 1, 1) := dk_27 (dk_at dksX9_pass_0 5 rfl rfl)
theorem dX9_pass_6 : decode cX9_pass 6 = .ok (.iconst 1, 1) := dk_4 (dk_at dksX9_pass_0 6 rfl rfl)
theorem dX9_pass_7 : decode cX9_pass 7 = .ok (.bipush 30, 2) := dk_16 30 (dk_at dksX9_pass_0 7 rfl rfl)
theorem dX9_pass_9 : decode cX9_pass 9 = .ok (.invokestatic 351, 3) := dk_184 1 95 (dk_at dksX9_pass_0 9 rfl rfl)
theorem dX9_pass_12 : decode cX9_pass 12 = .ok (.ifCond .ne 5, 3) := dk_154 0 5 (dk_at dksX9_pass_0 12 rfl rfl)
theorem dX9_pass_15 : decode cX9_pass 15 = .ok (.iconst (-1), 1) := dk_2 (dk_at dksX9_pass_0 15 rfl rfl)
theorem dX9_pass_16 : decode cX9_pass 16 = .ok (.ireturn, 1) := dk_172 (dk_at dksX9_pass_0 16 rfl rfl)
theorem dX9_pass_17 : decode cX9_pass 17 = .ok (.aload_n 0, 1) := dk_42 (dk_at dksX9_pass_0 17 rfl rfl)
theorem dX9_pass_18 : decode cX9_pass 18 = .ok (.invokevirtual 526, 3) := dk_182 2 14 (dk_at dksX9_pass_0 18 rfl rfl)
theorem dX9_pass_21 : decode cX9_pass 21 = .ok (.iconst 0, 1) := dk_3 (dk_at dksX9_pass_0 21 rfl rfl)
theorem dX9_pass_22 : decode cX9_pass 22 = .ok (.istore_n 2, 1) := dk_61 (dk_at dksX9_pass_0 22 rfl rfl)
theorem dX9_pass_23 : decode cX9_pass 23 = .ok (.iload_n 2, 1) := dk_28 (dk_at dksX9_pass_0 23 rfl rfl)
theorem dX9_pass_24 : decode cX9_pass 24 = .ok (.iload_n 1, 1) := dk_27 (dk_at dksX9_pass_1 0 rfl rfl)
theorem dX9_pass_25 : decode cX9_pass 25 = .ok (.if_icmp .ge 13, 3) := dk_162 0 13 (dk_at dksX9_pass_1 1 rfl rfl)
theorem dX9_pass_28 : decode cX9_pass 28 = .ok (.aload_n 0, 1) := dk_42 (dk_at dksX9_pass_1 4 rfl rfl)
theorem dX9_pass_29 : decode cX9_pass 29 = .ok (.invokevirtual 544, 3) := dk_182 2 32 (dk_at dksX9_pass_1 5 rfl rfl)
theorem dX9_pass_32 : decode cX9_pass 32 = .ok (.iinc 2 1, 3) := dk_132 2 1 (dk_at dksX9_pass_1 8 rfl rfl)
theorem dX9_pass_35 : decode cX9_pass 35 = .ok (.goto (-12), 3) := dk_167 255 244 (dk_at dksX9_pass_1 11 rfl rfl)
theorem dX9_pass_38 : decode cX9_pass 38 = .ok (.aload_n 0, 1) := dk_42 (dk_at dksX9_pass_1 14 rfl rfl)
theorem dX9_pass_39 : decode cX9_pass 39 = .ok (.getfield 168, 3) := dk_180 0 168 (dk_at dksX9_pass_1 15 rfl rfl)
theorem dX9_pass_42 : decode cX9_pass 42 = .ok (.iconst 2, 1) := dk_5 (dk_at dksX9_pass_1 18 rfl rfl)
theorem dX9_pass_43 : decode cX9_pass 43 = .ok (.iaload, 1) := dk_46 (dk_at dksX9_pass_1 19 rfl rfl)
theorem dX9_pass_44 : decode cX9_pass 44 = .ok (.ireturn, 1) := dk_172 (dk_at dksX9_pass_1 20 rfl rfl)
abbrev cX9_passes : ByteArray := prog_35_method_78_code
def yX9_passes : MethodName := ⟨RX9, "passes", "()V"⟩
def dkwX9_passes_0 : List UInt8 := [42, 180, 0, 168, 5, 92, 46, 4, 96, 79, 42, 180, 0, 168, 6, 3, 79, 177]
abbrev dktX9_passes_0 : List UInt8 := dkwX9_passes_0 ++ []
theorem dksX9_passes_0 : cX9_passes.data.toList.drop 0 = dktX9_passes_0 := by decide +kernel
theorem dX9_passes_0 : decode cX9_passes 0 = .ok (.aload_n 0, 1) := dk_42 (dk_at dksX9_passes_0 0 rfl rfl)
theorem dX9_passes_1 : decode cX9_passes 1 = .ok (.getfield 168, 3) := dk_180 0 168 (dk_at dksX9_passes_0 1 rfl rfl)
theorem dX9_passes_4 : decode cX9_passes 4 = .ok (.iconst 2, 1) := dk_5 (dk_at dksX9_passes_0 4 rfl rfl)
theorem dX9_passes_5 : decode cX9_passes 5 = .ok (.dup2, 1) := dk_92 (dk_at dksX9_passes_0 5 rfl rfl)
theorem dX9_passes_6 : decode cX9_passes 6 = .ok (.iaload, 1) := dk_46 (dk_at dksX9_passes_0 6 rfl rfl)
theorem dX9_passes_7 : decode cX9_passes 7 = .ok (.iconst 1, 1) := dk_4 (dk_at dksX9_passes_0 7 rfl rfl)
theorem dX9_passes_8 : decode cX9_passes 8 = .ok (.iadd, 1) := dk_96 (dk_at dksX9_passes_0 8 rfl rfl)
theorem dX9_passes_9 : decode cX9_passes 9 = .ok (.iastore, 1) := dk_79 (dk_at dksX9_passes_0 9 rfl rfl)
theorem dX9_passes_10 : decode cX9_passes 10 = .ok (.aload_n 0, 1) := dk_42 (dk_at dksX9_passes_0 10 rfl rfl)
theorem dX9_passes_11 : decode cX9_passes 11 = .ok (.getfield 168, 3) := dk_180 0 168 (dk_at dksX9_passes_0 11 rfl rfl)
theorem dX9_passes_14 : decode cX9_passes 14 = .ok (.iconst 3, 1) := dk_6 (dk_at dksX9_passes_0 14 rfl rfl)
theorem dX9_passes_15 : decode cX9_passes 15 = .ok (.iconst 0, 1) := dk_3 (dk_at dksX9_passes_0 15 rfl rfl)
theorem dX9_passes_16 : decode cX9_passes 16 = .ok (.iastore, 1) := dk_79 (dk_at dksX9_passes_0 16 rfl rfl)
theorem dX9_passes_17 : decode cX9_passes 17 = .ok (.return_, 1) := dk_177 (dk_at dksX9_passes_0 17 rfl rfl)
abbrev cX9_undo : ByteArray := prog_35_method_80_code
def yX9_undo : MethodName := ⟨RX9, "undo", "()Z"⟩
def dkwX9_undo_1 : List UInt8 := [42, 180, 0, 177, 16, 15, 42, 180, 1, 209, 104, 42, 180, 0, 168, 3, 184, 2, 10, 4, 172]
abbrev dktX9_undo_1 : List UInt8 := dkwX9_undo_1 ++ []
def dkwX9_undo_0 : List UInt8 := [42, 3, 181, 0, 212, 42, 180, 1, 209, 154, 0, 5, 3, 172, 42, 89, 180, 1, 209, 4, 100, 181, 1, 209]
abbrev dktX9_undo_0 : List UInt8 := dkwX9_undo_0 ++ dktX9_undo_1
theorem dksX9_undo_0 : cX9_undo.data.toList.drop 0 = dktX9_undo_0 := by decide +kernel
theorem dksX9_undo_1 : cX9_undo.data.toList.drop 24 = dktX9_undo_1 := dk_seg dksX9_undo_0 24 rfl rfl
theorem dX9_undo_0 : decode cX9_undo 0 = .ok (.aload_n 0, 1) := dk_42 (dk_at dksX9_undo_0 0 rfl rfl)
theorem dX9_undo_1 : decode cX9_undo 1 = .ok (.iconst 0, 1) := dk_3 (dk_at dksX9_undo_0 1 rfl rfl)
theorem dX9_undo_2 : decode cX9_undo 2 = .ok (.putfield 212, 3) := dk_181 0 212 (dk_at dksX9_undo_0 2 rfl rfl)
theorem dX9_undo_5 : decode cX9_undo 5 = .ok (.aload_n 0, 1) := dk_42 (dk_at dksX9_undo_0 5 rfl rfl)
theorem dX9_undo_6 : decode cX9_undo 6 = .ok (.getfield 465, 3) := dk_180 1 209 (dk_at dksX9_undo_0 6 rfl rfl)
theorem dX9_undo_9 : decode cX9_undo 9 = .ok (.ifCond .ne 5, 3) := dk_154 0 5 (dk_at dksX9_undo_0 9 rfl rfl)
theorem dX9_undo_12 : decode cX9_undo 12 = .ok (.iconst 0, 1) := dk_3 (dk_at dksX9_undo_0 12 rfl rfl)
theorem dX9_undo_13 : decode cX9_undo 13 = .ok (.ireturn, 1) := dk_172 (dk_at dksX9_undo_0 13 rfl rfl)
theorem dX9_undo_14 : decode cX9_undo 14 = .ok (.aload_n 0, 1) := dk_42 (dk_at dksX9_undo_0 14 rfl rfl)
theorem dX9_undo_15 : decode cX9_undo 15 = .ok (.dup, 1) := dk_89 (dk_at dksX9_undo_0 15 rfl rfl)
theorem dX9_undo_16 : decode cX9_undo 16 = .ok (.getfield 465, 3) := dk_180 1 209 (dk_at dksX9_undo_0 16 rfl rfl)
theorem dX9_undo_19 : decode cX9_undo 19 = .ok (.iconst 1, 1) := dk_4 (dk_at dksX9_undo_0 19 rfl rfl)
theorem dX9_undo_20 : decode cX9_undo 20 = .ok (.isub, 1) := dk_100 (dk_at dksX9_undo_0 20 rfl rfl)
theorem dX9_undo_21 : decode cX9_undo 21 = .ok (.putfield 465, 3) := dk_181 1 209 (dk_at dksX9_undo_0 21 rfl rfl)
theorem dX9_undo_24 : decode cX9_undo 24 = .ok (.aload_n 0, 1) := dk_42 (dk_at dksX9_undo_1 0 rfl rfl)
theorem dX9_undo_25 : decode cX9_undo 25 = .ok (.getfield 177, 3) := dk_180 0 177 (dk_at dksX9_undo_1 1 rfl rfl)
theorem dX9_undo_28 : decode cX9_undo 28 = .ok (.bipush 15, 2) := dk_16 15 (dk_at dksX9_undo_1 4 rfl rfl)
theorem dX9_undo_30 : decode cX9_undo 30 = .ok (.aload_n 0, 1) := dk_42 (dk_at dksX9_undo_1 6 rfl rfl)
theorem dX9_undo_31 : decode cX9_undo 31 = .ok (.getfield 465, 3) := dk_180 1 209 (dk_at dksX9_undo_1 7 rfl rfl)
theorem dX9_undo_34 : decode cX9_undo 34 = .ok (.imul, 1) := dk_104 (dk_at dksX9_undo_1 10 rfl rfl)
theorem dX9_undo_35 : decode cX9_undo 35 = .ok (.aload_n 0, 1) := dk_42 (dk_at dksX9_undo_1 11 rfl rfl)
theorem dX9_undo_36 : decode cX9_undo 36 = .ok (.getfield 168, 3) := dk_180 0 168 (dk_at dksX9_undo_1 12 rfl rfl)
theorem dX9_undo_39 : decode cX9_undo 39 = .ok (.iconst 0, 1) := dk_3 (dk_at dksX9_undo_1 15 rfl rfl)
theorem dX9_undo_40 : decode cX9_undo 40 = .ok (.invokestatic 522, 3) := dk_184 2 10 (dk_at dksX9_undo_1 16 rfl rfl)
theorem dX9_undo_43 : decode cX9_undo 43 = .ok (.iconst 1, 1) := dk_4 (dk_at dksX9_undo_1 19 rfl rfl)
theorem dX9_undo_44 : decode cX9_undo 44 = .ok (.ireturn, 1) := dk_172 (dk_at dksX9_undo_1 20 rfl rfl)
abbrev cX9_judged : ByteArray := prog_35_method_83_code
def yX9_judged : MethodName := ⟨RX9, "judged", "(I)I"⟩
def dkwX9_judged_5 : List UInt8 := [27, 4, 160, 0, 7, 29, 167, 0, 5, 21, 4, 172]
abbrev dktX9_judged_5 : List UInt8 := dkwX9_judged_5 ++ []
def dkwX9_judged_4 : List UInt8 := [46, 54, 4, 42, 180, 0, 171, 3, 42, 180, 0, 168, 3, 184, 2, 10, 27, 154, 0, 7, 28, 167, 0, 14]
abbrev dktX9_judged_4 : List UInt8 := dkwX9_judged_4 ++ dktX9_judged_5
def dkwX9_judged_3 : List UInt8 := [180, 2, 35, 153, 0, 10, 29, 156, 0, 6, 21, 4, 62, 132, 4, 1, 167, 255, 212, 42, 180, 0, 168, 7]
abbrev dktX9_judged_3 : List UInt8 := dkwX9_judged_3 ++ dktX9_judged_4
def dkwX9_judged_2 : List UInt8 := [3, 46, 162, 0, 39, 42, 21, 4, 182, 2, 42, 154, 0, 10, 28, 156, 0, 6, 21, 4, 61, 42]
abbrev dktX9_judged_2 : List UInt8 := dkwX9_judged_2 ++ dktX9_judged_3
def dkwX9_judged_1 : List UInt8 := [180, 0, 171, 3, 184, 2, 10, 42, 182, 1, 206, 2, 61, 2, 62, 3, 54, 4, 21, 4, 42, 180, 0, 138]
abbrev dktX9_judged_1 : List UInt8 := dkwX9_judged_1 ++ dktX9_judged_2
def dkwX9_judged_0 : List UInt8 := [42, 3, 181, 0, 212, 27, 3, 5, 184, 1, 95, 154, 0, 6, 16, 254, 172, 42, 180, 0, 168, 3, 42]
abbrev dktX9_judged_0 : List UInt8 := dkwX9_judged_0 ++ dktX9_judged_1
theorem dksX9_judged_0 : cX9_judged.data.toList.drop 0 = dktX9_judged_0 := by decide +kernel
theorem dksX9_judged_1 : cX9_judged.data.toList.drop 23 = dktX9_judged_1 := dk_seg dksX9_judged_0 23 rfl rfl
theorem dksX9_judged_2 : cX9_judged.data.toList.drop 47 = dktX9_judged_2 := dk_seg dksX9_judged_1 24 rfl rfl
theorem dksX9_judged_3 : cX9_judged.data.toList.drop 69 = dktX9_judged_3 := dk_seg dksX9_judged_2 22 rfl rfl
theorem dksX9_judged_4 : cX9_judged.data.toList.drop 93 = dktX9_judged_4 := dk_seg dksX9_judged_3 24 rfl rfl
theorem dksX9_judged_5 : cX9_judged.data.toList.drop 117 = dktX9_judged_5 := dk_seg dksX9_judged_4 24 rfl rfl
theorem dX9_judged_0 : decode cX9_judged 0 = .ok (.aload_n 0, 1) := dk_42 (dk_at dksX9_judged_0 0 rfl rfl)
theorem dX9_judged_1 : decode cX9_judged 1 = .ok (.iconst 0, 1) := dk_3 (dk_at dksX9_judged_0 1 rfl rfl)
theorem dX9_judged_2 : decode cX9_judged 2 = .ok (.putfield 212, 3) := dk_181 0 212 (dk_at dksX9_judged_0 2 rfl rfl)
theorem dX9_judged_5 : decode cX9_judged 5 = .ok (.iload_n 1, 1) := dk_27 (dk_at dksX9_judged_0 5 rfl rfl)
theorem dX9_judged_6 : decode cX9_judged 6 = .ok (.iconst 0, 1) := dk_3 (dk_at dksX9_judged_0 6 rfl rfl)
theorem dX9_judged_7 : decode cX9_judged 7 = .ok (.iconst 2, 1) := dk_5 (dk_at dksX9_judged_0 7 rfl rfl)
theorem dX9_judged_8 : decode cX9_judged 8 = .ok (.invokestatic 351, 3) := dk_184 1 95 (dk_at dksX9_judged_0 8 rfl rfl)
theorem dX9_judged_11 : decode cX9_judged 11 = .ok (.ifCond .ne 6, 3) := dk_154 0 6 (dk_at dksX9_judged_0 11 rfl rfl)
theorem dX9_judged_14 : decode cX9_judged 14 = .ok (.bipush (-2), 2) := dk_16 254 (dk_at dksX9_judged_0 14 rfl rfl)
theorem dX9_judged_16 : decode cX9_judged 16 = .ok (.ireturn, 1) := dk_172 (dk_at dksX9_judged_0 16 rfl rfl)
theorem dX9_judged_17 : decode cX9_judged 17 = .ok (.aload_n 0, 1) := dk_42 (dk_at dksX9_judged_0 17 rfl rfl)
theorem dX9_judged_18 : decode cX9_judged 18 = .ok (.getfield 168, 3) := dk_180 0 168 (dk_at dksX9_judged_0 18 rfl rfl)
theorem dX9_judged_21 : decode cX9_judged 21 = .ok (.iconst 0, 1) := dk_3 (dk_at dksX9_judged_0 21 rfl rfl)
theorem dX9_judged_22 : decode cX9_judged 22 = .ok (.aload_n 0, 1) := dk_42 (dk_at dksX9_judged_0 22 rfl rfl)
theorem dX9_judged_23 : decode cX9_judged 23 = .ok (.getfield 171, 3) := dk_180 0 171 (dk_at dksX9_judged_1 0 rfl rfl)
theorem dX9_judged_26 : decode cX9_judged 26 = .ok (.iconst 0, 1) := dk_3 (dk_at dksX9_judged_1 3 rfl rfl)
theorem dX9_judged_27 : decode cX9_judged 27 = .ok (.invokestatic 522, 3) := dk_184 2 10 (dk_at dksX9_judged_1 4 rfl rfl)
theorem dX9_judged_30 : decode cX9_judged 30 = .ok (.aload_n 0, 1) := dk_42 (dk_at dksX9_judged_1 7 rfl rfl)
theorem dX9_judged_31 : decode cX9_judged 31 = .ok (.invokevirtual 462, 3) := dk_182 1 206 (dk_at dksX9_judged_1 8 rfl rfl)
theorem dX9_judged_34 : decode cX9_judged 34 = .ok (.iconst (-1), 1) := dk_2 (dk_at dksX9_judged_1 11 rfl rfl)
theorem dX9_judged_35 : decode cX9_judged 35 = .ok (.istore_n 2, 1) := dk_61 (dk_at dksX9_judged_1 12 rfl rfl)
theorem dX9_judged_36 : decode cX9_judged 36 = .ok (.iconst (-1), 1) := dk_2 (dk_at dksX9_judged_1 13 rfl rfl)
theorem dX9_judged_37 : decode cX9_judged 37 = .ok (.istore_n 3, 1) := dk_62 (dk_at dksX9_judged_1 14 rfl rfl)
theorem dX9_judged_38 : decode cX9_judged 38 = .ok (.iconst 0, 1) := dk_3 (dk_at dksX9_judged_1 15 rfl rfl)
theorem dX9_judged_39 : decode cX9_judged 39 = .ok (.istore 4, 2) := dk_54 4 (dk_at dksX9_judged_1 16 rfl rfl)
theorem dX9_judged_41 : decode cX9_judged 41 = .ok (.iload 4, 2) := dk_21 4 (dk_at dksX9_judged_1 18 rfl rfl)
theorem dX9_judged_43 : decode cX9_judged 43 = .ok (.aload_n 0, 1) := dk_42 (dk_at dksX9_judged_1 20 rfl rfl)
theorem dX9_judged_44 : decode cX9_judged 44 = .ok (.getfield 138, 3) := dk_180 0 138 (dk_at dksX9_judged_1 21 rfl rfl)
theorem dX9_judged_47 : decode cX9_judged 47 = .ok (.iconst 0, 1) := dk_3 (dk_at dksX9_judged_2 0 rfl rfl)
theorem dX9_judged_48 : decode cX9_judged 48 = .ok (.iaload, 1) := dk_46 (dk_at dksX9_judged_2 1 rfl rfl)
theorem dX9_judged_49 : decode cX9_judged 49 = .ok (.if_icmp .ge 39, 3) := dk_162 0 39 (dk_at dksX9_judged_2 2 rfl rfl)
theorem dX9_judged_52 : decode cX9_judged 52 = .ok (.aload_n 0, 1) := dk_42 (dk_at dksX9_judged_2 5 rfl rfl)
theorem dX9_judged_53 : decode cX9_judged 53 = .ok (.iload 4, 2) := dk_21 4 (dk_at dksX9_judged_2 6 rfl rfl)
theorem dX9_judged_55 : decode cX9_judged 55 = .ok (.invokevirtual 554, 3) := dk_182 2 42 (dk_at dksX9_judged_2 8 rfl rfl)
theorem dX9_judged_58 : decode cX9_judged 58 = .ok (.ifCond .ne 10, 3) := dk_154 0 10 (dk_at dksX9_judged_2 11 rfl rfl)
theorem dX9_judged_61 : decode cX9_judged 61 = .ok (.iload_n 2, 1) := dk_28 (dk_at dksX9_judged_2 14 rfl rfl)
theorem dX9_judged_62 : decode cX9_judged 62 = .ok (.ifCond .ge 6, 3) := dk_156 0 6 (dk_at dksX9_judged_2 15 rfl rfl)
theorem dX9_judged_65 : decode cX9_judged 65 = .ok (.iload 4, 2) := dk_21 4 (dk_at dksX9_judged_2 18 rfl rfl)
theorem dX9_judged_67 : decode cX9_judged 67 = .ok (.istore_n 2, 1) := dk_61 (dk_at dksX9_judged_2 20 rfl rfl)
theorem dX9_judged_68 : decode cX9_judged 68 = .ok (.aload_n 0, 1) := dk_42 (dk_at dksX9_judged_2 21 rfl rfl)
theorem dX9_judged_69 : decode cX9_judged 69 = .ok (.getfield 547, 3) := dk_180 2 35 (dk_at dksX9_judged_3 0 rfl rfl)
theorem dX9_judged_72 : decode cX9_judged 72 = .ok (.ifCond .eq 10, 3) := dk_153 0 10 (dk_at dksX9_judged_3 3 rfl rfl)
theorem dX9_judged_75 : decode cX9_judged 75 = .ok (.iload_n 3, 1) := dk_29 (dk_at dksX9_judged_3 6 rfl rfl)
theorem dX9_judged_76 : decode cX9_judged 76 = .ok (.ifCond .ge 6, 3) := dk_156 0 6 (dk_at dksX9_judged_3 7 rfl rfl)
theorem dX9_judged_79 : decode cX9_judged 79 = .ok (.iload 4, 2) := dk_21 4 (dk_at dksX9_judged_3 10 rfl rfl)
theorem dX9_judged_81 : decode cX9_judged 81 = .ok (.istore_n 3, 1) := dk_62 (dk_at dksX9_judged_3 12 rfl rfl)
theorem dX9_judged_82 : decode cX9_judged 82 = .ok (.iinc 4 1, 3) := dk_132 4 1 (dk_at dksX9_judged_3 13 rfl rfl)
theorem dX9_judged_85 : decode cX9_judged 85 = .ok (.goto (-44), 3) := dk_167 255 212 (dk_at dksX9_judged_3 16 rfl rfl)
theorem dX9_judged_88 : decode cX9_judged 88 = .ok (.aload_n 0, 1) := dk_42 (dk_at dksX9_judged_3 19 rfl rfl)
theorem dX9_judged_89 : decode cX9_judged 89 = .ok (.getfield 168, 3) := dk_180 0 168 (dk_at dksX9_judged_3 20 rfl rfl)
theorem dX9_judged_92 : decode cX9_judged 92 = .ok (.iconst 4, 1) := dk_7 (dk_at dksX9_judged_3 23 rfl rfl)
theorem dX9_judged_93 : decode cX9_judged 93 = .ok (.iaload, 1) := dk_46 (dk_at dksX9_judged_4 0 rfl rfl)
theorem dX9_judged_94 : decode cX9_judged 94 = .ok (.istore 4, 2) := dk_54 4 (dk_at dksX9_judged_4 1 rfl rfl)
theorem dX9_judged_96 : decode cX9_judged 96 = .ok (.aload_n 0, 1) := dk_42 (dk_at dksX9_judged_4 3 rfl rfl)
theorem dX9_judged_97 : decode cX9_judged 97 = .ok (.getfield 171, 3) := dk_180 0 171 (dk_at dksX9_judged_4 4 rfl rfl)
theorem dX9_judged_100 : decode cX9_judged 100 = .ok (.iconst 0, 1) := dk_3 (dk_at dksX9_judged_4 7 rfl rfl)
theorem dX9_judged_101 : decode cX9_judged 101 = .ok (.aload_n 0, 1) := dk_42 (dk_at dksX9_judged_4 8 rfl rfl)
theorem dX9_judged_102 : decode cX9_judged 102 = .ok (.getfield 168, 3) := dk_180 0 168 (dk_at dksX9_judged_4 9 rfl rfl)
theorem dX9_judged_105 : decode cX9_judged 105 = .ok (.iconst 0, 1) := dk_3 (dk_at dksX9_judged_4 12 rfl rfl)
theorem dX9_judged_106 : decode cX9_judged 106 = .ok (.invokestatic 522, 3) := dk_184 2 10 (dk_at dksX9_judged_4 13 rfl rfl)
theorem dX9_judged_109 : decode cX9_judged 109 = .ok (.iload_n 1, 1) := dk_27 (dk_at dksX9_judged_4 16 rfl rfl)
theorem dX9_judged_110 : decode cX9_judged 110 = .ok (.ifCond .ne 7, 3) := dk_154 0 7 (dk_at dksX9_judged_4 17 rfl rfl)
theorem dX9_judged_113 : decode cX9_judged 113 = .ok (.iload_n 2, 1) := dk_28 (dk_at dksX9_judged_4 20 rfl rfl)
theorem dX9_judged_114 : decode cX9_judged 114 = .ok (.goto 14, 3) := dk_167 0 14 (dk_at dksX9_judged_4 21 rfl rfl)
theorem dX9_judged_117 : decode cX9_judged 117 = .ok (.iload_n 1, 1) := dk_27 (dk_at dksX9_judged_5 0 rfl rfl)
theorem dX9_judged_118 : decode cX9_judged 118 = .ok (.iconst 1, 1) := dk_4 (dk_at dksX9_judged_5 1 rfl rfl)
theorem dX9_judged_119 : decode cX9_judged 119 = .ok (.if_icmp .ne 7, 3) := dk_160 0 7 (dk_at dksX9_judged_5 2 rfl rfl)
theorem dX9_judged_122 : decode cX9_judged 122 = .ok (.iload_n 3, 1) := dk_29 (dk_at dksX9_judged_5 5 rfl rfl)
theorem dX9_judged_123 : decode cX9_judged 123 = .ok (.goto 5, 3) := dk_167 0 5 (dk_at dksX9_judged_5 6 rfl rfl)
theorem dX9_judged_126 : decode cX9_judged 126 = .ok (.iload 4, 2) := dk_21 4 (dk_at dksX9_judged_5 9 rfl rfl)
theorem dX9_judged_128 : decode cX9_judged 128 = .ok (.ireturn, 1) := dk_172 (dk_at dksX9_judged_5 11 rfl rfl)
abbrev cX9_goes : ByteArray := prog_35_method_82_code
def yX9_goes : MethodName := ⟨RX9, "goes", "(I)Z"⟩
def dkwX9_goes_5 : List UInt8 := [158, 0, 7, 4, 167, 0, 4, 3, 181, 2, 35, 4, 172]
abbrev dktX9_goes_5 : List UInt8 := dkwX9_goes_5 ++ []
def dkwX9_goes_4 : List UInt8 := [180, 0, 144, 27, 46, 46, 42, 180, 0, 47, 42, 180, 0, 144, 27, 46, 46, 182, 2, 17, 182, 2, 39]
abbrev dktX9_goes_4 : List UInt8 := dkwX9_goes_4 ++ dktX9_goes_5
def dkwX9_goes_3 : List UInt8 := [27, 46, 182, 1, 234, 154, 0, 5, 3, 172, 42, 42, 42, 42, 180, 0, 147, 27, 46, 42, 180, 0, 44, 42]
abbrev dktX9_goes_3 : List UInt8 := dkwX9_goes_3 ++ dktX9_goes_4
def dkwX9_goes_2 : List UInt8 := [42, 42, 180, 0, 147, 27, 46, 182, 2, 26, 87, 4, 172, 42, 42, 180, 0, 144, 27, 46, 42, 180, 0, 147]
abbrev dktX9_goes_2 : List UInt8 := dkwX9_goes_2 ++ dktX9_goes_3
def dkwX9_goes_1 : List UInt8 := [180, 0, 141, 27, 46, 4, 160, 0, 31, 42, 42, 180, 0, 147, 27, 46, 182, 2, 23, 154, 0, 5, 3, 172]
abbrev dktX9_goes_1 : List UInt8 := dkwX9_goes_1 ++ dktX9_goes_2
def dkwX9_goes_0 : List UInt8 := [42, 3, 181, 2, 35, 42, 180, 0, 141, 27, 46, 5, 160, 0, 9, 42, 182, 2, 32, 4, 172, 42]
abbrev dktX9_goes_0 : List UInt8 := dkwX9_goes_0 ++ dktX9_goes_1
theorem dksX9_goes_0 : cX9_goes.data.toList.drop 0 = dktX9_goes_0 := by decide +kernel
theorem dksX9_goes_1 : cX9_goes.data.toList.drop 22 = dktX9_goes_1 := dk_seg dksX9_goes_0 22 rfl rfl
theorem dksX9_goes_2 : cX9_goes.data.toList.drop 46 = dktX9_goes_2 := dk_seg dksX9_goes_1 24 rfl rfl
theorem dksX9_goes_3 : cX9_goes.data.toList.drop 70 = dktX9_goes_3 := dk_seg dksX9_goes_2 24 rfl rfl
theorem dksX9_goes_4 : cX9_goes.data.toList.drop 94 = dktX9_goes_4 := dk_seg dksX9_goes_3 24 rfl rfl
theorem dksX9_goes_5 : cX9_goes.data.toList.drop 117 = dktX9_goes_5 := dk_seg dksX9_goes_4 23 rfl rfl
theorem dX9_goes_0 : decode cX9_goes 0 = .ok (.aload_n 0, 1) := dk_42 (dk_at dksX9_goes_0 0 rfl rfl)
theorem dX9_goes_1 : decode cX9_goes 1 = .ok (.iconst 0, 1) := dk_3 (dk_at dksX9_goes_0 1 rfl rfl)
theorem dX9_goes_2 : decode cX9_goes 2 = .ok (.putfield 547, 3) := dk_181 2 35 (dk_at dksX9_goes_0 2 rfl rfl)
theorem dX9_goes_5 : decode cX9_goes 5 = .ok (.aload_n 0, 1) := dk_42 (dk_at dksX9_goes_0 5 rfl rfl)
theorem dX9_goes_6 : decode cX9_goes 6 = .ok (.getfield 141, 3) := dk_180 0 141 (dk_at dksX9_goes_0 6 rfl rfl)
theorem dX9_goes_9 : decode cX9_goes 9 = .ok (.iload_n 1, 1) := dk_27 (dk_at dksX9_goes_0 9 rfl rfl)
theorem dX9_goes_10 : decode cX9_goes 10 = .ok (.iaload, 1) := dk_46 (dk_at dksX9_goes_0 10 rfl rfl)
theorem dX9_goes_11 : decode cX9_goes 11 = .ok (.iconst 2, 1) := dk_5 (dk_at dksX9_goes_0 11 rfl rfl)
theorem dX9_goes_12 : decode cX9_goes 12 = .ok (.if_icmp .ne 9, 3) := dk_160 0 9 (dk_at dksX9_goes_0 12 rfl rfl)
theorem dX9_goes_15 : decode cX9_goes 15 = .ok (.aload_n 0, 1) := dk_42 (dk_at dksX9_goes_0 15 rfl rfl)
theorem dX9_goes_16 : decode cX9_goes 16 = .ok (.invokevirtual 544, 3) := dk_182 2 32 (dk_at dksX9_goes_0 16 rfl rfl)
theorem dX9_goes_19 : decode cX9_goes 19 = .ok (.iconst 1, 1) := dk_4 (dk_at dksX9_goes_0 19 rfl rfl)
theorem dX9_goes_20 : decode cX9_goes 20 = .ok (.ireturn, 1) := dk_172 (dk_at dksX9_goes_0 20 rfl rfl)
theorem dX9_goes_21 : decode cX9_goes 21 = .ok (.aload_n 0, 1) := dk_42 (dk_at dksX9_goes_0 21 rfl rfl)
theorem dX9_goes_22 : decode cX9_goes 22 = .ok (.getfield 141, 3) := dk_180 0 141 (dk_at dksX9_goes_1 0 rfl rfl)
theorem dX9_goes_25 : decode cX9_goes 25 = .ok (.iload_n 1, 1) := dk_27 (dk_at dksX9_goes_1 3 rfl rfl)
theorem dX9_goes_26 : decode cX9_goes 26 = .ok (.iaload, 1) := dk_46 (dk_at dksX9_goes_1 4 rfl rfl)
theorem dX9_goes_27 : decode cX9_goes 27 = .ok (.iconst 1, 1) := dk_4 (dk_at dksX9_goes_1 5 rfl rfl)
theorem dX9_goes_28 : decode cX9_goes 28 = .ok (.if_icmp .ne 31, 3) := dk_160 0 31 (dk_at dksX9_goes_1 6 rfl rfl)
theorem dX9_goes_31 : decode cX9_goes 31 = .ok (.aload_n 0, 1) := dk_42 (dk_at dksX9_goes_1 9 rfl rfl)
theorem dX9_goes_32 : decode cX9_goes 32 = .ok (.aload_n 0, 1) := dk_42 (dk_at dksX9_goes_1 10 rfl rfl)
theorem dX9_goes_33 : decode cX9_goes 33 = .ok (.getfield 147, 3) := dk_180 0 147 (dk_at dksX9_goes_1 11 rfl rfl)
theorem dX9_goes_36 : decode cX9_goes 36 = .ok (.iload_n 1, 1) := dk_27 (dk_at dksX9_goes_1 14 rfl rfl)
theorem dX9_goes_37 : decode cX9_goes 37 = .ok (.iaload, 1) := dk_46 (dk_at dksX9_goes_1 15 rfl rfl)
theorem dX9_goes_38 : decode cX9_goes 38 = .ok (.invokevirtual 535, 3) := dk_182 2 23 (dk_at dksX9_goes_1 16 rfl rfl)
theorem dX9_goes_41 : decode cX9_goes 41 = .ok (.ifCond .ne 5, 3) := dk_154 0 5 (dk_at dksX9_goes_1 19 rfl rfl)
theorem dX9_goes_44 : decode cX9_goes 44 = .ok (.iconst 0, 1) := dk_3 (dk_at dksX9_goes_1 22 rfl rfl)
theorem dX9_goes_45 : decode cX9_goes 45 = .ok (.ireturn, 1) := dk_172 (dk_at dksX9_goes_1 23 rfl rfl)
theorem dX9_goes_46 : decode cX9_goes 46 = .ok (.aload_n 0, 1) := dk_42 (dk_at dksX9_goes_2 0 rfl rfl)
theorem dX9_goes_47 : decode cX9_goes 47 = .ok (.aload_n 0, 1) := dk_42 (dk_at dksX9_goes_2 1 rfl rfl)
theorem dX9_goes_48 : decode cX9_goes 48 = .ok (.getfield 147, 3) := dk_180 0 147 (dk_at dksX9_goes_2 2 rfl rfl)
theorem dX9_goes_51 : decode cX9_goes 51 = .ok (.iload_n 1, 1) := dk_27 (dk_at dksX9_goes_2 5 rfl rfl)
theorem dX9_goes_52 : decode cX9_goes 52 = .ok (.iaload, 1) := dk_46 (dk_at dksX9_goes_2 6 rfl rfl)
theorem dX9_goes_53 : decode cX9_goes 53 = .ok (.invokevirtual 538, 3) := dk_182 2 26 (dk_at dksX9_goes_2 7 rfl rfl)
theorem dX9_goes_56 : decode cX9_goes 56 = .ok (.pop, 1) := dk_87 (dk_at dksX9_goes_2 10 rfl rfl)
theorem dX9_goes_57 : decode cX9_goes 57 = .ok (.iconst 1, 1) := dk_4 (dk_at dksX9_goes_2 11 rfl rfl)
theorem dX9_goes_58 : decode cX9_goes 58 = .ok (.ireturn, 1) := dk_172 (dk_at dksX9_goes_2 12 rfl rfl)
theorem dX9_goes_59 : decode cX9_goes 59 = .ok (.aload_n 0, 1) := dk_42 (dk_at dksX9_goes_2 13 rfl rfl)
theorem dX9_goes_60 : decode cX9_goes 60 = .ok (.aload_n 0, 1) := dk_42 (dk_at dksX9_goes_2 14 rfl rfl)
theorem dX9_goes_61 : decode cX9_goes 61 = .ok (.getfield 144, 3) := dk_180 0 144 (dk_at dksX9_goes_2 15 rfl rfl)
theorem dX9_goes_64 : decode cX9_goes 64 = .ok (.iload_n 1, 1) := dk_27 (dk_at dksX9_goes_2 18 rfl rfl)
theorem dX9_goes_65 : decode cX9_goes 65 = .ok (.iaload, 1) := dk_46 (dk_at dksX9_goes_2 19 rfl rfl)
theorem dX9_goes_66 : decode cX9_goes 66 = .ok (.aload_n 0, 1) := dk_42 (dk_at dksX9_goes_2 20 rfl rfl)
theorem dX9_goes_67 : decode cX9_goes 67 = .ok (.getfield 147, 3) := dk_180 0 147 (dk_at dksX9_goes_2 21 rfl rfl)
theorem dX9_goes_70 : decode cX9_goes 70 = .ok (.iload_n 1, 1) := dk_27 (dk_at dksX9_goes_3 0 rfl rfl)
theorem dX9_goes_71 : decode cX9_goes 71 = .ok (.iaload, 1) := dk_46 (dk_at dksX9_goes_3 1 rfl rfl)
theorem dX9_goes_72 : decode cX9_goes 72 = .ok (.invokevirtual 490, 3) := dk_182 1 234 (dk_at dksX9_goes_3 2 rfl rfl)
theorem dX9_goes_75 : decode cX9_goes 75 = .ok (.ifCond .ne 5, 3) := dk_154 0 5 (dk_at dksX9_goes_3 5 rfl rfl)
theorem dX9_goes_78 : decode cX9_goes 78 = .ok (.iconst 0, 1) := dk_3 (dk_at dksX9_goes_3 8 rfl rfl)
theorem dX9_goes_79 : decode cX9_goes 79 = .ok (.ireturn, 1) := dk_172 (dk_at dksX9_goes_3 9 rfl rfl)
theorem dX9_goes_80 : decode cX9_goes 80 = .ok (.aload_n 0, 1) := dk_42 (dk_at dksX9_goes_3 10 rfl rfl)
theorem dX9_goes_81 : decode cX9_goes 81 = .ok (.aload_n 0, 1) := dk_42 (dk_at dksX9_goes_3 11 rfl rfl)
theorem dX9_goes_82 : decode cX9_goes 82 = .ok (.aload_n 0, 1) := dk_42 (dk_at dksX9_goes_3 12 rfl rfl)
theorem dX9_goes_83 : decode cX9_goes 83 = .ok (.aload_n 0, 1) := dk_42 (dk_at dksX9_goes_3 13 rfl rfl)
theorem dX9_goes_84 : decode cX9_goes 84 = .ok (.getfield 147, 3) := dk_180 0 147 (dk_at dksX9_goes_3 14 rfl rfl)
theorem dX9_goes_87 : decode cX9_goes 87 = .ok (.iload_n 1, 1) := dk_27 (dk_at dksX9_goes_3 17 rfl rfl)
theorem dX9_goes_88 : decode cX9_goes 88 = .ok (.iaload, 1) := dk_46 (dk_at dksX9_goes_3 18 rfl rfl)
theorem dX9_goes_89 : decode cX9_goes 89 = .ok (.aload_n 0, 1) := dk_42 (dk_at dksX9_goes_3 19 rfl rfl)
theorem dX9_goes_90 : decode cX9_goes 90 = .ok (.getfield 44, 3) := dk_180 0 44 (dk_at dksX9_goes_3 20 rfl rfl)
theorem dX9_goes_93 : decode cX9_goes 93 = .ok (.aload_n 0, 1) := dk_42 (dk_at dksX9_goes_3 23 rfl rfl)
theorem dX9_goes_94 : decode cX9_goes 94 = .ok (.getfield 144, 3) := dk_180 0 144 (dk_at dksX9_goes_4 0 rfl rfl)
theorem dX9_goes_97 : decode cX9_goes 97 = .ok (.iload_n 1, 1) := dk_27 (dk_at dksX9_goes_4 3 rfl rfl)
theorem dX9_goes_98 : decode cX9_goes 98 = .ok (.iaload, 1) := dk_46 (dk_at dksX9_goes_4 4 rfl rfl)
theorem dX9_goes_99 : decode cX9_goes 99 = .ok (.iaload, 1) := dk_46 (dk_at dksX9_goes_4 5 rfl rfl)
theorem dX9_goes_100 : decode cX9_goes 100 = .ok (.aload_n 0, 1) := dk_42 (dk_at dksX9_goes_4 6 rfl rfl)
theorem dX9_goes_101 : decode cX9_goes 101 = .ok (.getfield 47, 3) := dk_180 0 47 (dk_at dksX9_goes_4 7 rfl rfl)
theorem dX9_goes_104 : decode cX9_goes 104 = .ok (.aload_n 0, 1) := dk_42 (dk_at dksX9_goes_4 10 rfl rfl)
theorem dX9_goes_105 : decode cX9_goes 105 = .ok (.getfield 144, 3) := dk_180 0 144 (dk_at dksX9_goes_4 11 rfl rfl)
theorem dX9_goes_108 : decode cX9_goes 108 = .ok (.iload_n 1, 1) := dk_27 (dk_at dksX9_goes_4 14 rfl rfl)
theorem dX9_goes_109 : decode cX9_goes 109 = .ok (.iaload, 1) := dk_46 (dk_at dksX9_goes_4 15 rfl rfl)
theorem dX9_goes_110 : decode cX9_goes 110 = .ok (.iaload, 1) := dk_46 (dk_at dksX9_goes_4 16 rfl rfl)
theorem dX9_goes_111 : decode cX9_goes 111 = .ok (.invokevirtual 529, 3) := dk_182 2 17 (dk_at dksX9_goes_4 17 rfl rfl)
theorem dX9_goes_114 : decode cX9_goes 114 = .ok (.invokevirtual 551, 3) := dk_182 2 39 (dk_at dksX9_goes_4 20 rfl rfl)
theorem dX9_goes_117 : decode cX9_goes 117 = .ok (.ifCond .le 7, 3) := dk_158 0 7 (dk_at dksX9_goes_5 0 rfl rfl)
theorem dX9_goes_120 : decode cX9_goes 120 = .ok (.iconst 1, 1) := dk_4 (dk_at dksX9_goes_5 3 rfl rfl)
theorem dX9_goes_121 : decode cX9_goes 121 = .ok (.goto 4, 3) := dk_167 0 4 (dk_at dksX9_goes_5 4 rfl rfl)
theorem dX9_goes_124 : decode cX9_goes 124 = .ok (.iconst 0, 1) := dk_3 (dk_at dksX9_goes_5 7 rfl rfl)
theorem dX9_goes_125 : decode cX9_goes 125 = .ok (.putfield 547, 3) := dk_181 2 35 (dk_at dksX9_goes_5 8 rfl rfl)
theorem dX9_goes_128 : decode cX9_goes 128 = .ok (.iconst 1, 1) := dk_4 (dk_at dksX9_goes_5 11 rfl rfl)
theorem dX9_goes_129 : decode cX9_goes 129 = .ok (.ireturn, 1) := dk_172 (dk_at dksX9_goes_5 12 rfl rfl)
abbrev cX9_greenOf : ByteArray := prog_35_method_81_code
def yX9_greenOf : MethodName := ⟨RX9, "greenOf", "(I)I"⟩
def dkwX9_greenOf_2 : List UInt8 := [132, 3, 1, 167, 255, 211, 28, 172]
abbrev dktX9_greenOf_2 : List UInt8 := dkwX9_greenOf_2 ++ []
def dkwX9_greenOf_1 : List UInt8 := [42, 180, 0, 168, 5, 46, 42, 180, 0, 35, 29, 46, 162, 0, 7, 4, 167, 0, 4, 3, 96, 61]
abbrev dktX9_greenOf_1 : List UInt8 := dkwX9_greenOf_1 ++ dktX9_greenOf_2
def dkwX9_greenOf_0 : List UInt8 := [3, 61, 3, 62, 29, 42, 180, 0, 13, 3, 46, 162, 0, 41, 28, 27, 29, 122, 4, 126, 4, 160, 0, 22]
abbrev dktX9_greenOf_0 : List UInt8 := dkwX9_greenOf_0 ++ dktX9_greenOf_1
theorem dksX9_greenOf_0 : cX9_greenOf.data.toList.drop 0 = dktX9_greenOf_0 := by decide +kernel
theorem dksX9_greenOf_1 : cX9_greenOf.data.toList.drop 24 = dktX9_greenOf_1 := dk_seg dksX9_greenOf_0 24 rfl rfl
theorem dksX9_greenOf_2 : cX9_greenOf.data.toList.drop 46 = dktX9_greenOf_2 := dk_seg dksX9_greenOf_1 22 rfl rfl
theorem dX9_greenOf_0 : decode cX9_greenOf 0 = .ok (.iconst 0, 1) := dk_3 (dk_at dksX9_greenOf_0 0 rfl rfl)
theorem dX9_greenOf_1 : decode cX9_greenOf 1 = .ok (.istore_n 2, 1) := dk_61 (dk_at dksX9_greenOf_0 1 rfl rfl)
theorem dX9_greenOf_2 : decode cX9_greenOf 2 = .ok (.iconst 0, 1) := dk_3 (dk_at dksX9_greenOf_0 2 rfl rfl)
theorem dX9_greenOf_3 : decode cX9_greenOf 3 = .ok (.istore_n 3, 1) := dk_62 (dk_at dksX9_greenOf_0 3 rfl rfl)
theorem dX9_greenOf_4 : decode cX9_greenOf 4 = .ok (.iload_n 3, 1) := dk_29 (dk_at dksX9_greenOf_0 4 rfl rfl)
theorem dX9_greenOf_5 : decode cX9_greenOf 5 = .ok (.aload_n 0, 1) := dk_42 (dk_at dksX9_greenOf_0 5 rfl rfl)
theorem dX9_greenOf_6 : decode cX9_greenOf 6 = .ok (.getfield 13, 3) := dk_180 0 13 (dk_at dksX9_greenOf_0 6 rfl rfl)
theorem dX9_greenOf_9 : decode cX9_greenOf 9 = .ok (.iconst 0, 1) := dk_3 (dk_at dksX9_greenOf_0 9 rfl rfl)
theorem dX9_greenOf_10 : decode cX9_greenOf 10 = .ok (.iaload, 1) := dk_46 (dk_at dksX9_greenOf_0 10 rfl rfl)
theorem dX9_greenOf_11 : decode cX9_greenOf 11 = .ok (.if_icmp .ge 41, 3) := dk_162 0 41 (dk_at dksX9_greenOf_0 11 rfl rfl)
theorem dX9_greenOf_14 : decode cX9_greenOf 14 = .ok (.iload_n 2, 1) := dk_28 (dk_at dksX9_greenOf_0 14 rfl rfl)
theorem dX9_greenOf_15 : decode cX9_greenOf 15 = .ok (.iload_n 1, 1) := dk_27 (dk_at dksX9_greenOf_0 15 rfl rfl)
theorem dX9_greenOf_16 : decode cX9_greenOf 16 = .ok (.iload_n 3, 1) := dk_29 (dk_at dksX9_greenOf_0 16 rfl rfl)
theorem dX9_greenOf_17 : decode cX9_greenOf 17 = .ok (.ishr, 1) := dk_122 (dk_at dksX9_greenOf_0 17 rfl rfl)
theorem dX9_greenOf_18 : decode cX9_greenOf 18 = .ok (.iconst 1, 1) := dk_4 (dk_at dksX9_greenOf_0 18 rfl rfl)
theorem dX9_greenOf_19 : decode cX9_greenOf 19 = .ok (.iand, 1) := dk_126 (dk_at dksX9_greenOf_0 19 rfl rfl)
theorem dX9_greenOf_20 : decode cX9_greenOf 20 = .ok (.iconst 1, 1) := dk_4 (dk_at dksX9_greenOf_0 20 rfl rfl)
theorem dX9_greenOf_21 : decode cX9_greenOf 21 = .ok (.if_icmp .ne 22, 3) := dk_160 0 22 (dk_at dksX9_greenOf_0 21 rfl rfl)
theorem dX9_greenOf_24 : decode cX9_greenOf 24 = .ok (.aload_n 0, 1) := dk_42 (dk_at dksX9_greenOf_1 0 rfl rfl)
theorem dX9_greenOf_25 : decode cX9_greenOf 25 = .ok (.getfield 168, 3) := dk_180 0 168 (dk_at dksX9_greenOf_1 1 rfl rfl)
theorem dX9_greenOf_28 : decode cX9_greenOf 28 = .ok (.iconst 2, 1) := dk_5 (dk_at dksX9_greenOf_1 4 rfl rfl)
theorem dX9_greenOf_29 : decode cX9_greenOf 29 = .ok (.iaload, 1) := dk_46 (dk_at dksX9_greenOf_1 5 rfl rfl)
theorem dX9_greenOf_30 : decode cX9_greenOf 30 = .ok (.aload_n 0, 1) := dk_42 (dk_at dksX9_greenOf_1 6 rfl rfl)
theorem dX9_greenOf_31 : decode cX9_greenOf 31 = .ok (.getfield 35, 3) := dk_180 0 35 (dk_at dksX9_greenOf_1 7 rfl rfl)
theorem dX9_greenOf_34 : decode cX9_greenOf 34 = .ok (.iload_n 3, 1) := dk_29 (dk_at dksX9_greenOf_1 10 rfl rfl)
theorem dX9_greenOf_35 : decode cX9_greenOf 35 = .ok (.iaload, 1) := dk_46 (dk_at dksX9_greenOf_1 11 rfl rfl)
theorem dX9_greenOf_36 : decode cX9_greenOf 36 = .ok (.if_icmp .ge 7, 3) := dk_162 0 7 (dk_at dksX9_greenOf_1 12 rfl rfl)
theorem dX9_greenOf_39 : decode cX9_greenOf 39 = .ok (.iconst 1, 1) := dk_4 (dk_at dksX9_greenOf_1 15 rfl rfl)
theorem dX9_greenOf_40 : decode cX9_greenOf 40 = .ok (.goto 4, 3) := dk_167 0 4 (dk_at dksX9_greenOf_1 16 rfl rfl)
theorem dX9_greenOf_43 : decode cX9_greenOf 43 = .ok (.iconst 0, 1) := dk_3 (dk_at dksX9_greenOf_1 19 rfl rfl)
theorem dX9_greenOf_44 : decode cX9_greenOf 44 = .ok (.iadd, 1) := dk_96 (dk_at dksX9_greenOf_1 20 rfl rfl)
theorem dX9_greenOf_45 : decode cX9_greenOf 45 = .ok (.istore_n 2, 1) := dk_61 (dk_at dksX9_greenOf_1 21 rfl rfl)
theorem dX9_greenOf_46 : decode cX9_greenOf 46 = .ok (.iinc 3 1, 3) := dk_132 3 1 (dk_at dksX9_greenOf_2 0 rfl rfl)
theorem dX9_greenOf_49 : decode cX9_greenOf 49 = .ok (.goto (-45), 3) := dk_167 255 211 (dk_at dksX9_greenOf_2 3 rfl rfl)
theorem dX9_greenOf_52 : decode cX9_greenOf 52 = .ok (.iload_n 2, 1) := dk_28 (dk_at dksX9_greenOf_2 6 rfl rfl)
theorem dX9_greenOf_53 : decode cX9_greenOf 53 = .ok (.ireturn, 1) := dk_172 (dk_at dksX9_greenOf_2 7 rfl rfl)
abbrev cX9_crop : ByteArray := prog_35_method_87_code
def yX9_crop : MethodName := ⟨RX9, "crop", "(II)I"⟩
def dkwX9_crop_5 : List UInt8 := [180, 2, 52, 172]
abbrev dktX9_crop_5 : List UInt8 := dkwX9_crop_5 ++ []
def dkwX9_crop_4 : List UInt8 := [3, 46, 42, 180, 0, 168, 4, 46, 3, 27, 4, 182, 2, 48, 62, 28, 154, 0, 7, 29, 167, 0, 7, 42]
abbrev dktX9_crop_4 : List UInt8 := dkwX9_crop_4 ++ dktX9_crop_5
def dkwX9_crop_3 : List UInt8 := [182, 1, 225, 167, 0, 4, 3, 79, 132, 3, 1, 167, 255, 207, 42, 2, 181, 2, 52, 42, 42, 180, 0, 168]
abbrev dktX9_crop_3 : List UInt8 := dkwX9_crop_3 ++ dktX9_crop_4
def dkwX9_crop_2 : List UInt8 := [112, 182, 1, 222, 153, 0, 25, 42, 29, 16, 10, 112, 42, 180, 0, 168, 5, 46, 29, 16, 10, 108, 96]
abbrev dktX9_crop_2 : List UInt8 := dkwX9_crop_2 ++ dktX9_crop_3
def dkwX9_crop_1 : List UInt8 := [16, 254, 172, 42, 182, 2, 58, 3, 62, 29, 16, 30, 162, 0, 49, 42, 180, 0, 192, 29, 42, 29, 16, 10]
abbrev dktX9_crop_1 : List UInt8 := dkwX9_crop_1 ++ dktX9_crop_2
def dkwX9_crop_0 : List UInt8 := [42, 3, 181, 0, 212, 27, 3, 6, 184, 1, 95, 153, 0, 12, 28, 3, 4, 184, 1, 95, 154, 0, 6]
abbrev dktX9_crop_0 : List UInt8 := dkwX9_crop_0 ++ dktX9_crop_1
theorem dksX9_crop_0 : cX9_crop.data.toList.drop 0 = dktX9_crop_0 := by decide +kernel
theorem dksX9_crop_1 : cX9_crop.data.toList.drop 23 = dktX9_crop_1 := dk_seg dksX9_crop_0 23 rfl rfl
theorem dksX9_crop_2 : cX9_crop.data.toList.drop 47 = dktX9_crop_2 := dk_seg dksX9_crop_1 24 rfl rfl
theorem dksX9_crop_3 : cX9_crop.data.toList.drop 70 = dktX9_crop_3 := dk_seg dksX9_crop_2 23 rfl rfl
theorem dksX9_crop_4 : cX9_crop.data.toList.drop 94 = dktX9_crop_4 := dk_seg dksX9_crop_3 24 rfl rfl
theorem dksX9_crop_5 : cX9_crop.data.toList.drop 118 = dktX9_crop_5 := dk_seg dksX9_crop_4 24 rfl rfl
theorem dX9_crop_0 : decode cX9_crop 0 = .ok (.aload_n 0, 1) := dk_42 (dk_at dksX9_crop_0 0 rfl rfl)
theorem dX9_crop_1 : decode cX9_crop 1 = .ok (.iconst 0, 1) := dk_3 (dk_at dksX9_crop_0 1 rfl rfl)
theorem dX9_crop_2 : decode cX9_crop 2 = .ok (.putfield 212, 3) := dk_181 0 212 (dk_at dksX9_crop_0 2 rfl rfl)
theorem dX9_crop_5 : decode cX9_crop 5 = .ok (.iload_n 1, 1) := dk_27 (dk_at dksX9_crop_0 5 rfl rfl)
theorem dX9_crop_6 : decode cX9_crop 6 = .ok (.iconst 0, 1) := dk_3 (dk_at dksX9_crop_0 6 rfl rfl)
theorem dX9_crop_7 : decode cX9_crop 7 = .ok (.iconst 3, 1) := dk_6 (dk_at dksX9_crop_0 7 rfl rfl)
theorem dX9_crop_8 : decode cX9_crop 8 = .ok (.invokestatic 351, 3) := dk_184 1 95 (dk_at dksX9_crop_0 8 rfl rfl)
theorem dX9_crop_11 : decode cX9_crop 11 = .ok (.ifCond .eq 12, 3) := dk_153 0 12 (dk_at dksX9_crop_0 11 rfl rfl)
theorem dX9_crop_14 : decode cX9_crop 14 = .ok (.iload_n 2, 1) := dk_28 (dk_at dksX9_crop_0 14 rfl rfl)
theorem dX9_crop_15 : decode cX9_crop 15 = .ok (.iconst 0, 1) := dk_3 (dk_at dksX9_crop_0 15 rfl rfl)
theorem dX9_crop_16 : decode cX9_crop 16 = .ok (.iconst 1, 1) := dk_4 (dk_at dksX9_crop_0 16 rfl rfl)
theorem dX9_crop_17 : decode cX9_crop 17 = .ok (.invokestatic 351, 3) := dk_184 1 95 (dk_at dksX9_crop_0 17 rfl rfl)
theorem dX9_crop_20 : decode cX9_crop 20 = .ok (.ifCond .ne 6, 3) := dk_154 0 6 (dk_at dksX9_crop_0 20 rfl rfl)
theorem dX9_crop_23 : decode cX9_crop 23 = .ok (.bipush (-2), 2) := dk_16 254 (dk_at dksX9_crop_1 0 rfl rfl)
theorem dX9_crop_25 : decode cX9_crop 25 = .ok (.ireturn, 1) := dk_172 (dk_at dksX9_crop_1 2 rfl rfl)
theorem dX9_crop_26 : decode cX9_crop 26 = .ok (.aload_n 0, 1) := dk_42 (dk_at dksX9_crop_1 3 rfl rfl)
theorem dX9_crop_27 : decode cX9_crop 27 = .ok (.invokevirtual 570, 3) := dk_182 2 58 (dk_at dksX9_crop_1 4 rfl rfl)
theorem dX9_crop_30 : decode cX9_crop 30 = .ok (.iconst 0, 1) := dk_3 (dk_at dksX9_crop_1 7 rfl rfl)
theorem dX9_crop_31 : decode cX9_crop 31 = .ok (.istore_n 3, 1) := dk_62 (dk_at dksX9_crop_1 8 rfl rfl)
theorem dX9_crop_32 : decode cX9_crop 32 = .ok (.iload_n 3, 1) := dk_29 (dk_at dksX9_crop_1 9 rfl rfl)
theorem dX9_crop_33 : decode cX9_crop 33 = .ok (.bipush 30, 2) := dk_16 30 (dk_at dksX9_crop_1 10 rfl rfl)
theorem dX9_crop_35 : decode cX9_crop 35 = .ok (.if_icmp .ge 49, 3) := dk_162 0 49 (dk_at dksX9_crop_1 12 rfl rfl)
theorem dX9_crop_38 : decode cX9_crop 38 = .ok (.aload_n 0, 1) := dk_42 (dk_at dksX9_crop_1 15 rfl rfl)
theorem dX9_crop_39 : decode cX9_crop 39 = .ok (.getfield 192, 3) := dk_180 0 192 (dk_at dksX9_crop_1 16 rfl rfl)
theorem dX9_crop_42 : decode cX9_crop 42 = .ok (.iload_n 3, 1) := dk_29 (dk_at dksX9_crop_1 19 rfl rfl)
theorem dX9_crop_43 : decode cX9_crop 43 = .ok (.aload_n 0, 1) := dk_42 (dk_at dksX9_crop_1 20 rfl rfl)
theorem dX9_crop_44 : decode cX9_crop 44 = .ok (.iload_n 3, 1) := dk_29 (dk_at dksX9_crop_1 21 rfl rfl)
theorem dX9_crop_45 : decode cX9_crop 45 = .ok (.bipush 10, 2) := dk_16 10 (dk_at dksX9_crop_1 22 rfl rfl)
theorem dX9_crop_47 : decode cX9_crop 47 = .ok (.irem, 1) := dk_112 (dk_at dksX9_crop_2 0 rfl rfl)
theorem dX9_crop_48 : decode cX9_crop 48 = .ok (.invokevirtual 478, 3) := dk_182 1 222 (dk_at dksX9_crop_2 1 rfl rfl)
theorem dX9_crop_51 : decode cX9_crop 51 = .ok (.ifCond .eq 25, 3) := dk_153 0 25 (dk_at dksX9_crop_2 4 rfl rfl)
theorem dX9_crop_54 : decode cX9_crop 54 = .ok (.aload_n 0, 1) := dk_42 (dk_at dksX9_crop_2 7 rfl rfl)
theorem dX9_crop_55 : decode cX9_crop 55 = .ok (.iload_n 3, 1) := dk_29 (dk_at dksX9_crop_2 8 rfl rfl)
theorem dX9_crop_56 : decode cX9_crop 56 = .ok (.bipush 10, 2) := dk_16 10 (dk_at dksX9_crop_2 9 rfl rfl)
theorem dX9_crop_58 : decode cX9_crop 58 = .ok (.irem, 1) := dk_112 (dk_at dksX9_crop_2 11 rfl rfl)
theorem dX9_crop_59 : decode cX9_crop 59 = .ok (.aload_n 0, 1) := dk_42 (dk_at dksX9_crop_2 12 rfl rfl)
theorem dX9_crop_60 : decode cX9_crop 60 = .ok (.getfield 168, 3) := dk_180 0 168 (dk_at dksX9_crop_2 13 rfl rfl)
theorem dX9_crop_63 : decode cX9_crop 63 = .ok (.iconst 2, 1) := dk_5 (dk_at dksX9_crop_2 16 rfl rfl)
theorem dX9_crop_64 : decode cX9_crop 64 = .ok (.iaload, 1) := dk_46 (dk_at dksX9_crop_2 17 rfl rfl)
theorem dX9_crop_65 : decode cX9_crop 65 = .ok (.iload_n 3, 1) := dk_29 (dk_at dksX9_crop_2 18 rfl rfl)
theorem dX9_crop_66 : decode cX9_crop 66 = .ok (.bipush 10, 2) := dk_16 10 (dk_at dksX9_crop_2 19 rfl rfl)
theorem dX9_crop_68 : decode cX9_crop 68 = .ok (.idiv, 1) := dk_108 (dk_at dksX9_crop_2 21 rfl rfl)
theorem dX9_crop_69 : decode cX9_crop 69 = .ok (.iadd, 1) := dk_96 (dk_at dksX9_crop_2 22 rfl rfl)
theorem dX9_crop_70 : decode cX9_crop 70 = .ok (.invokevirtual 481, 3) := dk_182 1 225 (dk_at dksX9_crop_3 0 rfl rfl)
theorem dX9_crop_73 : decode cX9_crop 73 = .ok (.goto 4, 3) := dk_167 0 4 (dk_at dksX9_crop_3 3 rfl rfl)
theorem dX9_crop_76 : decode cX9_crop 76 = .ok (.iconst 0, 1) := dk_3 (dk_at dksX9_crop_3 6 rfl rfl)
theorem dX9_crop_77 : decode cX9_crop 77 = .ok (.iastore, 1) := dk_79 (dk_at dksX9_crop_3 7 rfl rfl)
theorem dX9_crop_78 : decode cX9_crop 78 = .ok (.iinc 3 1, 3) := dk_132 3 1 (dk_at dksX9_crop_3 8 rfl rfl)
theorem dX9_crop_81 : decode cX9_crop 81 = .ok (.goto (-49), 3) := dk_167 255 207 (dk_at dksX9_crop_3 11 rfl rfl)
theorem dX9_crop_84 : decode cX9_crop 84 = .ok (.aload_n 0, 1) := dk_42 (dk_at dksX9_crop_3 14 rfl rfl)
theorem dX9_crop_85 : decode cX9_crop 85 = .ok (.iconst (-1), 1) := dk_2 (dk_at dksX9_crop_3 15 rfl rfl)
theorem dX9_crop_86 : decode cX9_crop 86 = .ok (.putfield 564, 3) := dk_181 2 52 (dk_at dksX9_crop_3 16 rfl rfl)
theorem dX9_crop_89 : decode cX9_crop 89 = .ok (.aload_n 0, 1) := dk_42 (dk_at dksX9_crop_3 19 rfl rfl)
theorem dX9_crop_90 : decode cX9_crop 90 = .ok (.aload_n 0, 1) := dk_42 (dk_at dksX9_crop_3 20 rfl rfl)
theorem dX9_crop_91 : decode cX9_crop 91 = .ok (.getfield 168, 3) := dk_180 0 168 (dk_at dksX9_crop_3 21 rfl rfl)
theorem dX9_crop_94 : decode cX9_crop 94 = .ok (.iconst 0, 1) := dk_3 (dk_at dksX9_crop_4 0 rfl rfl)
theorem dX9_crop_95 : decode cX9_crop 95 = .ok (.iaload, 1) := dk_46 (dk_at dksX9_crop_4 1 rfl rfl)
theorem dX9_crop_96 : decode cX9_crop 96 = .ok (.aload_n 0, 1) := dk_42 (dk_at dksX9_crop_4 2 rfl rfl)
theorem dX9_crop_97 : decode cX9_crop 97 = .ok (.getfield 168, 3) := dk_180 0 168 (dk_at dksX9_crop_4 3 rfl rfl)
theorem dX9_crop_100 : decode cX9_crop 100 = .ok (.iconst 1, 1) := dk_4 (dk_at dksX9_crop_4 6 rfl rfl)
theorem dX9_crop_101 : decode cX9_crop 101 = .ok (.iaload, 1) := dk_46 (dk_at dksX9_crop_4 7 rfl rfl)
theorem dX9_crop_102 : decode cX9_crop 102 = .ok (.iconst 0, 1) := dk_3 (dk_at dksX9_crop_4 8 rfl rfl)
theorem dX9_crop_103 : decode cX9_crop 103 = .ok (.iload_n 1, 1) := dk_27 (dk_at dksX9_crop_4 9 rfl rfl)
theorem dX9_crop_104 : decode cX9_crop 104 = .ok (.iconst 1, 1) := dk_4 (dk_at dksX9_crop_4 10 rfl rfl)
theorem dX9_crop_105 : decode cX9_crop 105 = .ok (.invokevirtual 560, 3) := dk_182 2 48 (dk_at dksX9_crop_4 11 rfl rfl)
theorem dX9_crop_108 : decode cX9_crop 108 = .ok (.istore_n 3, 1) := dk_62 (dk_at dksX9_crop_4 14 rfl rfl)
theorem dX9_crop_109 : decode cX9_crop 109 = .ok (.iload_n 2, 1) := dk_28 (dk_at dksX9_crop_4 15 rfl rfl)
theorem dX9_crop_110 : decode cX9_crop 110 = .ok (.ifCond .ne 7, 3) := dk_154 0 7 (dk_at dksX9_crop_4 16 rfl rfl)
theorem dX9_crop_113 : decode cX9_crop 113 = .ok (.iload_n 3, 1) := dk_29 (dk_at dksX9_crop_4 19 rfl rfl)
theorem dX9_crop_114 : decode cX9_crop 114 = .ok (.goto 7, 3) := dk_167 0 7 (dk_at dksX9_crop_4 20 rfl rfl)
theorem dX9_crop_117 : decode cX9_crop 117 = .ok (.aload_n 0, 1) := dk_42 (dk_at dksX9_crop_4 23 rfl rfl)
theorem dX9_crop_118 : decode cX9_crop 118 = .ok (.getfield 564, 3) := dk_180 2 52 (dk_at dksX9_crop_5 0 rfl rfl)
theorem dX9_crop_121 : decode cX9_crop 121 = .ok (.ireturn, 1) := dk_172 (dk_at dksX9_crop_5 3 rfl rfl)
abbrev cX9_laysCalls : ByteArray := prog_35_method_84_code
def yX9_laysCalls : MethodName := ⟨RX9, "laysCalls", "()V"⟩
def dkwX9_laysCalls_5 : List UInt8 := [167, 255, 145, 177]
abbrev dktX9_laysCalls_5 : List UInt8 := dkwX9_laysCalls_5 ++ []
def dkwX9_laysCalls_4 : List UInt8 := [28, 96, 79, 42, 89, 180, 2, 45, 4, 96, 181, 2, 45, 132, 2, 1, 167, 255, 163, 132, 1, 1]
abbrev dktX9_laysCalls_4 : List UInt8 := dkwX9_laysCalls_4 ++ dktX9_laysCalls_5
def dkwX9_laysCalls_3 : List UInt8 := [180, 0, 186, 42, 180, 2, 45, 42, 180, 1, 240, 79, 42, 180, 0, 189, 42, 180, 2, 45, 16, 16, 27, 104]
abbrev dktX9_laysCalls_3 : List UInt8 := dkwX9_laysCalls_3 ++ dktX9_laysCalls_4
def dkwX9_laysCalls_2 : List UInt8 := [46, 42, 180, 0, 47, 27, 46, 182, 1, 255, 42, 180, 0, 183, 42, 180, 2, 45, 42, 180, 1, 237, 79, 42]
abbrev dktX9_laysCalls_2 : List UInt8 := dkwX9_laysCalls_2 ++ dktX9_laysCalls_3
def dkwX9_laysCalls_1 : List UInt8 := [4, 46, 162, 0, 89, 42, 27, 28, 182, 1, 234, 154, 0, 6, 167, 0, 71, 42, 28, 42, 180, 0, 44, 27]
abbrev dktX9_laysCalls_1 : List UInt8 := dkwX9_laysCalls_1 ++ dktX9_laysCalls_2
def dkwX9_laysCalls_0 : List UInt8 := [42, 3, 181, 2, 45, 3, 60, 27, 42, 180, 0, 13, 5, 46, 162, 0, 107, 3, 61, 28, 42, 180, 0, 13]
abbrev dktX9_laysCalls_0 : List UInt8 := dkwX9_laysCalls_0 ++ dktX9_laysCalls_1
theorem dksX9_laysCalls_0 : cX9_laysCalls.data.toList.drop 0 = dktX9_laysCalls_0 := by decide +kernel
theorem dksX9_laysCalls_1 : cX9_laysCalls.data.toList.drop 24 = dktX9_laysCalls_1 := dk_seg dksX9_laysCalls_0 24 rfl rfl
theorem dksX9_laysCalls_2 : cX9_laysCalls.data.toList.drop 48 = dktX9_laysCalls_2 := dk_seg dksX9_laysCalls_1 24 rfl rfl
theorem dksX9_laysCalls_3 : cX9_laysCalls.data.toList.drop 72 = dktX9_laysCalls_3 := dk_seg dksX9_laysCalls_2 24 rfl rfl
theorem dksX9_laysCalls_4 : cX9_laysCalls.data.toList.drop 96 = dktX9_laysCalls_4 := dk_seg dksX9_laysCalls_3 24 rfl rfl
theorem dksX9_laysCalls_5 : cX9_laysCalls.data.toList.drop 118 = dktX9_laysCalls_5 := dk_seg dksX9_laysCalls_4 22 rfl rfl
theorem dX9_laysCalls_0 : decode cX9_laysCalls 0 = .ok (.aload_n 0, 1) := dk_42 (dk_at dksX9_laysCalls_0 0 rfl rfl)
theorem dX9_laysCalls_1 : decode cX9_laysCalls 1 = .ok (.iconst 0, 1) := dk_3 (dk_at dksX9_laysCalls_0 1 rfl rfl)
theorem dX9_laysCalls_2 : decode cX9_laysCalls 2 = .ok (.putfield 557, 3) := dk_181 2 45 (dk_at dksX9_laysCalls_0 2 rfl rfl)
theorem dX9_laysCalls_5 : decode cX9_laysCalls 5 = .ok (.iconst 0, 1) := dk_3 (dk_at dksX9_laysCalls_0 5 rfl rfl)
theorem dX9_laysCalls_6 : decode cX9_laysCalls 6 = .ok (.istore_n 1, 1) := dk_60 (dk_at dksX9_laysCalls_0 6 rfl rfl)
theorem dX9_laysCalls_7 : decode cX9_laysCalls 7 = .ok (.iload_n 1, 1) := dk_27 (dk_at dksX9_laysCalls_0 7 rfl rfl)
theorem dX9_laysCalls_8 : decode cX9_laysCalls 8 = .ok (.aload_n 0, 1) := dk_42 (dk_at dksX9_laysCalls_0 8 rfl rfl)
theorem dX9_laysCalls_9 : decode cX9_laysCalls 9 = .ok (.getfield 13, 3) := dk_180 0 13 (dk_at dksX9_laysCalls_0 9 rfl rfl)
theorem dX9_laysCalls_12 : decode cX9_laysCalls 12 = .ok (.iconst 2, 1) := dk_5 (dk_at dksX9_laysCalls_0 12 rfl rfl)
theorem dX9_laysCalls_13 : decode cX9_laysCalls 13 = .ok (.iaload, 1) := dk_46 (dk_at dksX9_laysCalls_0 13 rfl rfl)
theorem dX9_laysCalls_14 : decode cX9_laysCalls 14 = .ok (.if_icmp .ge 107, 3) := dk_162 0 107 (dk_at dksX9_laysCalls_0 14 rfl rfl)
theorem dX9_laysCalls_17 : decode cX9_laysCalls 17 = .ok (.iconst 0, 1) := dk_3 (dk_at dksX9_laysCalls_0 17 rfl rfl)
theorem dX9_laysCalls_18 : decode cX9_laysCalls 18 = .ok (.istore_n 2, 1) := dk_61 (dk_at dksX9_laysCalls_0 18 rfl rfl)
theorem dX9_laysCalls_19 : decode cX9_laysCalls 19 = .ok (.iload_n 2, 1) := dk_28 (dk_at dksX9_laysCalls_0 19 rfl rfl)
theorem dX9_laysCalls_20 : decode cX9_laysCalls 20 = .ok (.aload_n 0, 1) := dk_42 (dk_at dksX9_laysCalls_0 20 rfl rfl)
theorem dX9_laysCalls_21 : decode cX9_laysCalls 21 = .ok (.getfield 13, 3) := dk_180 0 13 (dk_at dksX9_laysCalls_0 21 rfl rfl)
theorem dX9_laysCalls_24 : decode cX9_laysCalls 24 = .ok (.iconst 1, 1) := dk_4 (dk_at dksX9_laysCalls_1 0 rfl rfl)
theorem dX9_laysCalls_25 : decode cX9_laysCalls 25 = .ok (.iaload, 1) := dk_46 (dk_at dksX9_laysCalls_1 1 rfl rfl)
theorem dX9_laysCalls_26 : decode cX9_laysCalls 26 = .ok (.if_icmp .ge 89, 3) := dk_162 0 89 (dk_at dksX9_laysCalls_1 2 rfl rfl)
theorem dX9_laysCalls_29 : decode cX9_laysCalls 29 = .ok (.aload_n 0, 1) := dk_42 (dk_at dksX9_laysCalls_1 5 rfl rfl)
theorem dX9_laysCalls_30 : decode cX9_laysCalls 30 = .ok (.iload_n 1, 1) := dk_27 (dk_at dksX9_laysCalls_1 6 rfl rfl)
theorem dX9_laysCalls_31 : decode cX9_laysCalls 31 = .ok (.iload_n 2, 1) := dk_28 (dk_at dksX9_laysCalls_1 7 rfl rfl)
theorem dX9_laysCalls_32 : decode cX9_laysCalls 32 = .ok (.invokevirtual 490, 3) := dk_182 1 234 (dk_at dksX9_laysCalls_1 8 rfl rfl)
theorem dX9_laysCalls_35 : decode cX9_laysCalls 35 = .ok (.ifCond .ne 6, 3) := dk_154 0 6 (dk_at dksX9_laysCalls_1 11 rfl rfl)
theorem dX9_laysCalls_38 : decode cX9_laysCalls 38 = .ok (.goto 71, 3) := dk_167 0 71 (dk_at dksX9_laysCalls_1 14 rfl rfl)
theorem dX9_laysCalls_41 : decode cX9_laysCalls 41 = .ok (.aload_n 0, 1) := dk_42 (dk_at dksX9_laysCalls_1 17 rfl rfl)
theorem dX9_laysCalls_42 : decode cX9_laysCalls 42 = .ok (.iload_n 2, 1) := dk_28 (dk_at dksX9_laysCalls_1 18 rfl rfl)
theorem dX9_laysCalls_43 : decode cX9_laysCalls 43 = .ok (.aload_n 0, 1) := dk_42 (dk_at dksX9_laysCalls_1 19 rfl rfl)
theorem dX9_laysCalls_44 : decode cX9_laysCalls 44 = .ok (.getfield 44, 3) := dk_180 0 44 (dk_at dksX9_laysCalls_1 20 rfl rfl)
theorem dX9_laysCalls_47 : decode cX9_laysCalls 47 = .ok (.iload_n 1, 1) := dk_27 (dk_at dksX9_laysCalls_1 23 rfl rfl)
theorem dX9_laysCalls_48 : decode cX9_laysCalls 48 = .ok (.iaload, 1) := dk_46 (dk_at dksX9_laysCalls_2 0 rfl rfl)
theorem dX9_laysCalls_49 : decode cX9_laysCalls 49 = .ok (.aload_n 0, 1) := dk_42 (dk_at dksX9_laysCalls_2 1 rfl rfl)
theorem dX9_laysCalls_50 : decode cX9_laysCalls 50 = .ok (.getfield 47, 3) := dk_180 0 47 (dk_at dksX9_laysCalls_2 2 rfl rfl)
theorem dX9_laysCalls_53 : decode cX9_laysCalls 53 = .ok (.iload_n 1, 1) := dk_27 (dk_at dksX9_laysCalls_2 5 rfl rfl)
theorem dX9_laysCalls_54 : decode cX9_laysCalls 54 = .ok (.iaload, 1) := dk_46 (dk_at dksX9_laysCalls_2 6 rfl rfl)
theorem dX9_laysCalls_55 : decode cX9_laysCalls 55 = .ok (.invokevirtual 511, 3) := dk_182 1 255 (dk_at dksX9_laysCalls_2 7 rfl rfl)
theorem dX9_laysCalls_58 : decode cX9_laysCalls 58 = .ok (.aload_n 0, 1) := dk_42 (dk_at dksX9_laysCalls_2 10 rfl rfl)
theorem dX9_laysCalls_59 : decode cX9_laysCalls 59 = .ok (.getfield 183, 3) := dk_180 0 183 (dk_at dksX9_laysCalls_2 11 rfl rfl)
theorem dX9_laysCalls_62 : decode cX9_laysCalls 62 = .ok (.aload_n 0, 1) := dk_42 (dk_at dksX9_laysCalls_2 14 rfl rfl)
theorem dX9_laysCalls_63 : decode cX9_laysCalls 63 = .ok (.getfield 557, 3) := dk_180 2 45 (dk_at dksX9_laysCalls_2 15 rfl rfl)
theorem dX9_laysCalls_66 : decode cX9_laysCalls 66 = .ok (.aload_n 0, 1) := dk_42 (dk_at dksX9_laysCalls_2 18 rfl rfl)
theorem dX9_laysCalls_67 : decode cX9_laysCalls 67 = .ok (.getfield 493, 3) := dk_180 1 237 (dk_at dksX9_laysCalls_2 19 rfl rfl)
theorem dX9_laysCalls_70 : decode cX9_laysCalls 70 = .ok (.iastore, 1) := dk_79 (dk_at dksX9_laysCalls_2 22 rfl rfl)
theorem dX9_laysCalls_71 : decode cX9_laysCalls 71 = .ok (.aload_n 0, 1) := dk_42 (dk_at dksX9_laysCalls_2 23 rfl rfl)
theorem dX9_laysCalls_72 : decode cX9_laysCalls 72 = .ok (.getfield 186, 3) := dk_180 0 186 (dk_at dksX9_laysCalls_3 0 rfl rfl)
theorem dX9_laysCalls_75 : decode cX9_laysCalls 75 = .ok (.aload_n 0, 1) := dk_42 (dk_at dksX9_laysCalls_3 3 rfl rfl)
theorem dX9_laysCalls_76 : decode cX9_laysCalls 76 = .ok (.getfield 557, 3) := dk_180 2 45 (dk_at dksX9_laysCalls_3 4 rfl rfl)
theorem dX9_laysCalls_79 : decode cX9_laysCalls 79 = .ok (.aload_n 0, 1) := dk_42 (dk_at dksX9_laysCalls_3 7 rfl rfl)
theorem dX9_laysCalls_80 : decode cX9_laysCalls 80 = .ok (.getfield 496, 3) := dk_180 1 240 (dk_at dksX9_laysCalls_3 8 rfl rfl)
theorem dX9_laysCalls_83 : decode cX9_laysCalls 83 = .ok (.iastore, 1) := dk_79 (dk_at dksX9_laysCalls_3 11 rfl rfl)
theorem dX9_laysCalls_84 : decode cX9_laysCalls 84 = .ok (.aload_n 0, 1) := dk_42 (dk_at dksX9_laysCalls_3 12 rfl rfl)
theorem dX9_laysCalls_85 : decode cX9_laysCalls 85 = .ok (.getfield 189, 3) := dk_180 0 189 (dk_at dksX9_laysCalls_3 13 rfl rfl)
theorem dX9_laysCalls_88 : decode cX9_laysCalls 88 = .ok (.aload_n 0, 1) := dk_42 (dk_at dksX9_laysCalls_3 16 rfl rfl)
theorem dX9_laysCalls_89 : decode cX9_laysCalls 89 = .ok (.getfield 557, 3) := dk_180 2 45 (dk_at dksX9_laysCalls_3 17 rfl rfl)
theorem dX9_laysCalls_92 : decode cX9_laysCalls 92 = .ok (.bipush 16, 2) := dk_16 16 (dk_at dksX9_laysCalls_3 20 rfl rfl)
theorem dX9_laysCalls_94 : decode cX9_laysCalls 94 = .ok (.iload_n 1, 1) := dk_27 (dk_at dksX9_laysCalls_3 22 rfl rfl)
theorem dX9_laysCalls_95 : decode cX9_laysCalls 95 = .ok (.imul, 1) := dk_104 (dk_at dksX9_laysCalls_3 23 rfl rfl)
theorem dX9_laysCalls_96 : decode cX9_laysCalls 96 = .ok (.iload_n 2, 1) := dk_28 (dk_at dksX9_laysCalls_4 0 rfl rfl)
theorem dX9_laysCalls_97 : decode cX9_laysCalls 97 = .ok (.iadd, 1) := dk_96 (dk_at dksX9_laysCalls_4 1 rfl rfl)
theorem dX9_laysCalls_98 : decode cX9_laysCalls 98 = .ok (.iastore, 1) := dk_79 (dk_at dksX9_laysCalls_4 2 rfl rfl)
theorem dX9_laysCalls_99 : decode cX9_laysCalls 99 = .ok (.aload_n 0, 1) := dk_42 (dk_at dksX9_laysCalls_4 3 rfl rfl)
theorem dX9_laysCalls_100 : decode cX9_laysCalls 100 = .ok (.dup, 1) := dk_89 (dk_at dksX9_laysCalls_4 4 rfl rfl)
theorem dX9_laysCalls_101 : decode cX9_laysCalls 101 = .ok (.getfield 557, 3) := dk_180 2 45 (dk_at dksX9_laysCalls_4 5 rfl rfl)
theorem dX9_laysCalls_104 : decode cX9_laysCalls 104 = .ok (.iconst 1, 1) := dk_4 (dk_at dksX9_laysCalls_4 8 rfl rfl)
theorem dX9_laysCalls_105 : decode cX9_laysCalls 105 = .ok (.iadd, 1) := dk_96 (dk_at dksX9_laysCalls_4 9 rfl rfl)
theorem dX9_laysCalls_106 : decode cX9_laysCalls 106 = .ok (.putfield 557, 3) := dk_181 2 45 (dk_at dksX9_laysCalls_4 10 rfl rfl)
theorem dX9_laysCalls_109 : decode cX9_laysCalls 109 = .ok (.iinc 2 1, 3) := dk_132 2 1 (dk_at dksX9_laysCalls_4 13 rfl rfl)
theorem dX9_laysCalls_112 : decode cX9_laysCalls 112 = .ok (.goto (-93), 3) := dk_167 255 163 (dk_at dksX9_laysCalls_4 16 rfl rfl)
theorem dX9_laysCalls_115 : decode cX9_laysCalls 115 = .ok (.iinc 1 1, 3) := dk_132 1 1 (dk_at dksX9_laysCalls_4 19 rfl rfl)
theorem dX9_laysCalls_118 : decode cX9_laysCalls 118 = .ok (.goto (-111), 3) := dk_167 255 145 (dk_at dksX9_laysCalls_5 0 rfl rfl)
theorem dX9_laysCalls_121 : decode cX9_laysCalls 121 = .ok (.return_, 1) := dk_177 (dk_at dksX9_laysCalls_5 3 rfl rfl)
abbrev cX9_cropOf : ByteArray := prog_35_method_86_code
def yX9_cropOf : MethodName := ⟨RX9, "cropOf", "(IIIIZ)I"⟩
def dkwX9_cropOf_6 : List UInt8 := [153, 0, 14, 42, 42, 180, 0, 189, 21, 7, 46, 181, 2, 52, 132, 7, 1, 167, 255, 137, 21, 6, 172]
abbrev dktX9_cropOf_6 : List UInt8 := dkwX9_cropOf_6 ++ []
def dkwX9_cropOf_5 : List UInt8 := [182, 2, 48, 96, 54, 9, 21, 9, 21, 6, 163, 0, 6, 167, 0, 23, 21, 9, 54, 6, 21, 5]
abbrev dktX9_cropOf_5 : List UInt8 := dkwX9_cropOf_5 ++ dktX9_cropOf_6
def dkwX9_cropOf_4 : List UInt8 := [182, 2, 55, 42, 27, 21, 8, 2, 130, 126, 42, 180, 1, 252, 29, 4, 96, 21, 4, 4, 100, 3]
abbrev dktX9_cropOf_4 : List UInt8 := dkwX9_cropOf_4 ++ dktX9_cropOf_5
def dkwX9_cropOf_3 : List UInt8 := [42, 180, 0, 183, 21, 7, 46, 42, 180, 0, 186, 21, 7, 46, 182, 2, 3, 54, 8, 42, 21, 8, 29]
abbrev dktX9_cropOf_3 : List UInt8 := dkwX9_cropOf_3 ++ dktX9_cropOf_4
def dkwX9_cropOf_2 : List UInt8 := [180, 0, 183, 21, 7, 46, 42, 180, 0, 186, 21, 7, 46, 128, 126, 154, 0, 6, 167, 0, 87, 42, 27, 28]
abbrev dktX9_cropOf_2 : List UInt8 := dkwX9_cropOf_2 ++ dktX9_cropOf_3
def dkwX9_cropOf_1 : List UInt8 := [21, 5, 153, 0, 8, 42, 2, 181, 2, 52, 3, 54, 7, 21, 7, 42, 180, 2, 45, 162, 0, 116, 27, 42]
abbrev dktX9_cropOf_1 : List UInt8 := dkwX9_cropOf_1 ++ dktX9_cropOf_2
def dkwX9_cropOf_0 : List UInt8 := [21, 4, 154, 0, 5, 3, 172, 42, 27, 28, 29, 4, 96, 21, 4, 4, 100, 3, 182, 2, 48, 54, 6]
abbrev dktX9_cropOf_0 : List UInt8 := dkwX9_cropOf_0 ++ dktX9_cropOf_1
theorem dksX9_cropOf_0 : cX9_cropOf.data.toList.drop 0 = dktX9_cropOf_0 := by decide +kernel
theorem dksX9_cropOf_1 : cX9_cropOf.data.toList.drop 23 = dktX9_cropOf_1 := dk_seg dksX9_cropOf_0 23 rfl rfl
theorem dksX9_cropOf_2 : cX9_cropOf.data.toList.drop 47 = dktX9_cropOf_2 := dk_seg dksX9_cropOf_1 24 rfl rfl
theorem dksX9_cropOf_3 : cX9_cropOf.data.toList.drop 71 = dktX9_cropOf_3 := dk_seg dksX9_cropOf_2 24 rfl rfl
theorem dksX9_cropOf_4 : cX9_cropOf.data.toList.drop 94 = dktX9_cropOf_4 := dk_seg dksX9_cropOf_3 23 rfl rfl
theorem dksX9_cropOf_5 : cX9_cropOf.data.toList.drop 116 = dktX9_cropOf_5 := dk_seg dksX9_cropOf_4 22 rfl rfl
theorem dksX9_cropOf_6 : cX9_cropOf.data.toList.drop 138 = dktX9_cropOf_6 := dk_seg dksX9_cropOf_5 22 rfl rfl
theorem dX9_cropOf_0 : decode cX9_cropOf 0 = .ok (.iload 4, 2) := dk_21 4 (dk_at dksX9_cropOf_0 0 rfl rfl)
theorem dX9_cropOf_2 : decode cX9_cropOf 2 = .ok (.ifCond .ne 5, 3) := dk_154 0 5 (dk_at dksX9_cropOf_0 2 rfl rfl)
theorem dX9_cropOf_5 : decode cX9_cropOf 5 = .ok (.iconst 0, 1) := dk_3 (dk_at dksX9_cropOf_0 5 rfl rfl)
theorem dX9_cropOf_6 : decode cX9_cropOf 6 = .ok (.ireturn, 1) := dk_172 (dk_at dksX9_cropOf_0 6 rfl rfl)
theorem dX9_cropOf_7 : decode cX9_cropOf 7 = .ok (.aload_n 0, 1) := dk_42 (dk_at dksX9_cropOf_0 7 rfl rfl)
theorem dX9_cropOf_8 : decode cX9_cropOf 8 = .ok (.iload_n 1, 1) := dk_27 (dk_at dksX9_cropOf_0 8 rfl rfl)
theorem dX9_cropOf_9 : decode cX9_cropOf 9 = .ok (.iload_n 2, 1) := dk_28 (dk_at dksX9_cropOf_0 9 rfl rfl)
theorem dX9_cropOf_10 : decode cX9_cropOf 10 = .ok (.iload_n 3, 1) := dk_29 (dk_at dksX9_cropOf_0 10 rfl rfl)
theorem dX9_cropOf_11 : decode cX9_cropOf 11 = .ok (.iconst 1, 1) := dk_4 (dk_at dksX9_cropOf_0 11 rfl rfl)
theorem dX9_cropOf_12 : decode cX9_cropOf 12 = .ok (.iadd, 1) := dk_96 (dk_at dksX9_cropOf_0 12 rfl rfl)
theorem dX9_cropOf_13 : decode cX9_cropOf 13 = .ok (.iload 4, 2) := dk_21 4 (dk_at dksX9_cropOf_0 13 rfl rfl)
theorem dX9_cropOf_15 : decode cX9_cropOf 15 = .ok (.iconst 1, 1) := dk_4 (dk_at dksX9_cropOf_0 15 rfl rfl)
theorem dX9_cropOf_16 : decode cX9_cropOf 16 = .ok (.isub, 1) := dk_100 (dk_at dksX9_cropOf_0 16 rfl rfl)
theorem dX9_cropOf_17 : decode cX9_cropOf 17 = .ok (.iconst 0, 1) := dk_3 (dk_at dksX9_cropOf_0 17 rfl rfl)
theorem dX9_cropOf_18 : decode cX9_cropOf 18 = .ok (.invokevirtual 560, 3) := dk_182 2 48 (dk_at dksX9_cropOf_0 18 rfl rfl)
theorem dX9_cropOf_21 : decode cX9_cropOf 21 = .ok (.istore 6, 2) := dk_54 6 (dk_at dksX9_cropOf_0 21 rfl rfl)
theorem dX9_cropOf_23 : decode cX9_cropOf 23 = .ok (.iload 5, 2) := dk_21 5 (dk_at dksX9_cropOf_1 0 rfl rfl)
theorem dX9_cropOf_25 : decode cX9_cropOf 25 = .ok (.ifCond .eq 8, 3) := dk_153 0 8 (dk_at dksX9_cropOf_1 2 rfl rfl)
theorem dX9_cropOf_28 : decode cX9_cropOf 28 = .ok (.aload_n 0, 1) := dk_42 (dk_at dksX9_cropOf_1 5 rfl rfl)
theorem dX9_cropOf_29 : decode cX9_cropOf 29 = .ok (.iconst (-1), 1) := dk_2 (dk_at dksX9_cropOf_1 6 rfl rfl)
theorem dX9_cropOf_30 : decode cX9_cropOf 30 = .ok (.putfield 564, 3) := dk_181 2 52 (dk_at dksX9_cropOf_1 7 rfl rfl)
theorem dX9_cropOf_33 : decode cX9_cropOf 33 = .ok (.iconst 0, 1) := dk_3 (dk_at dksX9_cropOf_1 10 rfl rfl)
theorem dX9_cropOf_34 : decode cX9_cropOf 34 = .ok (.istore 7, 2) := dk_54 7 (dk_at dksX9_cropOf_1 11 rfl rfl)
theorem dX9_cropOf_36 : decode cX9_cropOf 36 = .ok (.iload 7, 2) := dk_21 7 (dk_at dksX9_cropOf_1 13 rfl rfl)
theorem dX9_cropOf_38 : decode cX9_cropOf 38 = .ok (.aload_n 0, 1) := dk_42 (dk_at dksX9_cropOf_1 15 rfl rfl)
theorem dX9_cropOf_39 : decode cX9_cropOf 39 = .ok (.getfield 557, 3) := dk_180 2 45 (dk_at dksX9_cropOf_1 16 rfl rfl)
theorem dX9_cropOf_42 : decode cX9_cropOf 42 = .ok (.if_icmp .ge 116, 3) := dk_162 0 116 (dk_at dksX9_cropOf_1 19 rfl rfl)
theorem dX9_cropOf_45 : decode cX9_cropOf 45 = .ok (.iload_n 1, 1) := dk_27 (dk_at dksX9_cropOf_1 22 rfl rfl)
theorem dX9_cropOf_46 : decode cX9_cropOf 46 = .ok (.aload_n 0, 1) := dk_42 (dk_at dksX9_cropOf_1 23 rfl rfl)
theorem dX9_cropOf_47 : decode cX9_cropOf 47 = .ok (.getfield 183, 3) := dk_180 0 183 (dk_at dksX9_cropOf_2 0 rfl rfl)
theorem dX9_cropOf_50 : decode cX9_cropOf 50 = .ok (.iload 7, 2) := dk_21 7 (dk_at dksX9_cropOf_2 3 rfl rfl)
theorem dX9_cropOf_52 : decode cX9_cropOf 52 = .ok (.iaload, 1) := dk_46 (dk_at dksX9_cropOf_2 5 rfl rfl)
theorem dX9_cropOf_53 : decode cX9_cropOf 53 = .ok (.aload_n 0, 1) := dk_42 (dk_at dksX9_cropOf_2 6 rfl rfl)
theorem dX9_cropOf_54 : decode cX9_cropOf 54 = .ok (.getfield 186, 3) := dk_180 0 186 (dk_at dksX9_cropOf_2 7 rfl rfl)
theorem dX9_cropOf_57 : decode cX9_cropOf 57 = .ok (.iload 7, 2) := dk_21 7 (dk_at dksX9_cropOf_2 10 rfl rfl)
theorem dX9_cropOf_59 : decode cX9_cropOf 59 = .ok (.iaload, 1) := dk_46 (dk_at dksX9_cropOf_2 12 rfl rfl)
theorem dX9_cropOf_60 : decode cX9_cropOf 60 = .ok (.ior, 1) := dk_128 (dk_at dksX9_cropOf_2 13 rfl rfl)
theorem dX9_cropOf_61 : decode cX9_cropOf 61 = .ok (.iand, 1) := dk_126 (dk_at dksX9_cropOf_2 14 rfl rfl)
theorem dX9_cropOf_62 : decode cX9_cropOf 62 = .ok (.ifCond .ne 6, 3) := dk_154 0 6 (dk_at dksX9_cropOf_2 15 rfl rfl)
theorem dX9_cropOf_65 : decode cX9_cropOf 65 = .ok (.goto 87, 3) := dk_167 0 87 (dk_at dksX9_cropOf_2 18 rfl rfl)
theorem dX9_cropOf_68 : decode cX9_cropOf 68 = .ok (.aload_n 0, 1) := dk_42 (dk_at dksX9_cropOf_2 21 rfl rfl)
theorem dX9_cropOf_69 : decode cX9_cropOf 69 = .ok (.iload_n 1, 1) := dk_27 (dk_at dksX9_cropOf_2 22 rfl rfl)
theorem dX9_cropOf_70 : decode cX9_cropOf 70 = .ok (.iload_n 2, 1) := dk_28 (dk_at dksX9_cropOf_2 23 rfl rfl)
theorem dX9_cropOf_71 : decode cX9_cropOf 71 = .ok (.aload_n 0, 1) := dk_42 (dk_at dksX9_cropOf_3 0 rfl rfl)
theorem dX9_cropOf_72 : decode cX9_cropOf 72 = .ok (.getfield 183, 3) := dk_180 0 183 (dk_at dksX9_cropOf_3 1 rfl rfl)
theorem dX9_cropOf_75 : decode cX9_cropOf 75 = .ok (.iload 7, 2) := dk_21 7 (dk_at dksX9_cropOf_3 4 rfl rfl)
theorem dX9_cropOf_77 : decode cX9_cropOf 77 = .ok (.iaload, 1) := dk_46 (dk_at dksX9_cropOf_3 6 rfl rfl)
theorem dX9_cropOf_78 : decode cX9_cropOf 78 = .ok (.aload_n 0, 1) := dk_42 (dk_at dksX9_cropOf_3 7 rfl rfl)
theorem dX9_cropOf_79 : decode cX9_cropOf 79 = .ok (.getfield 186, 3) := dk_180 0 186 (dk_at dksX9_cropOf_3 8 rfl rfl)
theorem dX9_cropOf_82 : decode cX9_cropOf 82 = .ok (.iload 7, 2) := dk_21 7 (dk_at dksX9_cropOf_3 11 rfl rfl)
theorem dX9_cropOf_84 : decode cX9_cropOf 84 = .ok (.iaload, 1) := dk_46 (dk_at dksX9_cropOf_3 13 rfl rfl)
theorem dX9_cropOf_85 : decode cX9_cropOf 85 = .ok (.invokevirtual 515, 3) := dk_182 2 3 (dk_at dksX9_cropOf_3 14 rfl rfl)
theorem dX9_cropOf_88 : decode cX9_cropOf 88 = .ok (.istore 8, 2) := dk_54 8 (dk_at dksX9_cropOf_3 17 rfl rfl)
theorem dX9_cropOf_90 : decode cX9_cropOf 90 = .ok (.aload_n 0, 1) := dk_42 (dk_at dksX9_cropOf_3 19 rfl rfl)
theorem dX9_cropOf_91 : decode cX9_cropOf 91 = .ok (.iload 8, 2) := dk_21 8 (dk_at dksX9_cropOf_3 20 rfl rfl)
theorem dX9_cropOf_93 : decode cX9_cropOf 93 = .ok (.iload_n 3, 1) := dk_29 (dk_at dksX9_cropOf_3 22 rfl rfl)
theorem dX9_cropOf_94 : decode cX9_cropOf 94 = .ok (.invokevirtual 567, 3) := dk_182 2 55 (dk_at dksX9_cropOf_4 0 rfl rfl)
theorem dX9_cropOf_97 : decode cX9_cropOf 97 = .ok (.aload_n 0, 1) := dk_42 (dk_at dksX9_cropOf_4 3 rfl rfl)
theorem dX9_cropOf_98 : decode cX9_cropOf 98 = .ok (.iload_n 1, 1) := dk_27 (dk_at dksX9_cropOf_4 4 rfl rfl)
theorem dX9_cropOf_99 : decode cX9_cropOf 99 = .ok (.iload 8, 2) := dk_21 8 (dk_at dksX9_cropOf_4 5 rfl rfl)
theorem dX9_cropOf_101 : decode cX9_cropOf 101 = .ok (.iconst (-1), 1) := dk_2 (dk_at dksX9_cropOf_4 7 rfl rfl)
theorem dX9_cropOf_102 : decode cX9_cropOf 102 = .ok (.ixor, 1) := dk_130 (dk_at dksX9_cropOf_4 8 rfl rfl)
theorem dX9_cropOf_103 : decode cX9_cropOf 103 = .ok (.iand, 1) := dk_126 (dk_at dksX9_cropOf_4 9 rfl rfl)
theorem dX9_cropOf_104 : decode cX9_cropOf 104 = .ok (.aload_n 0, 1) := dk_42 (dk_at dksX9_cropOf_4 10 rfl rfl)
theorem dX9_cropOf_105 : decode cX9_cropOf 105 = .ok (.getfield 508, 3) := dk_180 1 252 (dk_at dksX9_cropOf_4 11 rfl rfl)
theorem dX9_cropOf_108 : decode cX9_cropOf 108 = .ok (.iload_n 3, 1) := dk_29 (dk_at dksX9_cropOf_4 14 rfl rfl)
theorem dX9_cropOf_109 : decode cX9_cropOf 109 = .ok (.iconst 1, 1) := dk_4 (dk_at dksX9_cropOf_4 15 rfl rfl)
theorem dX9_cropOf_110 : decode cX9_cropOf 110 = .ok (.iadd, 1) := dk_96 (dk_at dksX9_cropOf_4 16 rfl rfl)
theorem dX9_cropOf_111 : decode cX9_cropOf 111 = .ok (.iload 4, 2) := dk_21 4 (dk_at dksX9_cropOf_4 17 rfl rfl)
theorem dX9_cropOf_113 : decode cX9_cropOf 113 = .ok (.iconst 1, 1) := dk_4 (dk_at dksX9_cropOf_4 19 rfl rfl)
theorem dX9_cropOf_114 : decode cX9_cropOf 114 = .ok (.isub, 1) := dk_100 (dk_at dksX9_cropOf_4 20 rfl rfl)
theorem dX9_cropOf_115 : decode cX9_cropOf 115 = .ok (.iconst 0, 1) := dk_3 (dk_at dksX9_cropOf_4 21 rfl rfl)
theorem dX9_cropOf_116 : decode cX9_cropOf 116 = .ok (.invokevirtual 560, 3) := dk_182 2 48 (dk_at dksX9_cropOf_5 0 rfl rfl)
theorem dX9_cropOf_119 : decode cX9_cropOf 119 = .ok (.iadd, 1) := dk_96 (dk_at dksX9_cropOf_5 3 rfl rfl)
theorem dX9_cropOf_120 : decode cX9_cropOf 120 = .ok (.istore 9, 2) := dk_54 9 (dk_at dksX9_cropOf_5 4 rfl rfl)
theorem dX9_cropOf_122 : decode cX9_cropOf 122 = .ok (.iload 9, 2) := dk_21 9 (dk_at dksX9_cropOf_5 6 rfl rfl)
theorem dX9_cropOf_124 : decode cX9_cropOf 124 = .ok (.iload 6, 2) := dk_21 6 (dk_at dksX9_cropOf_5 8 rfl rfl)
theorem dX9_cropOf_126 : decode cX9_cropOf 126 = .ok (.if_icmp .gt 6, 3) := dk_163 0 6 (dk_at dksX9_cropOf_5 10 rfl rfl)
theorem dX9_cropOf_129 : decode cX9_cropOf 129 = .ok (.goto 23, 3) := dk_167 0 23 (dk_at dksX9_cropOf_5 13 rfl rfl)
theorem dX9_cropOf_132 : decode cX9_cropOf 132 = .ok (.iload 9, 2) := dk_21 9 (dk_at dksX9_cropOf_5 16 rfl rfl)
theorem dX9_cropOf_134 : decode cX9_cropOf 134 = .ok (.istore 6, 2) := dk_54 6 (dk_at dksX9_cropOf_5 18 rfl rfl)
theorem dX9_cropOf_136 : decode cX9_cropOf 136 = .ok (.iload 5, 2) := dk_21 5 (dk_at dksX9_cropOf_5 20 rfl rfl)
theorem dX9_cropOf_138 : decode cX9_cropOf 138 = .ok (.ifCond .eq 14, 3) := dk_153 0 14 (dk_at dksX9_cropOf_6 0 rfl rfl)
theorem dX9_cropOf_141 : decode cX9_cropOf 141 = .ok (.aload_n 0, 1) := dk_42 (dk_at dksX9_cropOf_6 3 rfl rfl)
theorem dX9_cropOf_142 : decode cX9_cropOf 142 = .ok (.aload_n 0, 1) := dk_42 (dk_at dksX9_cropOf_6 4 rfl rfl)
theorem dX9_cropOf_143 : decode cX9_cropOf 143 = .ok (.getfield 189, 3) := dk_180 0 189 (dk_at dksX9_cropOf_6 5 rfl rfl)
theorem dX9_cropOf_146 : decode cX9_cropOf 146 = .ok (.iload 7, 2) := dk_21 7 (dk_at dksX9_cropOf_6 8 rfl rfl)
theorem dX9_cropOf_148 : decode cX9_cropOf 148 = .ok (.iaload, 1) := dk_46 (dk_at dksX9_cropOf_6 10 rfl rfl)
theorem dX9_cropOf_149 : decode cX9_cropOf 149 = .ok (.putfield 564, 3) := dk_181 2 52 (dk_at dksX9_cropOf_6 11 rfl rfl)
theorem dX9_cropOf_152 : decode cX9_cropOf 152 = .ok (.iinc 7 1, 3) := dk_132 7 1 (dk_at dksX9_cropOf_6 14 rfl rfl)
theorem dX9_cropOf_155 : decode cX9_cropOf 155 = .ok (.goto (-119), 3) := dk_167 255 137 (dk_at dksX9_cropOf_6 17 rfl rfl)
theorem dX9_cropOf_158 : decode cX9_cropOf 158 = .ok (.iload 6, 2) := dk_21 6 (dk_at dksX9_cropOf_6 20 rfl rfl)
theorem dX9_cropOf_160 : decode cX9_cropOf 160 = .ok (.ireturn, 1) := dk_172 (dk_at dksX9_cropOf_6 22 rfl rfl)
abbrev cX9_cropWorth : ByteArray := prog_35_method_85_code
def yX9_cropWorth : MethodName := ⟨RX9, "cropWorth", "(II)I"⟩
def dkwX9_cropWorth_2 : List UInt8 := [167, 255, 213, 29, 172]
abbrev dktX9_cropWorth_2 : List UInt8 := dkwX9_cropWorth_2 ++ []
def dkwX9_cropWorth_1 : List UInt8 := [160, 0, 18, 42, 180, 0, 192, 16, 10, 28, 104, 21, 4, 96, 46, 167, 0, 4, 3, 96, 62, 132, 4, 1]
abbrev dktX9_cropWorth_1 : List UInt8 := dkwX9_cropWorth_1 ++ dktX9_cropWorth_2
def dkwX9_cropWorth_0 : List UInt8 := [3, 62, 3, 54, 4, 21, 4, 42, 180, 0, 13, 3, 46, 162, 0, 38, 29, 27, 21, 4, 122, 4, 126, 4]
abbrev dktX9_cropWorth_0 : List UInt8 := dkwX9_cropWorth_0 ++ dktX9_cropWorth_1
theorem dksX9_cropWorth_0 : cX9_cropWorth.data.toList.drop 0 = dktX9_cropWorth_0 := by decide +kernel
theorem dksX9_cropWorth_1 : cX9_cropWorth.data.toList.drop 24 = dktX9_cropWorth_1 := dk_seg dksX9_cropWorth_0 24 rfl rfl
theorem dksX9_cropWorth_2 : cX9_cropWorth.data.toList.drop 48 = dktX9_cropWorth_2 := dk_seg dksX9_cropWorth_1 24 rfl rfl
theorem dX9_cropWorth_0 : decode cX9_cropWorth 0 = .ok (.iconst 0, 1) := dk_3 (dk_at dksX9_cropWorth_0 0 rfl rfl)
theorem dX9_cropWorth_1 : decode cX9_cropWorth 1 = .ok (.istore_n 3, 1) := dk_62 (dk_at dksX9_cropWorth_0 1 rfl rfl)
theorem dX9_cropWorth_2 : decode cX9_cropWorth 2 = .ok (.iconst 0, 1) := dk_3 (dk_at dksX9_cropWorth_0 2 rfl rfl)
theorem dX9_cropWorth_3 : decode cX9_cropWorth 3 = .ok (.istore 4, 2) := dk_54 4 (dk_at dksX9_cropWorth_0 3 rfl rfl)
theorem dX9_cropWorth_5 : decode cX9_cropWorth 5 = .ok (.iload 4, 2) := dk_21 4 (dk_at dksX9_cropWorth_0 5 rfl rfl)
theorem dX9_cropWorth_7 : decode cX9_cropWorth 7 = .ok (.aload_n 0, 1) := dk_42 (dk_at dksX9_cropWorth_0 7 rfl rfl)
theorem dX9_cropWorth_8 : decode cX9_cropWorth 8 = .ok (.getfield 13, 3) := dk_180 0 13 (dk_at dksX9_cropWorth_0 8 rfl rfl)
theorem dX9_cropWorth_11 : decode cX9_cropWorth 11 = .ok (.iconst 0, 1) := dk_3 (dk_at dksX9_cropWorth_0 11 rfl rfl)
theorem dX9_cropWorth_12 : decode cX9_cropWorth 12 = .ok (.iaload, 1) := dk_46 (dk_at dksX9_cropWorth_0 12 rfl rfl)
theorem dX9_cropWorth_13 : decode cX9_cropWorth 13 = .ok (.if_icmp .ge 38, 3) := dk_162 0 38 (dk_at dksX9_cropWorth_0 13 rfl rfl)
theorem dX9_cropWorth_16 : decode cX9_cropWorth 16 = .ok (.iload_n 3, 1) := dk_29 (dk_at dksX9_cropWorth_0 16 rfl rfl)
theorem dX9_cropWorth_17 : decode cX9_cropWorth 17 = .ok (.iload_n 1, 1) := dk_27 (dk_at dksX9_cropWorth_0 17 rfl rfl)
theorem dX9_cropWorth_18 : decode cX9_cropWorth 18 = .ok (.iload 4, 2) := dk_21 4 (dk_at dksX9_cropWorth_0 18 rfl rfl)
theorem dX9_cropWorth_20 : decode cX9_cropWorth 20 = .ok (.ishr, 1) := dk_122 (dk_at dksX9_cropWorth_0 20 rfl rfl)
theorem dX9_cropWorth_21 : decode cX9_cropWorth 21 = .ok (.iconst 1, 1) := dk_4 (dk_at dksX9_cropWorth_0 21 rfl rfl)
theorem dX9_cropWorth_22 : decode cX9_cropWorth 22 = .ok (.iand, 1) := dk_126 (dk_at dksX9_cropWorth_0 22 rfl rfl)
theorem dX9_cropWorth_23 : decode cX9_cropWorth 23 = .ok (.iconst 1, 1) := dk_4 (dk_at dksX9_cropWorth_0 23 rfl rfl)
theorem dX9_cropWorth_24 : decode cX9_cropWorth 24 = .ok (.if_icmp .ne 18, 3) := dk_160 0 18 (dk_at dksX9_cropWorth_1 0 rfl rfl)
theorem dX9_cropWorth_27 : decode cX9_cropWorth 27 = .ok (.aload_n 0, 1) := dk_42 (dk_at dksX9_cropWorth_1 3 rfl rfl)
theorem dX9_cropWorth_28 : decode cX9_cropWorth 28 = .ok (.getfield 192, 3) := dk_180 0 192 (dk_at dksX9_cropWorth_1 4 rfl rfl)
theorem dX9_cropWorth_31 : decode cX9_cropWorth 31 = .ok (.bipush 10, 2) := dk_16 10 (dk_at dksX9_cropWorth_1 7 rfl rfl)
theorem dX9_cropWorth_33 : decode cX9_cropWorth 33 = .ok (.iload_n 2, 1) := dk_28 (dk_at dksX9_cropWorth_1 9 rfl rfl)
theorem dX9_cropWorth_34 : decode cX9_cropWorth 34 = .ok (.imul, 1) := dk_104 (dk_at dksX9_cropWorth_1 10 rfl rfl)
theorem dX9_cropWorth_35 : decode cX9_cropWorth 35 = .ok (.iload 4, 2) := dk_21 4 (dk_at dksX9_cropWorth_1 11 rfl rfl)
theorem dX9_cropWorth_37 : decode cX9_cropWorth 37 = .ok (.iadd, 1) := dk_96 (dk_at dksX9_cropWorth_1 13 rfl rfl)
theorem dX9_cropWorth_38 : decode cX9_cropWorth 38 = .ok (.iaload, 1) := dk_46 (dk_at dksX9_cropWorth_1 14 rfl rfl)
theorem dX9_cropWorth_39 : decode cX9_cropWorth 39 = .ok (.goto 4, 3) := dk_167 0 4 (dk_at dksX9_cropWorth_1 15 rfl rfl)
theorem dX9_cropWorth_42 : decode cX9_cropWorth 42 = .ok (.iconst 0, 1) := dk_3 (dk_at dksX9_cropWorth_1 18 rfl rfl)
theorem dX9_cropWorth_43 : decode cX9_cropWorth 43 = .ok (.iadd, 1) := dk_96 (dk_at dksX9_cropWorth_1 19 rfl rfl)
theorem dX9_cropWorth_44 : decode cX9_cropWorth 44 = .ok (.istore_n 3, 1) := dk_62 (dk_at dksX9_cropWorth_1 20 rfl rfl)
theorem dX9_cropWorth_45 : decode cX9_cropWorth 45 = .ok (.iinc 4 1, 3) := dk_132 4 1 (dk_at dksX9_cropWorth_1 21 rfl rfl)
theorem dX9_cropWorth_48 : decode cX9_cropWorth 48 = .ok (.goto (-43), 3) := dk_167 255 213 (dk_at dksX9_cropWorth_2 0 rfl rfl)
theorem dX9_cropWorth_51 : decode cX9_cropWorth 51 = .ok (.iload_n 3, 1) := dk_29 (dk_at dksX9_cropWorth_2 3 rfl rfl)
theorem dX9_cropWorth_52 : decode cX9_cropWorth 52 = .ok (.ireturn, 1) := dk_172 (dk_at dksX9_cropWorth_2 4 rfl rfl)
abbrev cX9_fetch : ByteArray := prog_35_method_90_code
def yX9_fetch : MethodName := ⟨RX9, "fetch", "()I"⟩
def dkwX9_fetch_10 : List UInt8 := [167, 255, 161, 132, 5, 1, 167, 255, 120, 21, 4, 60, 132, 3, 1, 167, 255, 100, 2, 172]
abbrev dktX9_fetch_10 : List UInt8 := dkwX9_fetch_10 ++ []
def dkwX9_fetch_9 : List UInt8 := [182, 2, 64, 154, 0, 6, 167, 0, 14, 42, 180, 0, 196, 28, 21, 10, 79, 132, 2, 1, 132, 8, 1]
abbrev dktX9_fetch_9 : List UInt8 := dkwX9_fetch_9 ++ dktX9_fetch_10
def dkwX9_fetch_8 : List UInt8 := [21, 6, 21, 9, 2, 130, 126, 42, 182, 2, 61, 2, 130, 126, 154, 0, 5, 29, 172, 42, 21, 10]
abbrev dktX9_fetch_8 : List UInt8 := dkwX9_fetch_8 ++ dktX9_fetch_9
def dkwX9_fetch_7 : List UInt8 := [46, 182, 2, 3, 54, 9, 21, 6, 21, 9, 2, 130, 126, 16, 10, 120, 42, 180, 1, 252, 128, 54, 10]
abbrev dktX9_fetch_7 : List UInt8 := dkwX9_fetch_7 ++ dktX9_fetch_8
def dkwX9_fetch_6 : List UInt8 := [180, 2, 45, 162, 0, 92, 42, 21, 6, 21, 7, 42, 180, 0, 183, 21, 8, 46, 42, 180, 0, 186, 21, 8]
abbrev dktX9_fetch_6 : List UInt8 := dkwX9_fetch_6 ++ dktX9_fetch_7
def dkwX9_fetch_5 : List UInt8 := [16, 10, 122, 54, 6, 42, 180, 0, 196, 21, 5, 46, 17, 3, 255, 126, 54, 7, 3, 54, 8, 21, 8, 42]
abbrev dktX9_fetch_5 : List UInt8 := dkwX9_fetch_5 ++ dktX9_fetch_6
def dkwX9_fetch_4 : List UInt8 := [162, 0, 157, 28, 54, 4, 27, 54, 5, 21, 5, 21, 4, 162, 0, 135, 42, 180, 0, 196, 21, 5, 46]
abbrev dktX9_fetch_4 : List UInt8 := dkwX9_fetch_4 ++ dktX9_fetch_5
def dkwX9_fetch_3 : List UInt8 := [3, 46, 126, 128, 79, 42, 42, 180, 0, 196, 3, 46, 182, 2, 64, 87, 3, 60, 4, 61, 4, 62, 29, 8]
abbrev dktX9_fetch_3 : List UInt8 := dkwX9_fetch_3 ++ dktX9_fetch_4
def dkwX9_fetch_2 : List UInt8 := [42, 180, 0, 196, 3, 42, 180, 0, 168, 3, 46, 16, 10, 120, 42, 180, 0, 168, 4, 46, 42, 180, 0, 168]
abbrev dktX9_fetch_2 : List UInt8 := dkwX9_fetch_2 ++ dktX9_fetch_3
def dkwX9_fetch_1 : List UInt8 := [182, 2, 58, 3, 60, 27, 18, 199, 162, 0, 16, 42, 180, 0, 200, 27, 3, 79, 132, 1, 1, 167, 255, 240]
abbrev dktX9_fetch_1 : List UInt8 := dkwX9_fetch_1 ++ dktX9_fetch_2
def dkwX9_fetch_0 : List UInt8 := [42, 3, 181, 0, 212, 42, 180, 0, 168, 3, 46, 42, 182, 2, 61, 2, 130, 126, 154, 0, 5, 3, 172, 42]
abbrev dktX9_fetch_0 : List UInt8 := dkwX9_fetch_0 ++ dktX9_fetch_1
theorem dksX9_fetch_0 : cX9_fetch.data.toList.drop 0 = dktX9_fetch_0 := by decide +kernel
theorem dksX9_fetch_1 : cX9_fetch.data.toList.drop 24 = dktX9_fetch_1 := dk_seg dksX9_fetch_0 24 rfl rfl
theorem dksX9_fetch_2 : cX9_fetch.data.toList.drop 48 = dktX9_fetch_2 := dk_seg dksX9_fetch_1 24 rfl rfl
theorem dksX9_fetch_3 : cX9_fetch.data.toList.drop 72 = dktX9_fetch_3 := dk_seg dksX9_fetch_2 24 rfl rfl
theorem dksX9_fetch_4 : cX9_fetch.data.toList.drop 96 = dktX9_fetch_4 := dk_seg dksX9_fetch_3 24 rfl rfl
theorem dksX9_fetch_5 : cX9_fetch.data.toList.drop 119 = dktX9_fetch_5 := dk_seg dksX9_fetch_4 23 rfl rfl
theorem dksX9_fetch_6 : cX9_fetch.data.toList.drop 143 = dktX9_fetch_6 := dk_seg dksX9_fetch_5 24 rfl rfl
theorem dksX9_fetch_7 : cX9_fetch.data.toList.drop 167 = dktX9_fetch_7 := dk_seg dksX9_fetch_6 24 rfl rfl
theorem dksX9_fetch_8 : cX9_fetch.data.toList.drop 190 = dktX9_fetch_8 := dk_seg dksX9_fetch_7 23 rfl rfl
theorem dksX9_fetch_9 : cX9_fetch.data.toList.drop 212 = dktX9_fetch_9 := dk_seg dksX9_fetch_8 22 rfl rfl
theorem dksX9_fetch_10 : cX9_fetch.data.toList.drop 235 = dktX9_fetch_10 := dk_seg dksX9_fetch_9 23 rfl rfl
theorem dX9_fetch_0 : decode cX9_fetch 0 = .ok (.aload_n 0, 1) := dk_42 (dk_at dksX9_fetch_0 0 rfl rfl)
theorem dX9_fetch_1 : decode cX9_fetch 1 = .ok (.iconst 0, 1) := dk_3 (dk_at dksX9_fetch_0 1 rfl rfl)
theorem dX9_fetch_2 : decode cX9_fetch 2 = .ok (.putfield 212, 3) := dk_181 0 212 (dk_at dksX9_fetch_0 2 rfl rfl)
theorem dX9_fetch_5 : decode cX9_fetch 5 = .ok (.aload_n 0, 1) := dk_42 (dk_at dksX9_fetch_0 5 rfl rfl)
theorem dX9_fetch_6 : decode cX9_fetch 6 = .ok (.getfield 168, 3) := dk_180 0 168 (dk_at dksX9_fetch_0 6 rfl rfl)
theorem dX9_fetch_9 : decode cX9_fetch 9 = .ok (.iconst 0, 1) := dk_3 (dk_at dksX9_fetch_0 9 rfl rfl)
theorem dX9_fetch_10 : decode cX9_fetch 10 = .ok (.iaload, 1) := dk_46 (dk_at dksX9_fetch_0 10 rfl rfl)
theorem dX9_fetch_11 : decode cX9_fetch 11 = .ok (.aload_n 0, 1) := dk_42 (dk_at dksX9_fetch_0 11 rfl rfl)
theorem dX9_fetch_12 : decode cX9_fetch 12 = .ok (.invokevirtual 573, 3) := dk_182 2 61 (dk_at dksX9_fetch_0 12 rfl rfl)
theorem dX9_fetch_15 : decode cX9_fetch 15 = .ok (.iconst (-1), 1) := dk_2 (dk_at dksX9_fetch_0 15 rfl rfl)
theorem dX9_fetch_16 : decode cX9_fetch 16 = .ok (.ixor, 1) := dk_130 (dk_at dksX9_fetch_0 16 rfl rfl)
theorem dX9_fetch_17 : decode cX9_fetch 17 = .ok (.iand, 1) := dk_126 (dk_at dksX9_fetch_0 17 rfl rfl)
theorem dX9_fetch_18 : decode cX9_fetch 18 = .ok (.ifCond .ne 5, 3) := dk_154 0 5 (dk_at dksX9_fetch_0 18 rfl rfl)
theorem dX9_fetch_21 : decode cX9_fetch 21 = .ok (.iconst 0, 1) := dk_3 (dk_at dksX9_fetch_0 21 rfl rfl)
theorem dX9_fetch_22 : decode cX9_fetch 22 = .ok (.ireturn, 1) := dk_172 (dk_at dksX9_fetch_0 22 rfl rfl)
theorem dX9_fetch_23 : decode cX9_fetch 23 = .ok (.aload_n 0, 1) := dk_42 (dk_at dksX9_fetch_0 23 rfl rfl)
theorem dX9_fetch_24 : decode cX9_fetch 24 = .ok (.invokevirtual 570, 3) := dk_182 2 58 (dk_at dksX9_fetch_1 0 rfl rfl)
theorem dX9_fetch_27 : decode cX9_fetch 27 = .ok (.iconst 0, 1) := dk_3 (dk_at dksX9_fetch_1 3 rfl rfl)
theorem dX9_fetch_28 : decode cX9_fetch 28 = .ok (.istore_n 1, 1) := dk_60 (dk_at dksX9_fetch_1 4 rfl rfl)
theorem dX9_fetch_29 : decode cX9_fetch 29 = .ok (.iload_n 1, 1) := dk_27 (dk_at dksX9_fetch_1 5 rfl rfl)
theorem dX9_fetch_30 : decode cX9_fetch 30 = .ok (.ldc 199, 2) := dk_18 199 (dk_at dksX9_fetch_1 6 rfl rfl)
theorem dX9_fetch_32 : decode cX9_fetch 32 = .ok (.if_icmp .ge 16, 3) := dk_162 0 16 (dk_at dksX9_fetch_1 8 rfl rfl)
theorem dX9_fetch_35 : decode cX9_fetch 35 = .ok (.aload_n 0, 1) := dk_42 (dk_at dksX9_fetch_1 11 rfl rfl)
theorem dX9_fetch_36 : decode cX9_fetch 36 = .ok (.getfield 200, 3) := dk_180 0 200 (dk_at dksX9_fetch_1 12 rfl rfl)
theorem dX9_fetch_39 : decode cX9_fetch 39 = .ok (.iload_n 1, 1) := dk_27 (dk_at dksX9_fetch_1 15 rfl rfl)
theorem dX9_fetch_40 : decode cX9_fetch 40 = .ok (.iconst 0, 1) := dk_3 (dk_at dksX9_fetch_1 16 rfl rfl)
theorem dX9_fetch_41 : decode cX9_fetch 41 = .ok (.iastore, 1) := dk_79 (dk_at dksX9_fetch_1 17 rfl rfl)
theorem dX9_fetch_42 : decode cX9_fetch 42 = .ok (.iinc 1 1, 3) := dk_132 1 1 (dk_at dksX9_fetch_1 18 rfl rfl)
theorem dX9_fetch_45 : decode cX9_fetch 45 = .ok (.goto (-16), 3) := dk_167 255 240 (dk_at dksX9_fetch_1 21 rfl rfl)
theorem dX9_fetch_48 : decode cX9_fetch 48 = .ok (.aload_n 0, 1) := dk_42 (dk_at dksX9_fetch_2 0 rfl rfl)
theorem dX9_fetch_49 : decode cX9_fetch 49 = .ok (.getfield 196, 3) := dk_180 0 196 (dk_at dksX9_fetch_2 1 rfl rfl)
theorem dX9_fetch_52 : decode cX9_fetch 52 = .ok (.iconst 0, 1) := dk_3 (dk_at dksX9_fetch_2 4 rfl rfl)
theorem dX9_fetch_53 : decode cX9_fetch 53 = .ok (.aload_n 0, 1) := dk_42 (dk_at dksX9_fetch_2 5 rfl rfl)
theorem dX9_fetch_54 : decode cX9_fetch 54 = .ok (.getfield 168, 3) := dk_180 0 168 (dk_at dksX9_fetch_2 6 rfl rfl)
theorem dX9_fetch_57 : decode cX9_fetch 57 = .ok (.iconst 0, 1) := dk_3 (dk_at dksX9_fetch_2 9 rfl rfl)
theorem dX9_fetch_58 : decode cX9_fetch 58 = .ok (.iaload, 1) := dk_46 (dk_at dksX9_fetch_2 10 rfl rfl)
theorem dX9_fetch_59 : decode cX9_fetch 59 = .ok (.bipush 10, 2) := dk_16 10 (dk_at dksX9_fetch_2 11 rfl rfl)
theorem dX9_fetch_61 : decode cX9_fetch 61 = .ok (.ishl, 1) := dk_120 (dk_at dksX9_fetch_2 13 rfl rfl)
theorem dX9_fetch_62 : decode cX9_fetch 62 = .ok (.aload_n 0, 1) := dk_42 (dk_at dksX9_fetch_2 14 rfl rfl)
theorem dX9_fetch_63 : decode cX9_fetch 63 = .ok (.getfield 168, 3) := dk_180 0 168 (dk_at dksX9_fetch_2 15 rfl rfl)
theorem dX9_fetch_66 : decode cX9_fetch 66 = .ok (.iconst 1, 1) := dk_4 (dk_at dksX9_fetch_2 18 rfl rfl)
theorem dX9_fetch_67 : decode cX9_fetch 67 = .ok (.iaload, 1) := dk_46 (dk_at dksX9_fetch_2 19 rfl rfl)
theorem dX9_fetch_68 : decode cX9_fetch 68 = .ok (.aload_n 0, 1) := dk_42 (dk_at dksX9_fetch_2 20 rfl rfl)
theorem dX9_fetch_69 : decode cX9_fetch 69 = .ok (.getfield 168, 3) := dk_180 0 168 (dk_at dksX9_fetch_2 21 rfl rfl)
theorem dX9_fetch_72 : decode cX9_fetch 72 = .ok (.iconst 0, 1) := dk_3 (dk_at dksX9_fetch_3 0 rfl rfl)
theorem dX9_fetch_73 : decode cX9_fetch 73 = .ok (.iaload, 1) := dk_46 (dk_at dksX9_fetch_3 1 rfl rfl)
theorem dX9_fetch_74 : decode cX9_fetch 74 = .ok (.iand, 1) := dk_126 (dk_at dksX9_fetch_3 2 rfl rfl)
theorem dX9_fetch_75 : decode cX9_fetch 75 = .ok (.ior, 1) := dk_128 (dk_at dksX9_fetch_3 3 rfl rfl)
theorem dX9_fetch_76 : decode cX9_fetch 76 = .ok (.iastore, 1) := dk_79 (dk_at dksX9_fetch_3 4 rfl rfl)
theorem dX9_fetch_77 : decode cX9_fetch 77 = .ok (.aload_n 0, 1) := dk_42 (dk_at dksX9_fetch_3 5 rfl rfl)
theorem dX9_fetch_78 : decode cX9_fetch 78 = .ok (.aload_n 0, 1) := dk_42 (dk_at dksX9_fetch_3 6 rfl rfl)
theorem dX9_fetch_79 : decode cX9_fetch 79 = .ok (.getfield 196, 3) := dk_180 0 196 (dk_at dksX9_fetch_3 7 rfl rfl)
theorem dX9_fetch_82 : decode cX9_fetch 82 = .ok (.iconst 0, 1) := dk_3 (dk_at dksX9_fetch_3 10 rfl rfl)
theorem dX9_fetch_83 : decode cX9_fetch 83 = .ok (.iaload, 1) := dk_46 (dk_at dksX9_fetch_3 11 rfl rfl)
theorem dX9_fetch_84 : decode cX9_fetch 84 = .ok (.invokevirtual 576, 3) := dk_182 2 64 (dk_at dksX9_fetch_3 12 rfl rfl)
theorem dX9_fetch_87 : decode cX9_fetch 87 = .ok (.pop, 1) := dk_87 (dk_at dksX9_fetch_3 15 rfl rfl)
theorem dX9_fetch_88 : decode cX9_fetch 88 = .ok (.iconst 0, 1) := dk_3 (dk_at dksX9_fetch_3 16 rfl rfl)
theorem dX9_fetch_89 : decode cX9_fetch 89 = .ok (.istore_n 1, 1) := dk_60 (dk_at dksX9_fetch_3 17 rfl rfl)
theorem dX9_fetch_90 : decode cX9_fetch 90 = .ok (.iconst 1, 1) := dk_4 (dk_at dksX9_fetch_3 18 rfl rfl)
theorem dX9_fetch_91 : decode cX9_fetch 91 = .ok (.istore_n 2, 1) := dk_61 (dk_at dksX9_fetch_3 19 rfl rfl)
theorem dX9_fetch_92 : decode cX9_fetch 92 = .ok (.iconst 1, 1) := dk_4 (dk_at dksX9_fetch_3 20 rfl rfl)
theorem dX9_fetch_93 : decode cX9_fetch 93 = .ok (.istore_n 3, 1) := dk_62 (dk_at dksX9_fetch_3 21 rfl rfl)
theorem dX9_fetch_94 : decode cX9_fetch 94 = .ok (.iload_n 3, 1) := dk_29 (dk_at dksX9_fetch_3 22 rfl rfl)
theorem dX9_fetch_95 : decode cX9_fetch 95 = .ok (.iconst 5, 1) := dk_8 (dk_at dksX9_fetch_3 23 rfl rfl)
theorem dX9_fetch_96 : decode cX9_fetch 96 = .ok (.if_icmp .ge 157, 3) := dk_162 0 157 (dk_at dksX9_fetch_4 0 rfl rfl)
theorem dX9_fetch_99 : decode cX9_fetch 99 = .ok (.iload_n 2, 1) := dk_28 (dk_at dksX9_fetch_4 3 rfl rfl)
theorem dX9_fetch_100 : decode cX9_fetch 100 = .ok (.istore 4, 2) := dk_54 4 (dk_at dksX9_fetch_4 4 rfl rfl)
theorem dX9_fetch_102 : decode cX9_fetch 102 = .ok (.iload_n 1, 1) := dk_27 (dk_at dksX9_fetch_4 6 rfl rfl)
theorem dX9_fetch_103 : decode cX9_fetch 103 = .ok (.istore 5, 2) := dk_54 5 (dk_at dksX9_fetch_4 7 rfl rfl)
theorem dX9_fetch_105 : decode cX9_fetch 105 = .ok (.iload 5, 2) := dk_21 5 (dk_at dksX9_fetch_4 9 rfl rfl)
theorem dX9_fetch_107 : decode cX9_fetch 107 = .ok (.iload 4, 2) := dk_21 4 (dk_at dksX9_fetch_4 11 rfl rfl)
theorem dX9_fetch_109 : decode cX9_fetch 109 = .ok (.if_icmp .ge 135, 3) := dk_162 0 135 (dk_at dksX9_fetch_4 13 rfl rfl)
theorem dX9_fetch_112 : decode cX9_fetch 112 = .ok (.aload_n 0, 1) := dk_42 (dk_at dksX9_fetch_4 16 rfl rfl)
theorem dX9_fetch_113 : decode cX9_fetch 113 = .ok (.getfield 196, 3) := dk_180 0 196 (dk_at dksX9_fetch_4 17 rfl rfl)
theorem dX9_fetch_116 : decode cX9_fetch 116 = .ok (.iload 5, 2) := dk_21 5 (dk_at dksX9_fetch_4 20 rfl rfl)
theorem dX9_fetch_118 : decode cX9_fetch 118 = .ok (.iaload, 1) := dk_46 (dk_at dksX9_fetch_4 22 rfl rfl)
theorem dX9_fetch_119 : decode cX9_fetch 119 = .ok (.bipush 10, 2) := dk_16 10 (dk_at dksX9_fetch_5 0 rfl rfl)
theorem dX9_fetch_121 : decode cX9_fetch 121 = .ok (.ishr, 1) := dk_122 (dk_at dksX9_fetch_5 2 rfl rfl)
theorem dX9_fetch_122 : decode cX9_fetch 122 = .ok (.istore 6, 2) := dk_54 6 (dk_at dksX9_fetch_5 3 rfl rfl)
theorem dX9_fetch_124 : decode cX9_fetch 124 = .ok (.aload_n 0, 1) := dk_42 (dk_at dksX9_fetch_5 5 rfl rfl)
theorem dX9_fetch_125 : decode cX9_fetch 125 = .ok (.getfield 196, 3) := dk_180 0 196 (dk_at dksX9_fetch_5 6 rfl rfl)
theorem dX9_fetch_128 : decode cX9_fetch 128 = .ok (.iload 5, 2) := dk_21 5 (dk_at dksX9_fetch_5 9 rfl rfl)
theorem dX9_fetch_130 : decode cX9_fetch 130 = .ok (.iaload, 1) := dk_46 (dk_at dksX9_fetch_5 11 rfl rfl)
theorem dX9_fetch_131 : decode cX9_fetch 131 = .ok (.sipush 1023, 3) := dk_17 3 255 (dk_at dksX9_fetch_5 12 rfl rfl)
theorem dX9_fetch_134 : decode cX9_fetch 134 = .ok (.iand, 1) := dk_126 (dk_at dksX9_fetch_5 15 rfl rfl)
theorem dX9_fetch_135 : decode cX9_fetch 135 = .ok (.istore 7, 2) := dk_54 7 (dk_at dksX9_fetch_5 16 rfl rfl)
theorem dX9_fetch_137 : decode cX9_fetch 137 = .ok (.iconst 0, 1) := dk_3 (dk_at dksX9_fetch_5 18 rfl rfl)
theorem dX9_fetch_138 : decode cX9_fetch 138 = .ok (.istore 8, 2) := dk_54 8 (dk_at dksX9_fetch_5 19 rfl rfl)
theorem dX9_fetch_140 : decode cX9_fetch 140 = .ok (.iload 8, 2) := dk_21 8 (dk_at dksX9_fetch_5 21 rfl rfl)
theorem dX9_fetch_142 : decode cX9_fetch 142 = .ok (.aload_n 0, 1) := dk_42 (dk_at dksX9_fetch_5 23 rfl rfl)
theorem dX9_fetch_143 : decode cX9_fetch 143 = .ok (.getfield 557, 3) := dk_180 2 45 (dk_at dksX9_fetch_6 0 rfl rfl)
theorem dX9_fetch_146 : decode cX9_fetch 146 = .ok (.if_icmp .ge 92, 3) := dk_162 0 92 (dk_at dksX9_fetch_6 3 rfl rfl)
theorem dX9_fetch_149 : decode cX9_fetch 149 = .ok (.aload_n 0, 1) := dk_42 (dk_at dksX9_fetch_6 6 rfl rfl)
theorem dX9_fetch_150 : decode cX9_fetch 150 = .ok (.iload 6, 2) := dk_21 6 (dk_at dksX9_fetch_6 7 rfl rfl)
theorem dX9_fetch_152 : decode cX9_fetch 152 = .ok (.iload 7, 2) := dk_21 7 (dk_at dksX9_fetch_6 9 rfl rfl)
theorem dX9_fetch_154 : decode cX9_fetch 154 = .ok (.aload_n 0, 1) := dk_42 (dk_at dksX9_fetch_6 11 rfl rfl)
theorem dX9_fetch_155 : decode cX9_fetch 155 = .ok (.getfield 183, 3) := dk_180 0 183 (dk_at dksX9_fetch_6 12 rfl rfl)
theorem dX9_fetch_158 : decode cX9_fetch 158 = .ok (.iload 8, 2) := dk_21 8 (dk_at dksX9_fetch_6 15 rfl rfl)
theorem dX9_fetch_160 : decode cX9_fetch 160 = .ok (.iaload, 1) := dk_46 (dk_at dksX9_fetch_6 17 rfl rfl)
theorem dX9_fetch_161 : decode cX9_fetch 161 = .ok (.aload_n 0, 1) := dk_42 (dk_at dksX9_fetch_6 18 rfl rfl)
theorem dX9_fetch_162 : decode cX9_fetch 162 = .ok (.getfield 186, 3) := dk_180 0 186 (dk_at dksX9_fetch_6 19 rfl rfl)
theorem dX9_fetch_165 : decode cX9_fetch 165 = .ok (.iload 8, 2) := dk_21 8 (dk_at dksX9_fetch_6 22 rfl rfl)
theorem dX9_fetch_167 : decode cX9_fetch 167 = .ok (.iaload, 1) := dk_46 (dk_at dksX9_fetch_7 0 rfl rfl)
theorem dX9_fetch_168 : decode cX9_fetch 168 = .ok (.invokevirtual 515, 3) := dk_182 2 3 (dk_at dksX9_fetch_7 1 rfl rfl)
theorem dX9_fetch_171 : decode cX9_fetch 171 = .ok (.istore 9, 2) := dk_54 9 (dk_at dksX9_fetch_7 4 rfl rfl)
theorem dX9_fetch_173 : decode cX9_fetch 173 = .ok (.iload 6, 2) := dk_21 6 (dk_at dksX9_fetch_7 6 rfl rfl)
theorem dX9_fetch_175 : decode cX9_fetch 175 = .ok (.iload 9, 2) := dk_21 9 (dk_at dksX9_fetch_7 8 rfl rfl)
theorem dX9_fetch_177 : decode cX9_fetch 177 = .ok (.iconst (-1), 1) := dk_2 (dk_at dksX9_fetch_7 10 rfl rfl)
theorem dX9_fetch_178 : decode cX9_fetch 178 = .ok (.ixor, 1) := dk_130 (dk_at dksX9_fetch_7 11 rfl rfl)
theorem dX9_fetch_179 : decode cX9_fetch 179 = .ok (.iand, 1) := dk_126 (dk_at dksX9_fetch_7 12 rfl rfl)
theorem dX9_fetch_180 : decode cX9_fetch 180 = .ok (.bipush 10, 2) := dk_16 10 (dk_at dksX9_fetch_7 13 rfl rfl)
theorem dX9_fetch_182 : decode cX9_fetch 182 = .ok (.ishl, 1) := dk_120 (dk_at dksX9_fetch_7 15 rfl rfl)
theorem dX9_fetch_183 : decode cX9_fetch 183 = .ok (.aload_n 0, 1) := dk_42 (dk_at dksX9_fetch_7 16 rfl rfl)
theorem dX9_fetch_184 : decode cX9_fetch 184 = .ok (.getfield 508, 3) := dk_180 1 252 (dk_at dksX9_fetch_7 17 rfl rfl)
theorem dX9_fetch_187 : decode cX9_fetch 187 = .ok (.ior, 1) := dk_128 (dk_at dksX9_fetch_7 20 rfl rfl)
theorem dX9_fetch_188 : decode cX9_fetch 188 = .ok (.istore 10, 2) := dk_54 10 (dk_at dksX9_fetch_7 21 rfl rfl)
theorem dX9_fetch_190 : decode cX9_fetch 190 = .ok (.iload 6, 2) := dk_21 6 (dk_at dksX9_fetch_8 0 rfl rfl)
theorem dX9_fetch_192 : decode cX9_fetch 192 = .ok (.iload 9, 2) := dk_21 9 (dk_at dksX9_fetch_8 2 rfl rfl)
theorem dX9_fetch_194 : decode cX9_fetch 194 = .ok (.iconst (-1), 1) := dk_2 (dk_at dksX9_fetch_8 4 rfl rfl)
theorem dX9_fetch_195 : decode cX9_fetch 195 = .ok (.ixor, 1) := dk_130 (dk_at dksX9_fetch_8 5 rfl rfl)
theorem dX9_fetch_196 : decode cX9_fetch 196 = .ok (.iand, 1) := dk_126 (dk_at dksX9_fetch_8 6 rfl rfl)
theorem dX9_fetch_197 : decode cX9_fetch 197 = .ok (.aload_n 0, 1) := dk_42 (dk_at dksX9_fetch_8 7 rfl rfl)
theorem dX9_fetch_198 : decode cX9_fetch 198 = .ok (.invokevirtual 573, 3) := dk_182 2 61 (dk_at dksX9_fetch_8 8 rfl rfl)
theorem dX9_fetch_201 : decode cX9_fetch 201 = .ok (.iconst (-1), 1) := dk_2 (dk_at dksX9_fetch_8 11 rfl rfl)
theorem dX9_fetch_202 : decode cX9_fetch 202 = .ok (.ixor, 1) := dk_130 (dk_at dksX9_fetch_8 12 rfl rfl)
theorem dX9_fetch_203 : decode cX9_fetch 203 = .ok (.iand, 1) := dk_126 (dk_at dksX9_fetch_8 13 rfl rfl)
theorem dX9_fetch_204 : decode cX9_fetch 204 = .ok (.ifCond .ne 5, 3) := dk_154 0 5 (dk_at dksX9_fetch_8 14 rfl rfl)
theorem dX9_fetch_207 : decode cX9_fetch 207 = .ok (.iload_n 3, 1) := dk_29 (dk_at dksX9_fetch_8 17 rfl rfl)
theorem dX9_fetch_208 : decode cX9_fetch 208 = .ok (.ireturn, 1) := dk_172 (dk_at dksX9_fetch_8 18 rfl rfl)
theorem dX9_fetch_209 : decode cX9_fetch 209 = .ok (.aload_n 0, 1) := dk_42 (dk_at dksX9_fetch_8 19 rfl rfl)
theorem dX9_fetch_210 : decode cX9_fetch 210 = .ok (.iload 10, 2) := dk_21 10 (dk_at dksX9_fetch_8 20 rfl rfl)
theorem dX9_fetch_212 : decode cX9_fetch 212 = .ok (.invokevirtual 576, 3) := dk_182 2 64 (dk_at dksX9_fetch_9 0 rfl rfl)
theorem dX9_fetch_215 : decode cX9_fetch 215 = .ok (.ifCond .ne 6, 3) := dk_154 0 6 (dk_at dksX9_fetch_9 3 rfl rfl)
theorem dX9_fetch_218 : decode cX9_fetch 218 = .ok (.goto 14, 3) := dk_167 0 14 (dk_at dksX9_fetch_9 6 rfl rfl)
theorem dX9_fetch_221 : decode cX9_fetch 221 = .ok (.aload_n 0, 1) := dk_42 (dk_at dksX9_fetch_9 9 rfl rfl)
theorem dX9_fetch_222 : decode cX9_fetch 222 = .ok (.getfield 196, 3) := dk_180 0 196 (dk_at dksX9_fetch_9 10 rfl rfl)
theorem dX9_fetch_225 : decode cX9_fetch 225 = .ok (.iload_n 2, 1) := dk_28 (dk_at dksX9_fetch_9 13 rfl rfl)
theorem dX9_fetch_226 : decode cX9_fetch 226 = .ok (.iload 10, 2) := dk_21 10 (dk_at dksX9_fetch_9 14 rfl rfl)
theorem dX9_fetch_228 : decode cX9_fetch 228 = .ok (.iastore, 1) := dk_79 (dk_at dksX9_fetch_9 16 rfl rfl)
theorem dX9_fetch_229 : decode cX9_fetch 229 = .ok (.iinc 2 1, 3) := dk_132 2 1 (dk_at dksX9_fetch_9 17 rfl rfl)
theorem dX9_fetch_232 : decode cX9_fetch 232 = .ok (.iinc 8 1, 3) := dk_132 8 1 (dk_at dksX9_fetch_9 20 rfl rfl)
theorem dX9_fetch_235 : decode cX9_fetch 235 = .ok (.goto (-95), 3) := dk_167 255 161 (dk_at dksX9_fetch_10 0 rfl rfl)
theorem dX9_fetch_238 : decode cX9_fetch 238 = .ok (.iinc 5 1, 3) := dk_132 5 1 (dk_at dksX9_fetch_10 3 rfl rfl)
theorem dX9_fetch_241 : decode cX9_fetch 241 = .ok (.goto (-136), 3) := dk_167 255 120 (dk_at dksX9_fetch_10 6 rfl rfl)
theorem dX9_fetch_244 : decode cX9_fetch 244 = .ok (.iload 4, 2) := dk_21 4 (dk_at dksX9_fetch_10 9 rfl rfl)
theorem dX9_fetch_246 : decode cX9_fetch 246 = .ok (.istore_n 1, 1) := dk_60 (dk_at dksX9_fetch_10 11 rfl rfl)
theorem dX9_fetch_247 : decode cX9_fetch 247 = .ok (.iinc 3 1, 3) := dk_132 3 1 (dk_at dksX9_fetch_10 12 rfl rfl)
theorem dX9_fetch_250 : decode cX9_fetch 250 = .ok (.goto (-156), 3) := dk_167 255 100 (dk_at dksX9_fetch_10 15 rfl rfl)
theorem dX9_fetch_253 : decode cX9_fetch 253 = .ok (.iconst (-1), 1) := dk_2 (dk_at dksX9_fetch_10 18 rfl rfl)
theorem dX9_fetch_254 : decode cX9_fetch 254 = .ok (.ireturn, 1) := dk_172 (dk_at dksX9_fetch_10 19 rfl rfl)
abbrev cX9_deaf : ByteArray := prog_35_method_89_code
def yX9_deaf : MethodName := ⟨RX9, "deaf", "()I"⟩
def dkwX9_deaf_1 : List UInt8 := [160, 0, 9, 4, 28, 120, 167, 0, 4, 3, 128, 60, 132, 2, 1, 167, 255, 223, 27, 172]
abbrev dktX9_deaf_1 : List UInt8 := dkwX9_deaf_1 ++ []
def dkwX9_deaf_0 : List UInt8 := [3, 60, 3, 61, 28, 42, 180, 0, 13, 3, 46, 162, 0, 29, 27, 42, 180, 0, 26, 28, 46, 6]
abbrev dktX9_deaf_0 : List UInt8 := dkwX9_deaf_0 ++ dktX9_deaf_1
theorem dksX9_deaf_0 : cX9_deaf.data.toList.drop 0 = dktX9_deaf_0 := by decide +kernel
theorem dksX9_deaf_1 : cX9_deaf.data.toList.drop 22 = dktX9_deaf_1 := dk_seg dksX9_deaf_0 22 rfl rfl
theorem dX9_deaf_0 : decode cX9_deaf 0 = .ok (.iconst 0, 1) := dk_3 (dk_at dksX9_deaf_0 0 rfl rfl)
theorem dX9_deaf_1 : decode cX9_deaf 1 = .ok (.istore_n 1, 1) := dk_60 (dk_at dksX9_deaf_0 1 rfl rfl)
theorem dX9_deaf_2 : decode cX9_deaf 2 = .ok (.iconst 0, 1) := dk_3 (dk_at dksX9_deaf_0 2 rfl rfl)
theorem dX9_deaf_3 : decode cX9_deaf 3 = .ok (.istore_n 2, 1) := dk_61 (dk_at dksX9_deaf_0 3 rfl rfl)
theorem dX9_deaf_4 : decode cX9_deaf 4 = .ok (.iload_n 2, 1) := dk_28 (dk_at dksX9_deaf_0 4 rfl rfl)
theorem dX9_deaf_5 : decode cX9_deaf 5 = .ok (.aload_n 0, 1) := dk_42 (dk_at dksX9_deaf_0 5 rfl rfl)
theorem dX9_deaf_6 : decode cX9_deaf 6 = .ok (.getfield 13, 3) := dk_180 0 13 (dk_at dksX9_deaf_0 6 rfl rfl)
theorem dX9_deaf_9 : decode cX9_deaf 9 = .ok (.iconst 0, 1) := dk_3 (dk_at dksX9_deaf_0 9 rfl rfl)
theorem dX9_deaf_10 : decode cX9_deaf 10 = .ok (.iaload, 1) := dk_46 (dk_at dksX9_deaf_0 10 rfl rfl)
theorem dX9_deaf_11 : decode cX9_deaf 11 = .ok (.if_icmp .ge 29, 3) := dk_162 0 29 (dk_at dksX9_deaf_0 11 rfl rfl)
theorem dX9_deaf_14 : decode cX9_deaf 14 = .ok (.iload_n 1, 1) := dk_27 (dk_at dksX9_deaf_0 14 rfl rfl)
theorem dX9_deaf_15 : decode cX9_deaf 15 = .ok (.aload_n 0, 1) := dk_42 (dk_at dksX9_deaf_0 15 rfl rfl)
theorem dX9_deaf_16 : decode cX9_deaf 16 = .ok (.getfield 26, 3) := dk_180 0 26 (dk_at dksX9_deaf_0 16 rfl rfl)
theorem dX9_deaf_19 : decode cX9_deaf 19 = .ok (.iload_n 2, 1) := dk_28 (dk_at dksX9_deaf_0 19 rfl rfl)
theorem dX9_deaf_20 : decode cX9_deaf 20 = .ok (.iaload, 1) := dk_46 (dk_at dksX9_deaf_0 20 rfl rfl)
theorem dX9_deaf_21 : decode cX9_deaf 21 = .ok (.iconst 3, 1) := dk_6 (dk_at dksX9_deaf_0 21 rfl rfl)
theorem dX9_deaf_22 : decode cX9_deaf 22 = .ok (.if_icmp .ne 9, 3) := dk_160 0 9 (dk_at dksX9_deaf_1 0 rfl rfl)
theorem dX9_deaf_25 : decode cX9_deaf 25 = .ok (.iconst 1, 1) := dk_4 (dk_at dksX9_deaf_1 3 rfl rfl)
theorem dX9_deaf_26 : decode cX9_deaf 26 = .ok (.iload_n 2, 1) := dk_28 (dk_at dksX9_deaf_1 4 rfl rfl)
theorem dX9_deaf_27 : decode cX9_deaf 27 = .ok (.ishl, 1) := dk_120 (dk_at dksX9_deaf_1 5 rfl rfl)
theorem dX9_deaf_28 : decode cX9_deaf 28 = .ok (.goto 4, 3) := dk_167 0 4 (dk_at dksX9_deaf_1 6 rfl rfl)
theorem dX9_deaf_31 : decode cX9_deaf 31 = .ok (.iconst 0, 1) := dk_3 (dk_at dksX9_deaf_1 9 rfl rfl)
theorem dX9_deaf_32 : decode cX9_deaf 32 = .ok (.ior, 1) := dk_128 (dk_at dksX9_deaf_1 10 rfl rfl)
theorem dX9_deaf_33 : decode cX9_deaf 33 = .ok (.istore_n 1, 1) := dk_60 (dk_at dksX9_deaf_1 11 rfl rfl)
theorem dX9_deaf_34 : decode cX9_deaf 34 = .ok (.iinc 2 1, 3) := dk_132 2 1 (dk_at dksX9_deaf_1 12 rfl rfl)
theorem dX9_deaf_37 : decode cX9_deaf 37 = .ok (.goto (-33), 3) := dk_167 255 223 (dk_at dksX9_deaf_1 15 rfl rfl)
theorem dX9_deaf_40 : decode cX9_deaf 40 = .ok (.iload_n 1, 1) := dk_27 (dk_at dksX9_deaf_1 18 rfl rfl)
theorem dX9_deaf_41 : decode cX9_deaf 41 = .ok (.ireturn, 1) := dk_172 (dk_at dksX9_deaf_1 19 rfl rfl)
abbrev cX9_meets : ByteArray := prog_35_method_88_code
def yX9_meets : MethodName := ⟨RX9, "meets", "(I)Z"⟩
def dkwX9_meets_1 : List UInt8 := [180, 0, 200, 27, 16, 32, 108, 92, 46, 4, 27, 16, 32, 112, 120, 128, 79, 4, 172]
abbrev dktX9_meets_1 : List UInt8 := dkwX9_meets_1 ++ []
def dkwX9_meets_0 : List UInt8 := [42, 180, 0, 200, 27, 16, 32, 108, 46, 27, 16, 32, 112, 122, 4, 126, 4, 160, 0, 5, 3, 172, 42]
abbrev dktX9_meets_0 : List UInt8 := dkwX9_meets_0 ++ dktX9_meets_1
theorem dksX9_meets_0 : cX9_meets.data.toList.drop 0 = dktX9_meets_0 := by decide +kernel
theorem dksX9_meets_1 : cX9_meets.data.toList.drop 23 = dktX9_meets_1 := dk_seg dksX9_meets_0 23 rfl rfl
theorem dX9_meets_0 : decode cX9_meets 0 = .ok (.aload_n 0, 1) := dk_42 (dk_at dksX9_meets_0 0 rfl rfl)
theorem dX9_meets_1 : decode cX9_meets 1 = .ok (.getfield 200, 3) := dk_180 0 200 (dk_at dksX9_meets_0 1 rfl rfl)
theorem dX9_meets_4 : decode cX9_meets 4 = .ok (.iload_n 1, 1) := dk_27 (dk_at dksX9_meets_0 4 rfl rfl)
theorem dX9_meets_5 : decode cX9_meets 5 = .ok (.bipush 32, 2) := dk_16 32 (dk_at dksX9_meets_0 5 rfl rfl)
theorem dX9_meets_7 : decode cX9_meets 7 = .ok (.idiv, 1) := dk_108 (dk_at dksX9_meets_0 7 rfl rfl)
theorem dX9_meets_8 : decode cX9_meets 8 = .ok (.iaload, 1) := dk_46 (dk_at dksX9_meets_0 8 rfl rfl)
theorem dX9_meets_9 : decode cX9_meets 9 = .ok (.iload_n 1, 1) := dk_27 (dk_at dksX9_meets_0 9 rfl rfl)
theorem dX9_meets_10 : decode cX9_meets 10 = .ok (.bipush 32, 2) := dk_16 32 (dk_at dksX9_meets_0 10 rfl rfl)
theorem dX9_meets_12 : decode cX9_meets 12 = .ok (.irem, 1) := dk_112 (dk_at dksX9_meets_0 12 rfl rfl)
theorem dX9_meets_13 : decode cX9_meets 13 = .ok (.ishr, 1) := dk_122 (dk_at dksX9_meets_0 13 rfl rfl)
theorem dX9_meets_14 : decode cX9_meets 14 = .ok (.iconst 1, 1) := dk_4 (dk_at dksX9_meets_0 14 rfl rfl)
theorem dX9_meets_15 : decode cX9_meets 15 = .ok (.iand, 1) := dk_126 (dk_at dksX9_meets_0 15 rfl rfl)
theorem dX9_meets_16 : decode cX9_meets 16 = .ok (.iconst 1, 1) := dk_4 (dk_at dksX9_meets_0 16 rfl rfl)
theorem dX9_meets_17 : decode cX9_meets 17 = .ok (.if_icmp .ne 5, 3) := dk_160 0 5 (dk_at dksX9_meets_0 17 rfl rfl)
theorem dX9_meets_20 : decode cX9_meets 20 = .ok (.iconst 0, 1) := dk_3 (dk_at dksX9_meets_0 20 rfl rfl)
theorem dX9_meets_21 : decode cX9_meets 21 = .ok (.ireturn, 1) := dk_172 (dk_at dksX9_meets_0 21 rfl rfl)
theorem dX9_meets_22 : decode cX9_meets 22 = .ok (.aload_n 0, 1) := dk_42 (dk_at dksX9_meets_0 22 rfl rfl)
theorem dX9_meets_23 : decode cX9_meets 23 = .ok (.getfield 200, 3) := dk_180 0 200 (dk_at dksX9_meets_1 0 rfl rfl)
theorem dX9_meets_26 : decode cX9_meets 26 = .ok (.iload_n 1, 1) := dk_27 (dk_at dksX9_meets_1 3 rfl rfl)
theorem dX9_meets_27 : decode cX9_meets 27 = .ok (.bipush 32, 2) := dk_16 32 (dk_at dksX9_meets_1 4 rfl rfl)
theorem dX9_meets_29 : decode cX9_meets 29 = .ok (.idiv, 1) := dk_108 (dk_at dksX9_meets_1 6 rfl rfl)
theorem dX9_meets_30 : decode cX9_meets 30 = .ok (.dup2, 1) := dk_92 (dk_at dksX9_meets_1 7 rfl rfl)
theorem dX9_meets_31 : decode cX9_meets 31 = .ok (.iaload, 1) := dk_46 (dk_at dksX9_meets_1 8 rfl rfl)
theorem dX9_meets_32 : decode cX9_meets 32 = .ok (.iconst 1, 1) := dk_4 (dk_at dksX9_meets_1 9 rfl rfl)
theorem dX9_meets_33 : decode cX9_meets 33 = .ok (.iload_n 1, 1) := dk_27 (dk_at dksX9_meets_1 10 rfl rfl)
theorem dX9_meets_34 : decode cX9_meets 34 = .ok (.bipush 32, 2) := dk_16 32 (dk_at dksX9_meets_1 11 rfl rfl)
theorem dX9_meets_36 : decode cX9_meets 36 = .ok (.irem, 1) := dk_112 (dk_at dksX9_meets_1 13 rfl rfl)
theorem dX9_meets_37 : decode cX9_meets 37 = .ok (.ishl, 1) := dk_120 (dk_at dksX9_meets_1 14 rfl rfl)
theorem dX9_meets_38 : decode cX9_meets 38 = .ok (.ior, 1) := dk_128 (dk_at dksX9_meets_1 15 rfl rfl)
theorem dX9_meets_39 : decode cX9_meets 39 = .ok (.iastore, 1) := dk_79 (dk_at dksX9_meets_1 16 rfl rfl)
theorem dX9_meets_40 : decode cX9_meets 40 = .ok (.iconst 1, 1) := dk_4 (dk_at dksX9_meets_1 17 rfl rfl)
theorem dX9_meets_41 : decode cX9_meets 41 = .ok (.ireturn, 1) := dk_172 (dk_at dksX9_meets_1 18 rfl rfl)
abbrev cX9_lies : ByteArray := prog_35_method_91_code
def yX9_lies : MethodName := ⟨RX9, "lies", "(IZ)Z"⟩
def dkwX9_lies_2 : List UInt8 := [167, 0, 15, 42, 180, 0, 153, 3, 46, 4, 27, 120, 2, 130, 126, 79, 4, 172]
abbrev dktX9_lies_2 : List UInt8 := dkwX9_lies_2 ++ []
def dkwX9_lies_1 : List UInt8 := [120, 128, 79, 42, 180, 0, 153, 3, 28, 153, 0, 16, 42, 180, 0, 153, 3, 46, 4, 27, 120, 128]
abbrev dktX9_lies_1 : List UInt8 := dkwX9_lies_1 ++ dktX9_lies_2
def dkwX9_lies_0 : List UInt8 := [42, 3, 181, 0, 212, 42, 27, 182, 1, 222, 154, 0, 5, 3, 172, 42, 180, 0, 150, 3, 92, 46, 4, 27]
abbrev dktX9_lies_0 : List UInt8 := dkwX9_lies_0 ++ dktX9_lies_1
theorem dksX9_lies_0 : cX9_lies.data.toList.drop 0 = dktX9_lies_0 := by decide +kernel
theorem dksX9_lies_1 : cX9_lies.data.toList.drop 24 = dktX9_lies_1 := dk_seg dksX9_lies_0 24 rfl rfl
theorem dksX9_lies_2 : cX9_lies.data.toList.drop 46 = dktX9_lies_2 := dk_seg dksX9_lies_1 22 rfl rfl
theorem dX9_lies_0 : decode cX9_lies 0 = .ok (.aload_n 0, 1) := dk_42 (dk_at dksX9_lies_0 0 rfl rfl)
theorem dX9_lies_1 : decode cX9_lies 1 = .ok (.iconst 0, 1) := dk_3 (dk_at dksX9_lies_0 1 rfl rfl)
theorem dX9_lies_2 : decode cX9_lies 2 = .ok (.putfield 212, 3) := dk_181 0 212 (dk_at dksX9_lies_0 2 rfl rfl)
theorem dX9_lies_5 : decode cX9_lies 5 = .ok (.aload_n 0, 1) := dk_42 (dk_at dksX9_lies_0 5 rfl rfl)
theorem dX9_lies_6 : decode cX9_lies 6 = .ok (.iload_n 1, 1) := dk_27 (dk_at dksX9_lies_0 6 rfl rfl)
theorem dX9_lies_7 : decode cX9_lies 7 = .ok (.invokevirtual 478, 3) := dk_182 1 222 (dk_at dksX9_lies_0 7 rfl rfl)
theorem dX9_lies_10 : decode cX9_lies 10 = .ok (.ifCond .ne 5, 3) := dk_154 0 5 (dk_at dksX9_lies_0 10 rfl rfl)
theorem dX9_lies_13 : decode cX9_lies 13 = .ok (.iconst 0, 1) := dk_3 (dk_at dksX9_lies_0 13 rfl rfl)
theorem dX9_lies_14 : decode cX9_lies 14 = .ok (.ireturn, 1) := dk_172 (dk_at dksX9_lies_0 14 rfl rfl)
theorem dX9_lies_15 : decode cX9_lies 15 = .ok (.aload_n 0, 1) := dk_42 (dk_at dksX9_lies_0 15 rfl rfl)
theorem dX9_lies_16 : decode cX9_lies 16 = .ok (.getfield 150, 3) := dk_180 0 150 (dk_at dksX9_lies_0 16 rfl rfl)
theorem dX9_lies_19 : decode cX9_lies 19 = .ok (.iconst 0, 1) := dk_3 (dk_at dksX9_lies_0 19 rfl rfl)
theorem dX9_lies_20 : decode cX9_lies 20 = .ok (.dup2, 1) := dk_92 (dk_at dksX9_lies_0 20 rfl rfl)
theorem dX9_lies_21 : decode cX9_lies 21 = .ok (.iaload, 1) := dk_46 (dk_at dksX9_lies_0 21 rfl rfl)
theorem dX9_lies_22 : decode cX9_lies 22 = .ok (.iconst 1, 1) := dk_4 (dk_at dksX9_lies_0 22 rfl rfl)
theorem dX9_lies_23 : decode cX9_lies 23 = .ok (.iload_n 1, 1) := dk_27 (dk_at dksX9_lies_0 23 rfl rfl)
theorem dX9_lies_24 : decode cX9_lies 24 = .ok (.ishl, 1) := dk_120 (dk_at dksX9_lies_1 0 rfl rfl)
theorem dX9_lies_25 : decode cX9_lies 25 = .ok (.ior, 1) := dk_128 (dk_at dksX9_lies_1 1 rfl rfl)
theorem dX9_lies_26 : decode cX9_lies 26 = .ok (.iastore, 1) := dk_79 (dk_at dksX9_lies_1 2 rfl rfl)
theorem dX9_lies_27 : decode cX9_lies 27 = .ok (.aload_n 0, 1) := dk_42 (dk_at dksX9_lies_1 3 rfl rfl)
theorem dX9_lies_28 : decode cX9_lies 28 = .ok (.getfield 153, 3) := dk_180 0 153 (dk_at dksX9_lies_1 4 rfl rfl)
theorem dX9_lies_31 : decode cX9_lies 31 = .ok (.iconst 0, 1) := dk_3 (dk_at dksX9_lies_1 7 rfl rfl)
theorem dX9_lies_32 : decode cX9_lies 32 = .ok (.iload_n 2, 1) := dk_28 (dk_at dksX9_lies_1 8 rfl rfl)
theorem dX9_lies_33 : decode cX9_lies 33 = .ok (.ifCond .eq 16, 3) := dk_153 0 16 (dk_at dksX9_lies_1 9 rfl rfl)
theorem dX9_lies_36 : decode cX9_lies 36 = .ok (.aload_n 0, 1) := dk_42 (dk_at dksX9_lies_1 12 rfl rfl)
theorem dX9_lies_37 : decode cX9_lies 37 = .ok (.getfield 153, 3) := dk_180 0 153 (dk_at dksX9_lies_1 13 rfl rfl)
theorem dX9_lies_40 : decode cX9_lies 40 = .ok (.iconst 0, 1) := dk_3 (dk_at dksX9_lies_1 16 rfl rfl)
theorem dX9_lies_41 : decode cX9_lies 41 = .ok (.iaload, 1) := dk_46 (dk_at dksX9_lies_1 17 rfl rfl)
theorem dX9_lies_42 : decode cX9_lies 42 = .ok (.iconst 1, 1) := dk_4 (dk_at dksX9_lies_1 18 rfl rfl)
theorem dX9_lies_43 : decode cX9_lies 43 = .ok (.iload_n 1, 1) := dk_27 (dk_at dksX9_lies_1 19 rfl rfl)
theorem dX9_lies_44 : decode cX9_lies 44 = .ok (.ishl, 1) := dk_120 (dk_at dksX9_lies_1 20 rfl rfl)
theorem dX9_lies_45 : decode cX9_lies 45 = .ok (.ior, 1) := dk_128 (dk_at dksX9_lies_1 21 rfl rfl)
theorem dX9_lies_46 : decode cX9_lies 46 = .ok (.goto 15, 3) := dk_167 0 15 (dk_at dksX9_lies_2 0 rfl rfl)
theorem dX9_lies_49 : decode cX9_lies 49 = .ok (.aload_n 0, 1) := dk_42 (dk_at dksX9_lies_2 3 rfl rfl)
theorem dX9_lies_50 : decode cX9_lies 50 = .ok (.getfield 153, 3) := dk_180 0 153 (dk_at dksX9_lies_2 4 rfl rfl)
theorem dX9_lies_53 : decode cX9_lies 53 = .ok (.iconst 0, 1) := dk_3 (dk_at dksX9_lies_2 7 rfl rfl)
theorem dX9_lies_54 : decode cX9_lies 54 = .ok (.iaload, 1) := dk_46 (dk_at dksX9_lies_2 8 rfl rfl)
theorem dX9_lies_55 : decode cX9_lies 55 = .ok (.iconst 1, 1) := dk_4 (dk_at dksX9_lies_2 9 rfl rfl)
theorem dX9_lies_56 : decode cX9_lies 56 = .ok (.iload_n 1, 1) := dk_27 (dk_at dksX9_lies_2 10 rfl rfl)
theorem dX9_lies_57 : decode cX9_lies 57 = .ok (.ishl, 1) := dk_120 (dk_at dksX9_lies_2 11 rfl rfl)
theorem dX9_lies_58 : decode cX9_lies 58 = .ok (.iconst (-1), 1) := dk_2 (dk_at dksX9_lies_2 12 rfl rfl)
theorem dX9_lies_59 : decode cX9_lies 59 = .ok (.ixor, 1) := dk_130 (dk_at dksX9_lies_2 13 rfl rfl)
theorem dX9_lies_60 : decode cX9_lies 60 = .ok (.iand, 1) := dk_126 (dk_at dksX9_lies_2 14 rfl rfl)
theorem dX9_lies_61 : decode cX9_lies 61 = .ok (.iastore, 1) := dk_79 (dk_at dksX9_lies_2 15 rfl rfl)
theorem dX9_lies_62 : decode cX9_lies 62 = .ok (.iconst 1, 1) := dk_4 (dk_at dksX9_lies_2 16 rfl rfl)
theorem dX9_lies_63 : decode cX9_lies 63 = .ok (.ireturn, 1) := dk_172 (dk_at dksX9_lies_2 17 rfl rfl)
abbrev cX9_called : ByteArray := prog_35_method_92_code
def yX9_called : MethodName := ⟨RX9, "called", "(I)I"⟩
def dkwX9_called_13 : List UInt8 := [132, 7, 1, 167, 255, 179, 21, 5, 172]
abbrev dktX9_called_13 : List UInt8 := dkwX9_called_13 ++ []
def dkwX9_called_12 : List UInt8 := [126, 4, 159, 0, 21, 21, 8, 21, 6, 163, 0, 6, 167, 0, 11, 21, 8, 54, 6, 21, 7, 54, 5]
abbrev dktX9_called_12 : List UInt8 := dkwX9_called_12 ++ dktX9_called_13
def dkwX9_called_11 : List UInt8 := [184, 1, 191, 54, 8, 42, 21, 7, 182, 2, 20, 153, 0, 36, 42, 180, 0, 150, 3, 46, 21, 7, 122, 4]
abbrev dktX9_called_11 : List UInt8 := dkwX9_called_11 ++ dktX9_called_12
def dkwX9_called_10 : List UInt8 := [180, 0, 13, 3, 46, 162, 0, 72, 42, 180, 0, 203, 21, 7, 46, 28, 42, 180, 0, 203, 21, 7, 46, 100]
abbrev dktX9_called_10 : List UInt8 := dkwX9_called_10 ++ dktX9_called_11
def dkwX9_called_9 : List UInt8 := [27, 4, 160, 0, 7, 29, 167, 0, 5, 21, 4, 172, 2, 54, 5, 3, 54, 6, 3, 54, 7, 21, 7, 42]
abbrev dktX9_called_9 : List UInt8 := dkwX9_called_9 ++ dktX9_called_10
def dkwX9_called_8 : List UInt8 := [153, 0, 8, 27, 6, 162, 0, 31, 27, 154, 0, 7, 28, 167, 0, 22, 28, 154, 0, 7, 2, 167, 0, 14]
abbrev dktX9_called_8 : List UInt8 := dkwX9_called_8 ++ dktX9_called_9
def dkwX9_called_7 : List UInt8 := [92, 46, 21, 6, 21, 7, 122, 4, 126, 96, 79, 132, 7, 1, 167, 255, 229, 132, 5, 1, 167, 255, 123, 28]
abbrev dktX9_called_7 : List UInt8 := dkwX9_called_7 ++ dktX9_called_8
def dkwX9_called_6 : List UInt8 := [46, 16, 16, 108, 120, 128, 54, 4, 3, 54, 7, 21, 7, 16, 10, 162, 0, 26, 42, 180, 0, 203, 21, 7]
abbrev dktX9_called_6 : List UInt8 := dkwX9_called_6 ++ dktX9_called_7
def dkwX9_called_5 : List UInt8 := [29, 4, 42, 180, 0, 189, 21, 5, 46, 16, 16, 112, 120, 128, 62, 21, 4, 4, 42, 180, 0, 189, 21, 5]
abbrev dktX9_called_5 : List UInt8 := dkwX9_called_5 ++ dktX9_called_6
def dkwX9_called_4 : List UInt8 := [21, 6, 42, 180, 0, 150, 3, 46, 126, 42, 180, 0, 153, 3, 46, 159, 0, 6, 167, 0, 71, 132, 2, 1]
abbrev dktX9_called_4 : List UInt8 := dkwX9_called_4 ++ dktX9_called_5
def dkwX9_called_3 : List UInt8 := [180, 0, 168, 4, 46, 42, 180, 0, 183, 21, 5, 46, 42, 180, 0, 186, 21, 5, 46, 182, 2, 3, 54, 6]
abbrev dktX9_called_3 : List UInt8 := dkwX9_called_3 ++ dktX9_called_4
def dkwX9_called_2 : List UInt8 := [167, 255, 238, 3, 54, 5, 21, 5, 42, 180, 2, 45, 162, 0, 130, 42, 42, 180, 0, 168, 3, 46, 42]
abbrev dktX9_called_2 : List UInt8 := dkwX9_called_2 ++ dktX9_called_3
def dkwX9_called_1 : List UInt8 := [3, 54, 4, 3, 54, 5, 21, 5, 16, 10, 162, 0, 17, 42, 180, 0, 203, 21, 5, 3, 79, 132, 5, 1]
abbrev dktX9_called_1 : List UInt8 := dkwX9_called_1 ++ dktX9_called_2
def dkwX9_called_0 : List UInt8 := [42, 3, 181, 0, 212, 27, 3, 6, 184, 1, 95, 154, 0, 5, 2, 172, 42, 182, 2, 58, 3, 61, 3, 62]
abbrev dktX9_called_0 : List UInt8 := dkwX9_called_0 ++ dktX9_called_1
theorem dksX9_called_0 : cX9_called.data.toList.drop 0 = dktX9_called_0 := by decide +kernel
theorem dksX9_called_1 : cX9_called.data.toList.drop 24 = dktX9_called_1 := dk_seg dksX9_called_0 24 rfl rfl
theorem dksX9_called_2 : cX9_called.data.toList.drop 48 = dktX9_called_2 := dk_seg dksX9_called_1 24 rfl rfl
theorem dksX9_called_3 : cX9_called.data.toList.drop 71 = dktX9_called_3 := dk_seg dksX9_called_2 23 rfl rfl
theorem dksX9_called_4 : cX9_called.data.toList.drop 95 = dktX9_called_4 := dk_seg dksX9_called_3 24 rfl rfl
theorem dksX9_called_5 : cX9_called.data.toList.drop 119 = dktX9_called_5 := dk_seg dksX9_called_4 24 rfl rfl
theorem dksX9_called_6 : cX9_called.data.toList.drop 143 = dktX9_called_6 := dk_seg dksX9_called_5 24 rfl rfl
theorem dksX9_called_7 : cX9_called.data.toList.drop 167 = dktX9_called_7 := dk_seg dksX9_called_6 24 rfl rfl
theorem dksX9_called_8 : cX9_called.data.toList.drop 191 = dktX9_called_8 := dk_seg dksX9_called_7 24 rfl rfl
theorem dksX9_called_9 : cX9_called.data.toList.drop 215 = dktX9_called_9 := dk_seg dksX9_called_8 24 rfl rfl
theorem dksX9_called_10 : cX9_called.data.toList.drop 239 = dktX9_called_10 := dk_seg dksX9_called_9 24 rfl rfl
theorem dksX9_called_11 : cX9_called.data.toList.drop 263 = dktX9_called_11 := dk_seg dksX9_called_10 24 rfl rfl
theorem dksX9_called_12 : cX9_called.data.toList.drop 287 = dktX9_called_12 := dk_seg dksX9_called_11 24 rfl rfl
theorem dksX9_called_13 : cX9_called.data.toList.drop 310 = dktX9_called_13 := dk_seg dksX9_called_12 23 rfl rfl
theorem dX9_called_0 : decode cX9_called 0 = .ok (.aload_n 0, 1) := dk_42 (dk_at dksX9_called_0 0 rfl rfl)
theorem dX9_called_1 : decode cX9_called 1 = .ok (.iconst 0, 1) := dk_3 (dk_at dksX9_called_0 1 rfl rfl)
theorem dX9_called_2 : decode cX9_called 2 = .ok (.putfield 212, 3) := dk_181 0 212 (dk_at dksX9_called_0 2 rfl rfl)
theorem dX9_called_5 : decode cX9_called 5 = .ok (.iload_n 1, 1) := dk_27 (dk_at dksX9_called_0 5 rfl rfl)
theorem dX9_called_6 : decode cX9_called 6 = .ok (.iconst 0, 1) := dk_3 (dk_at dksX9_called_0 6 rfl rfl)
theorem dX9_called_7 : decode cX9_called 7 = .ok (.iconst 3, 1) := dk_6 (dk_at dksX9_called_0 7 rfl rfl)
theorem dX9_called_8 : decode cX9_called 8 = .ok (.invokestatic 351, 3) := dk_184 1 95 (dk_at dksX9_called_0 8 rfl rfl)
theorem dX9_called_11 : decode cX9_called 11 = .ok (.ifCond .ne 5, 3) := dk_154 0 5 (dk_at dksX9_called_0 11 rfl rfl)
theorem dX9_called_14 : decode cX9_called 14 = .ok (.iconst (-1), 1) := dk_2 (dk_at dksX9_called_0 14 rfl rfl)
theorem dX9_called_15 : decode cX9_called 15 = .ok (.ireturn, 1) := dk_172 (dk_at dksX9_called_0 15 rfl rfl)
theorem dX9_called_16 : decode cX9_called 16 = .ok (.aload_n 0, 1) := dk_42 (dk_at dksX9_called_0 16 rfl rfl)
theorem dX9_called_17 : decode cX9_called 17 = .ok (.invokevirtual 570, 3) := dk_182 2 58 (dk_at dksX9_called_0 17 rfl rfl)
theorem dX9_called_20 : decode cX9_called 20 = .ok (.iconst 0, 1) := dk_3 (dk_at dksX9_called_0 20 rfl rfl)
theorem dX9_called_21 : decode cX9_called 21 = .ok (.istore_n 2, 1) := dk_61 (dk_at dksX9_called_0 21 rfl rfl)
theorem dX9_called_22 : decode cX9_called 22 = .ok (.iconst 0, 1) := dk_3 (dk_at dksX9_called_0 22 rfl rfl)
theorem dX9_called_23 : decode cX9_called 23 = .ok (.istore_n 3, 1) := dk_62 (dk_at dksX9_called_0 23 rfl rfl)
theorem dX9_called_24 : decode cX9_called 24 = .ok (.iconst 0, 1) := dk_3 (dk_at dksX9_called_1 0 rfl rfl)
theorem dX9_called_25 : decode cX9_called 25 = .ok (.istore 4, 2) := dk_54 4 (dk_at dksX9_called_1 1 rfl rfl)
theorem dX9_called_27 : decode cX9_called 27 = .ok (.iconst 0, 1) := dk_3 (dk_at dksX9_called_1 3 rfl rfl)
theorem dX9_called_28 : decode cX9_called 28 = .ok (.istore 5, 2) := dk_54 5 (dk_at dksX9_called_1 4 rfl rfl)
theorem dX9_called_30 : decode cX9_called 30 = .ok (.iload 5, 2) := dk_21 5 (dk_at dksX9_called_1 6 rfl rfl)
theorem dX9_called_32 : decode cX9_called 32 = .ok (.bipush 10, 2) := dk_16 10 (dk_at dksX9_called_1 8 rfl rfl)
theorem dX9_called_34 : decode cX9_called 34 = .ok (.if_icmp .ge 17, 3) := dk_162 0 17 (dk_at dksX9_called_1 10 rfl rfl)
theorem dX9_called_37 : decode cX9_called 37 = .ok (.aload_n 0, 1) := dk_42 (dk_at dksX9_called_1 13 rfl rfl)
theorem dX9_called_38 : decode cX9_called 38 = .ok (.getfield 203, 3) := dk_180 0 203 (dk_at dksX9_called_1 14 rfl rfl)
theorem dX9_called_41 : decode cX9_called 41 = .ok (.iload 5, 2) := dk_21 5 (dk_at dksX9_called_1 17 rfl rfl)
theorem dX9_called_43 : decode cX9_called 43 = .ok (.iconst 0, 1) := dk_3 (dk_at dksX9_called_1 19 rfl rfl)
theorem dX9_called_44 : decode cX9_called 44 = .ok (.iastore, 1) := dk_79 (dk_at dksX9_called_1 20 rfl rfl)
theorem dX9_called_45 : decode cX9_called 45 = .ok (.iinc 5 1, 3) := dk_132 5 1 (dk_at dksX9_called_1 21 rfl rfl)
theorem dX9_called_48 : decode cX9_called 48 = .ok (.goto (-18), 3) := dk_167 255 238 (dk_at dksX9_called_2 0 rfl rfl)
theorem dX9_called_51 : decode cX9_called 51 = .ok (.iconst 0, 1) := dk_3 (dk_at dksX9_called_2 3 rfl rfl)
theorem dX9_called_52 : decode cX9_called 52 = .ok (.istore 5, 2) := dk_54 5 (dk_at dksX9_called_2 4 rfl rfl)
theorem dX9_called_54 : decode cX9_called 54 = .ok (.iload 5, 2) := dk_21 5 (dk_at dksX9_called_2 6 rfl rfl)
theorem dX9_called_56 : decode cX9_called 56 = .ok (.aload_n 0, 1) := dk_42 (dk_at dksX9_called_2 8 rfl rfl)
theorem dX9_called_57 : decode cX9_called 57 = .ok (.getfield 557, 3) := dk_180 2 45 (dk_at dksX9_called_2 9 rfl rfl)
theorem dX9_called_60 : decode cX9_called 60 = .ok (.if_icmp .ge 130, 3) := dk_162 0 130 (dk_at dksX9_called_2 12 rfl rfl)
theorem dX9_called_63 : decode cX9_called 63 = .ok (.aload_n 0, 1) := dk_42 (dk_at dksX9_called_2 15 rfl rfl)
theorem dX9_called_64 : decode cX9_called 64 = .ok (.aload_n 0, 1) := dk_42 (dk_at dksX9_called_2 16 rfl rfl)
theorem dX9_called_65 : decode cX9_called 65 = .ok (.getfield 168, 3) := dk_180 0 168 (dk_at dksX9_called_2 17 rfl rfl)
theorem dX9_called_68 : decode cX9_called 68 = .ok (.iconst 0, 1) := dk_3 (dk_at dksX9_called_2 20 rfl rfl)
theorem dX9_called_69 : decode cX9_called 69 = .ok (.iaload, 1) := dk_46 (dk_at dksX9_called_2 21 rfl rfl)
theorem dX9_called_70 : decode cX9_called 70 = .ok (.aload_n 0, 1) := dk_42 (dk_at dksX9_called_2 22 rfl rfl)
theorem dX9_called_71 : decode cX9_called 71 = .ok (.getfield 168, 3) := dk_180 0 168 (dk_at dksX9_called_3 0 rfl rfl)
theorem dX9_called_74 : decode cX9_called 74 = .ok (.iconst 1, 1) := dk_4 (dk_at dksX9_called_3 3 rfl rfl)
theorem dX9_called_75 : decode cX9_called 75 = .ok (.iaload, 1) := dk_46 (dk_at dksX9_called_3 4 rfl rfl)
theorem dX9_called_76 : decode cX9_called 76 = .ok (.aload_n 0, 1) := dk_42 (dk_at dksX9_called_3 5 rfl rfl)
theorem dX9_called_77 : decode cX9_called 77 = .ok (.getfield 183, 3) := dk_180 0 183 (dk_at dksX9_called_3 6 rfl rfl)
theorem dX9_called_80 : decode cX9_called 80 = .ok (.iload 5, 2) := dk_21 5 (dk_at dksX9_called_3 9 rfl rfl)
theorem dX9_called_82 : decode cX9_called 82 = .ok (.iaload, 1) := dk_46 (dk_at dksX9_called_3 11 rfl rfl)
theorem dX9_called_83 : decode cX9_called 83 = .ok (.aload_n 0, 1) := dk_42 (dk_at dksX9_called_3 12 rfl rfl)
theorem dX9_called_84 : decode cX9_called 84 = .ok (.getfield 186, 3) := dk_180 0 186 (dk_at dksX9_called_3 13 rfl rfl)
theorem dX9_called_87 : decode cX9_called 87 = .ok (.iload 5, 2) := dk_21 5 (dk_at dksX9_called_3 16 rfl rfl)
theorem dX9_called_89 : decode cX9_called 89 = .ok (.iaload, 1) := dk_46 (dk_at dksX9_called_3 18 rfl rfl)
theorem dX9_called_90 : decode cX9_called 90 = .ok (.invokevirtual 515, 3) := dk_182 2 3 (dk_at dksX9_called_3 19 rfl rfl)
theorem dX9_called_93 : decode cX9_called 93 = .ok (.istore 6, 2) := dk_54 6 (dk_at dksX9_called_3 22 rfl rfl)
theorem dX9_called_95 : decode cX9_called 95 = .ok (.iload 6, 2) := dk_21 6 (dk_at dksX9_called_4 0 rfl rfl)
theorem dX9_called_97 : decode cX9_called 97 = .ok (.aload_n 0, 1) := dk_42 (dk_at dksX9_called_4 2 rfl rfl)
theorem dX9_called_98 : decode cX9_called 98 = .ok (.getfield 150, 3) := dk_180 0 150 (dk_at dksX9_called_4 3 rfl rfl)
theorem dX9_called_101 : decode cX9_called 101 = .ok (.iconst 0, 1) := dk_3 (dk_at dksX9_called_4 6 rfl rfl)
theorem dX9_called_102 : decode cX9_called 102 = .ok (.iaload, 1) := dk_46 (dk_at dksX9_called_4 7 rfl rfl)
theorem dX9_called_103 : decode cX9_called 103 = .ok (.iand, 1) := dk_126 (dk_at dksX9_called_4 8 rfl rfl)
theorem dX9_called_104 : decode cX9_called 104 = .ok (.aload_n 0, 1) := dk_42 (dk_at dksX9_called_4 9 rfl rfl)
theorem dX9_called_105 : decode cX9_called 105 = .ok (.getfield 153, 3) := dk_180 0 153 (dk_at dksX9_called_4 10 rfl rfl)
theorem dX9_called_108 : decode cX9_called 108 = .ok (.iconst 0, 1) := dk_3 (dk_at dksX9_called_4 13 rfl rfl)
theorem dX9_called_109 : decode cX9_called 109 = .ok (.iaload, 1) := dk_46 (dk_at dksX9_called_4 14 rfl rfl)
theorem dX9_called_110 : decode cX9_called 110 = .ok (.if_icmp .eq 6, 3) := dk_159 0 6 (dk_at dksX9_called_4 15 rfl rfl)
theorem dX9_called_113 : decode cX9_called 113 = .ok (.goto 71, 3) := dk_167 0 71 (dk_at dksX9_called_4 18 rfl rfl)
theorem dX9_called_116 : decode cX9_called 116 = .ok (.iinc 2 1, 3) := dk_132 2 1 (dk_at dksX9_called_4 21 rfl rfl)
theorem dX9_called_119 : decode cX9_called 119 = .ok (.iload_n 3, 1) := dk_29 (dk_at dksX9_called_5 0 rfl rfl)
theorem dX9_called_120 : decode cX9_called 120 = .ok (.iconst 1, 1) := dk_4 (dk_at dksX9_called_5 1 rfl rfl)
theorem dX9_called_121 : decode cX9_called 121 = .ok (.aload_n 0, 1) := dk_42 (dk_at dksX9_called_5 2 rfl rfl)
theorem dX9_called_122 : decode cX9_called 122 = .ok (.getfield 189, 3) := dk_180 0 189 (dk_at dksX9_called_5 3 rfl rfl)
theorem dX9_called_125 : decode cX9_called 125 = .ok (.iload 5, 2) := dk_21 5 (dk_at dksX9_called_5 6 rfl rfl)
theorem dX9_called_127 : decode cX9_called 127 = .ok (.iaload, 1) := dk_46 (dk_at dksX9_called_5 8 rfl rfl)
theorem dX9_called_128 : decode cX9_called 128 = .ok (.bipush 16, 2) := dk_16 16 (dk_at dksX9_called_5 9 rfl rfl)
theorem dX9_called_130 : decode cX9_called 130 = .ok (.irem, 1) := dk_112 (dk_at dksX9_called_5 11 rfl rfl)
theorem dX9_called_131 : decode cX9_called 131 = .ok (.ishl, 1) := dk_120 (dk_at dksX9_called_5 12 rfl rfl)
theorem dX9_called_132 : decode cX9_called 132 = .ok (.ior, 1) := dk_128 (dk_at dksX9_called_5 13 rfl rfl)
theorem dX9_called_133 : decode cX9_called 133 = .ok (.istore_n 3, 1) := dk_62 (dk_at dksX9_called_5 14 rfl rfl)
theorem dX9_called_134 : decode cX9_called 134 = .ok (.iload 4, 2) := dk_21 4 (dk_at dksX9_called_5 15 rfl rfl)
theorem dX9_called_136 : decode cX9_called 136 = .ok (.iconst 1, 1) := dk_4 (dk_at dksX9_called_5 17 rfl rfl)
theorem dX9_called_137 : decode cX9_called 137 = .ok (.aload_n 0, 1) := dk_42 (dk_at dksX9_called_5 18 rfl rfl)
theorem dX9_called_138 : decode cX9_called 138 = .ok (.getfield 189, 3) := dk_180 0 189 (dk_at dksX9_called_5 19 rfl rfl)
theorem dX9_called_141 : decode cX9_called 141 = .ok (.iload 5, 2) := dk_21 5 (dk_at dksX9_called_5 22 rfl rfl)
theorem dX9_called_143 : decode cX9_called 143 = .ok (.iaload, 1) := dk_46 (dk_at dksX9_called_6 0 rfl rfl)
theorem dX9_called_144 : decode cX9_called 144 = .ok (.bipush 16, 2) := dk_16 16 (dk_at dksX9_called_6 1 rfl rfl)
theorem dX9_called_146 : decode cX9_called 146 = .ok (.idiv, 1) := dk_108 (dk_at dksX9_called_6 3 rfl rfl)
theorem dX9_called_147 : decode cX9_called 147 = .ok (.ishl, 1) := dk_120 (dk_at dksX9_called_6 4 rfl rfl)
theorem dX9_called_148 : decode cX9_called 148 = .ok (.ior, 1) := dk_128 (dk_at dksX9_called_6 5 rfl rfl)
theorem dX9_called_149 : decode cX9_called 149 = .ok (.istore 4, 2) := dk_54 4 (dk_at dksX9_called_6 6 rfl rfl)
theorem dX9_called_151 : decode cX9_called 151 = .ok (.iconst 0, 1) := dk_3 (dk_at dksX9_called_6 8 rfl rfl)
theorem dX9_called_152 : decode cX9_called 152 = .ok (.istore 7, 2) := dk_54 7 (dk_at dksX9_called_6 9 rfl rfl)
theorem dX9_called_154 : decode cX9_called 154 = .ok (.iload 7, 2) := dk_21 7 (dk_at dksX9_called_6 11 rfl rfl)
theorem dX9_called_156 : decode cX9_called 156 = .ok (.bipush 10, 2) := dk_16 10 (dk_at dksX9_called_6 13 rfl rfl)
theorem dX9_called_158 : decode cX9_called 158 = .ok (.if_icmp .ge 26, 3) := dk_162 0 26 (dk_at dksX9_called_6 15 rfl rfl)
theorem dX9_called_161 : decode cX9_called 161 = .ok (.aload_n 0, 1) := dk_42 (dk_at dksX9_called_6 18 rfl rfl)
theorem dX9_called_162 : decode cX9_called 162 = .ok (.getfield 203, 3) := dk_180 0 203 (dk_at dksX9_called_6 19 rfl rfl)
theorem dX9_called_165 : decode cX9_called 165 = .ok (.iload 7, 2) := dk_21 7 (dk_at dksX9_called_6 22 rfl rfl)
theorem dX9_called_167 : decode cX9_called 167 = .ok (.dup2, 1) := dk_92 (dk_at dksX9_called_7 0 rfl rfl)
theorem dX9_called_168 : decode cX9_called 168 = .ok (.iaload, 1) := dk_46 (dk_at dksX9_called_7 1 rfl rfl)
theorem dX9_called_169 : decode cX9_called 169 = .ok (.iload 6, 2) := dk_21 6 (dk_at dksX9_called_7 2 rfl rfl)
theorem dX9_called_171 : decode cX9_called 171 = .ok (.iload 7, 2) := dk_21 7 (dk_at dksX9_called_7 4 rfl rfl)
theorem dX9_called_173 : decode cX9_called 173 = .ok (.ishr, 1) := dk_122 (dk_at dksX9_called_7 6 rfl rfl)
theorem dX9_called_174 : decode cX9_called 174 = .ok (.iconst 1, 1) := dk_4 (dk_at dksX9_called_7 7 rfl rfl)
theorem dX9_called_175 : decode cX9_called 175 = .ok (.iand, 1) := dk_126 (dk_at dksX9_called_7 8 rfl rfl)
theorem dX9_called_176 : decode cX9_called 176 = .ok (.iadd, 1) := dk_96 (dk_at dksX9_called_7 9 rfl rfl)
theorem dX9_called_177 : decode cX9_called 177 = .ok (.iastore, 1) := dk_79 (dk_at dksX9_called_7 10 rfl rfl)
theorem dX9_called_178 : decode cX9_called 178 = .ok (.iinc 7 1, 3) := dk_132 7 1 (dk_at dksX9_called_7 11 rfl rfl)
theorem dX9_called_181 : decode cX9_called 181 = .ok (.goto (-27), 3) := dk_167 255 229 (dk_at dksX9_called_7 14 rfl rfl)
theorem dX9_called_184 : decode cX9_called 184 = .ok (.iinc 5 1, 3) := dk_132 5 1 (dk_at dksX9_called_7 17 rfl rfl)
theorem dX9_called_187 : decode cX9_called 187 = .ok (.goto (-133), 3) := dk_167 255 123 (dk_at dksX9_called_7 20 rfl rfl)
theorem dX9_called_190 : decode cX9_called 190 = .ok (.iload_n 2, 1) := dk_28 (dk_at dksX9_called_7 23 rfl rfl)
theorem dX9_called_191 : decode cX9_called 191 = .ok (.ifCond .eq 8, 3) := dk_153 0 8 (dk_at dksX9_called_8 0 rfl rfl)
theorem dX9_called_194 : decode cX9_called 194 = .ok (.iload_n 1, 1) := dk_27 (dk_at dksX9_called_8 3 rfl rfl)
theorem dX9_called_195 : decode cX9_called 195 = .ok (.iconst 3, 1) := dk_6 (dk_at dksX9_called_8 4 rfl rfl)
theorem dX9_called_196 : decode cX9_called 196 = .ok (.if_icmp .ge 31, 3) := dk_162 0 31 (dk_at dksX9_called_8 5 rfl rfl)
theorem dX9_called_199 : decode cX9_called 199 = .ok (.iload_n 1, 1) := dk_27 (dk_at dksX9_called_8 8 rfl rfl)
theorem dX9_called_200 : decode cX9_called 200 = .ok (.ifCond .ne 7, 3) := dk_154 0 7 (dk_at dksX9_called_8 9 rfl rfl)
theorem dX9_called_203 : decode cX9_called 203 = .ok (.iload_n 2, 1) := dk_28 (dk_at dksX9_called_8 12 rfl rfl)
theorem dX9_called_204 : decode cX9_called 204 = .ok (.goto 22, 3) := dk_167 0 22 (dk_at dksX9_called_8 13 rfl rfl)
theorem dX9_called_207 : decode cX9_called 207 = .ok (.iload_n 2, 1) := dk_28 (dk_at dksX9_called_8 16 rfl rfl)
theorem dX9_called_208 : decode cX9_called 208 = .ok (.ifCond .ne 7, 3) := dk_154 0 7 (dk_at dksX9_called_8 17 rfl rfl)
theorem dX9_called_211 : decode cX9_called 211 = .ok (.iconst (-1), 1) := dk_2 (dk_at dksX9_called_8 20 rfl rfl)
theorem dX9_called_212 : decode cX9_called 212 = .ok (.goto 14, 3) := dk_167 0 14 (dk_at dksX9_called_8 21 rfl rfl)
theorem dX9_called_215 : decode cX9_called 215 = .ok (.iload_n 1, 1) := dk_27 (dk_at dksX9_called_9 0 rfl rfl)
theorem dX9_called_216 : decode cX9_called 216 = .ok (.iconst 1, 1) := dk_4 (dk_at dksX9_called_9 1 rfl rfl)
theorem dX9_called_217 : decode cX9_called 217 = .ok (.if_icmp .ne 7, 3) := dk_160 0 7 (dk_at dksX9_called_9 2 rfl rfl)
theorem dX9_called_220 : decode cX9_called 220 = .ok (.iload_n 3, 1) := dk_29 (dk_at dksX9_called_9 5 rfl rfl)
theorem dX9_called_221 : decode cX9_called 221 = .ok (.goto 5, 3) := dk_167 0 5 (dk_at dksX9_called_9 6 rfl rfl)
theorem dX9_called_224 : decode cX9_called 224 = .ok (.iload 4, 2) := dk_21 4 (dk_at dksX9_called_9 9 rfl rfl)
theorem dX9_called_226 : decode cX9_called 226 = .ok (.ireturn, 1) := dk_172 (dk_at dksX9_called_9 11 rfl rfl)
theorem dX9_called_227 : decode cX9_called 227 = .ok (.iconst (-1), 1) := dk_2 (dk_at dksX9_called_9 12 rfl rfl)
theorem dX9_called_228 : decode cX9_called 228 = .ok (.istore 5, 2) := dk_54 5 (dk_at dksX9_called_9 13 rfl rfl)
theorem dX9_called_230 : decode cX9_called 230 = .ok (.iconst 0, 1) := dk_3 (dk_at dksX9_called_9 15 rfl rfl)
theorem dX9_called_231 : decode cX9_called 231 = .ok (.istore 6, 2) := dk_54 6 (dk_at dksX9_called_9 16 rfl rfl)
theorem dX9_called_233 : decode cX9_called 233 = .ok (.iconst 0, 1) := dk_3 (dk_at dksX9_called_9 18 rfl rfl)
theorem dX9_called_234 : decode cX9_called 234 = .ok (.istore 7, 2) := dk_54 7 (dk_at dksX9_called_9 19 rfl rfl)
theorem dX9_called_236 : decode cX9_called 236 = .ok (.iload 7, 2) := dk_21 7 (dk_at dksX9_called_9 21 rfl rfl)
theorem dX9_called_238 : decode cX9_called 238 = .ok (.aload_n 0, 1) := dk_42 (dk_at dksX9_called_9 23 rfl rfl)
theorem dX9_called_239 : decode cX9_called 239 = .ok (.getfield 13, 3) := dk_180 0 13 (dk_at dksX9_called_10 0 rfl rfl)
theorem dX9_called_242 : decode cX9_called 242 = .ok (.iconst 0, 1) := dk_3 (dk_at dksX9_called_10 3 rfl rfl)
theorem dX9_called_243 : decode cX9_called 243 = .ok (.iaload, 1) := dk_46 (dk_at dksX9_called_10 4 rfl rfl)
theorem dX9_called_244 : decode cX9_called 244 = .ok (.if_icmp .ge 72, 3) := dk_162 0 72 (dk_at dksX9_called_10 5 rfl rfl)
theorem dX9_called_247 : decode cX9_called 247 = .ok (.aload_n 0, 1) := dk_42 (dk_at dksX9_called_10 8 rfl rfl)
theorem dX9_called_248 : decode cX9_called 248 = .ok (.getfield 203, 3) := dk_180 0 203 (dk_at dksX9_called_10 9 rfl rfl)
theorem dX9_called_251 : decode cX9_called 251 = .ok (.iload 7, 2) := dk_21 7 (dk_at dksX9_called_10 12 rfl rfl)
theorem dX9_called_253 : decode cX9_called 253 = .ok (.iaload, 1) := dk_46 (dk_at dksX9_called_10 14 rfl rfl)
theorem dX9_called_254 : decode cX9_called 254 = .ok (.iload_n 2, 1) := dk_28 (dk_at dksX9_called_10 15 rfl rfl)
theorem dX9_called_255 : decode cX9_called 255 = .ok (.aload_n 0, 1) := dk_42 (dk_at dksX9_called_10 16 rfl rfl)
theorem dX9_called_256 : decode cX9_called 256 = .ok (.getfield 203, 3) := dk_180 0 203 (dk_at dksX9_called_10 17 rfl rfl)
theorem dX9_called_259 : decode cX9_called 259 = .ok (.iload 7, 2) := dk_21 7 (dk_at dksX9_called_10 20 rfl rfl)
theorem dX9_called_261 : decode cX9_called 261 = .ok (.iaload, 1) := dk_46 (dk_at dksX9_called_10 22 rfl rfl)
theorem dX9_called_262 : decode cX9_called 262 = .ok (.isub, 1) := dk_100 (dk_at dksX9_called_10 23 rfl rfl)
theorem dX9_called_263 : decode cX9_called 263 = .ok (.invokestatic 447, 3) := dk_184 1 191 (dk_at dksX9_called_11 0 rfl rfl)
theorem dX9_called_266 : decode cX9_called 266 = .ok (.istore 8, 2) := dk_54 8 (dk_at dksX9_called_11 3 rfl rfl)
theorem dX9_called_268 : decode cX9_called 268 = .ok (.aload_n 0, 1) := dk_42 (dk_at dksX9_called_11 5 rfl rfl)
theorem dX9_called_269 : decode cX9_called 269 = .ok (.iload 7, 2) := dk_21 7 (dk_at dksX9_called_11 6 rfl rfl)
theorem dX9_called_271 : decode cX9_called 271 = .ok (.invokevirtual 532, 3) := dk_182 2 20 (dk_at dksX9_called_11 8 rfl rfl)
theorem dX9_called_274 : decode cX9_called 274 = .ok (.ifCond .eq 36, 3) := dk_153 0 36 (dk_at dksX9_called_11 11 rfl rfl)
theorem dX9_called_277 : decode cX9_called 277 = .ok (.aload_n 0, 1) := dk_42 (dk_at dksX9_called_11 14 rfl rfl)
theorem dX9_called_278 : decode cX9_called 278 = .ok (.getfield 150, 3) := dk_180 0 150 (dk_at dksX9_called_11 15 rfl rfl)
theorem dX9_called_281 : decode cX9_called 281 = .ok (.iconst 0, 1) := dk_3 (dk_at dksX9_called_11 18 rfl rfl)
theorem dX9_called_282 : decode cX9_called 282 = .ok (.iaload, 1) := dk_46 (dk_at dksX9_called_11 19 rfl rfl)
theorem dX9_called_283 : decode cX9_called 283 = .ok (.iload 7, 2) := dk_21 7 (dk_at dksX9_called_11 20 rfl rfl)
theorem dX9_called_285 : decode cX9_called 285 = .ok (.ishr, 1) := dk_122 (dk_at dksX9_called_11 22 rfl rfl)
theorem dX9_called_286 : decode cX9_called 286 = .ok (.iconst 1, 1) := dk_4 (dk_at dksX9_called_11 23 rfl rfl)
theorem dX9_called_287 : decode cX9_called 287 = .ok (.iand, 1) := dk_126 (dk_at dksX9_called_12 0 rfl rfl)
theorem dX9_called_288 : decode cX9_called 288 = .ok (.iconst 1, 1) := dk_4 (dk_at dksX9_called_12 1 rfl rfl)
theorem dX9_called_289 : decode cX9_called 289 = .ok (.if_icmp .eq 21, 3) := dk_159 0 21 (dk_at dksX9_called_12 2 rfl rfl)
theorem dX9_called_292 : decode cX9_called 292 = .ok (.iload 8, 2) := dk_21 8 (dk_at dksX9_called_12 5 rfl rfl)
theorem dX9_called_294 : decode cX9_called 294 = .ok (.iload 6, 2) := dk_21 6 (dk_at dksX9_called_12 7 rfl rfl)
theorem dX9_called_296 : decode cX9_called 296 = .ok (.if_icmp .gt 6, 3) := dk_163 0 6 (dk_at dksX9_called_12 9 rfl rfl)
theorem dX9_called_299 : decode cX9_called 299 = .ok (.goto 11, 3) := dk_167 0 11 (dk_at dksX9_called_12 12 rfl rfl)
theorem dX9_called_302 : decode cX9_called 302 = .ok (.iload 8, 2) := dk_21 8 (dk_at dksX9_called_12 15 rfl rfl)
theorem dX9_called_304 : decode cX9_called 304 = .ok (.istore 6, 2) := dk_54 6 (dk_at dksX9_called_12 17 rfl rfl)
theorem dX9_called_306 : decode cX9_called 306 = .ok (.iload 7, 2) := dk_21 7 (dk_at dksX9_called_12 19 rfl rfl)
theorem dX9_called_308 : decode cX9_called 308 = .ok (.istore 5, 2) := dk_54 5 (dk_at dksX9_called_12 21 rfl rfl)
theorem dX9_called_310 : decode cX9_called 310 = .ok (.iinc 7 1, 3) := dk_132 7 1 (dk_at dksX9_called_13 0 rfl rfl)
theorem dX9_called_313 : decode cX9_called 313 = .ok (.goto (-77), 3) := dk_167 255 179 (dk_at dksX9_called_13 3 rfl rfl)
theorem dX9_called_316 : decode cX9_called 316 = .ok (.iload 5, 2) := dk_21 5 (dk_at dksX9_called_13 6 rfl rfl)
theorem dX9_called_318 : decode cX9_called 318 = .ok (.ireturn, 1) := dk_172 (dk_at dksX9_called_13 8 rfl rfl)
abbrev cX9_tell : ByteArray := prog_35_method_93_code
def yX9_tell : MethodName := ⟨RX9, "tell", "(IIZ)Z"⟩
def dkwX9_tell_3 : List UInt8 := [42, 180, 0, 156, 3, 92, 46, 4, 96, 79, 4, 172]
abbrev dktX9_tell_3 : List UInt8 := dkwX9_tell_3 ++ []
def dkwX9_tell_2 : List UInt8 := [42, 180, 0, 162, 42, 180, 0, 156, 3, 46, 28, 79, 42, 180, 0, 165, 42, 180, 0, 156, 3, 46, 29, 84]
abbrev dktX9_tell_2 : List UInt8 := dkwX9_tell_2 ++ dktX9_tell_3
def dkwX9_tell_1 : List UInt8 := [180, 0, 156, 3, 46, 16, 12, 160, 0, 5, 3, 172, 42, 180, 0, 159, 42, 180, 0, 156, 3, 46, 27, 79]
abbrev dktX9_tell_1 : List UInt8 := dkwX9_tell_1 ++ dktX9_tell_2
def dkwX9_tell_0 : List UInt8 := [42, 3, 181, 0, 212, 42, 27, 182, 1, 228, 153, 0, 22, 42, 28, 182, 1, 228, 153, 0, 14, 42]
abbrev dktX9_tell_0 : List UInt8 := dkwX9_tell_0 ++ dktX9_tell_1
theorem dksX9_tell_0 : cX9_tell.data.toList.drop 0 = dktX9_tell_0 := by decide +kernel
theorem dksX9_tell_1 : cX9_tell.data.toList.drop 22 = dktX9_tell_1 := dk_seg dksX9_tell_0 22 rfl rfl
theorem dksX9_tell_2 : cX9_tell.data.toList.drop 46 = dktX9_tell_2 := dk_seg dksX9_tell_1 24 rfl rfl
theorem dksX9_tell_3 : cX9_tell.data.toList.drop 70 = dktX9_tell_3 := dk_seg dksX9_tell_2 24 rfl rfl
theorem dX9_tell_0 : decode cX9_tell 0 = .ok (.aload_n 0, 1) := dk_42 (dk_at dksX9_tell_0 0 rfl rfl)
theorem dX9_tell_1 : decode cX9_tell 1 = .ok (.iconst 0, 1) := dk_3 (dk_at dksX9_tell_0 1 rfl rfl)
theorem dX9_tell_2 : decode cX9_tell 2 = .ok (.putfield 212, 3) := dk_181 0 212 (dk_at dksX9_tell_0 2 rfl rfl)
theorem dX9_tell_5 : decode cX9_tell 5 = .ok (.aload_n 0, 1) := dk_42 (dk_at dksX9_tell_0 5 rfl rfl)
theorem dX9_tell_6 : decode cX9_tell 6 = .ok (.iload_n 1, 1) := dk_27 (dk_at dksX9_tell_0 6 rfl rfl)
theorem dX9_tell_7 : decode cX9_tell 7 = .ok (.invokevirtual 484, 3) := dk_182 1 228 (dk_at dksX9_tell_0 7 rfl rfl)
theorem dX9_tell_10 : decode cX9_tell 10 = .ok (.ifCond .eq 22, 3) := dk_153 0 22 (dk_at dksX9_tell_0 10 rfl rfl)
theorem dX9_tell_13 : decode cX9_tell 13 = .ok (.aload_n 0, 1) := dk_42 (dk_at dksX9_tell_0 13 rfl rfl)
theorem dX9_tell_14 : decode cX9_tell 14 = .ok (.iload_n 2, 1) := dk_28 (dk_at dksX9_tell_0 14 rfl rfl)
theorem dX9_tell_15 : decode cX9_tell 15 = .ok (.invokevirtual 484, 3) := dk_182 1 228 (dk_at dksX9_tell_0 15 rfl rfl)
theorem dX9_tell_18 : decode cX9_tell 18 = .ok (.ifCond .eq 14, 3) := dk_153 0 14 (dk_at dksX9_tell_0 18 rfl rfl)
theorem dX9_tell_21 : decode cX9_tell 21 = .ok (.aload_n 0, 1) := dk_42 (dk_at dksX9_tell_0 21 rfl rfl)
theorem dX9_tell_22 : decode cX9_tell 22 = .ok (.getfield 156, 3) := dk_180 0 156 (dk_at dksX9_tell_1 0 rfl rfl)
theorem dX9_tell_25 : decode cX9_tell 25 = .ok (.iconst 0, 1) := dk_3 (dk_at dksX9_tell_1 3 rfl rfl)
theorem dX9_tell_26 : decode cX9_tell 26 = .ok (.iaload, 1) := dk_46 (dk_at dksX9_tell_1 4 rfl rfl)
theorem dX9_tell_27 : decode cX9_tell 27 = .ok (.bipush 12, 2) := dk_16 12 (dk_at dksX9_tell_1 5 rfl rfl)
theorem dX9_tell_29 : decode cX9_tell 29 = .ok (.if_icmp .ne 5, 3) := dk_160 0 5 (dk_at dksX9_tell_1 7 rfl rfl)
theorem dX9_tell_32 : decode cX9_tell 32 = .ok (.iconst 0, 1) := dk_3 (dk_at dksX9_tell_1 10 rfl rfl)
theorem dX9_tell_33 : decode cX9_tell 33 = .ok (.ireturn, 1) := dk_172 (dk_at dksX9_tell_1 11 rfl rfl)
theorem dX9_tell_34 : decode cX9_tell 34 = .ok (.aload_n 0, 1) := dk_42 (dk_at dksX9_tell_1 12 rfl rfl)
theorem dX9_tell_35 : decode cX9_tell 35 = .ok (.getfield 159, 3) := dk_180 0 159 (dk_at dksX9_tell_1 13 rfl rfl)
theorem dX9_tell_38 : decode cX9_tell 38 = .ok (.aload_n 0, 1) := dk_42 (dk_at dksX9_tell_1 16 rfl rfl)
theorem dX9_tell_39 : decode cX9_tell 39 = .ok (.getfield 156, 3) := dk_180 0 156 (dk_at dksX9_tell_1 17 rfl rfl)
theorem dX9_tell_42 : decode cX9_tell 42 = .ok (.iconst 0, 1) := dk_3 (dk_at dksX9_tell_1 20 rfl rfl)
theorem dX9_tell_43 : decode cX9_tell 43 = .ok (.iaload, 1) := dk_46 (dk_at dksX9_tell_1 21 rfl rfl)
theorem dX9_tell_44 : decode cX9_tell 44 = .ok (.iload_n 1, 1) := dk_27 (dk_at dksX9_tell_1 22 rfl rfl)
theorem dX9_tell_45 : decode cX9_tell 45 = .ok (.iastore, 1) := dk_79 (dk_at dksX9_tell_1 23 rfl rfl)
theorem dX9_tell_46 : decode cX9_tell 46 = .ok (.aload_n 0, 1) := dk_42 (dk_at dksX9_tell_2 0 rfl rfl)
theorem dX9_tell_47 : decode cX9_tell 47 = .ok (.getfield 162, 3) := dk_180 0 162 (dk_at dksX9_tell_2 1 rfl rfl)
theorem dX9_tell_50 : decode cX9_tell 50 = .ok (.aload_n 0, 1) := dk_42 (dk_at dksX9_tell_2 4 rfl rfl)
theorem dX9_tell_51 : decode cX9_tell 51 = .ok (.getfield 156, 3) := dk_180 0 156 (dk_at dksX9_tell_2 5 rfl rfl)
theorem dX9_tell_54 : decode cX9_tell 54 = .ok (.iconst 0, 1) := dk_3 (dk_at dksX9_tell_2 8 rfl rfl)
theorem dX9_tell_55 : decode cX9_tell 55 = .ok (.iaload, 1) := dk_46 (dk_at dksX9_tell_2 9 rfl rfl)
theorem dX9_tell_56 : decode cX9_tell 56 = .ok (.iload_n 2, 1) := dk_28 (dk_at dksX9_tell_2 10 rfl rfl)
theorem dX9_tell_57 : decode cX9_tell 57 = .ok (.iastore, 1) := dk_79 (dk_at dksX9_tell_2 11 rfl rfl)
theorem dX9_tell_58 : decode cX9_tell 58 = .ok (.aload_n 0, 1) := dk_42 (dk_at dksX9_tell_2 12 rfl rfl)
theorem dX9_tell_59 : decode cX9_tell 59 = .ok (.getfield 165, 3) := dk_180 0 165 (dk_at dksX9_tell_2 13 rfl rfl)
theorem dX9_tell_62 : decode cX9_tell 62 = .ok (.aload_n 0, 1) := dk_42 (dk_at dksX9_tell_2 16 rfl rfl)
theorem dX9_tell_63 : decode cX9_tell 63 = .ok (.getfield 156, 3) := dk_180 0 156 (dk_at dksX9_tell_2 17 rfl rfl)
theorem dX9_tell_66 : decode cX9_tell 66 = .ok (.iconst 0, 1) := dk_3 (dk_at dksX9_tell_2 20 rfl rfl)
theorem dX9_tell_67 : decode cX9_tell 67 = .ok (.iaload, 1) := dk_46 (dk_at dksX9_tell_2 21 rfl rfl)
theorem dX9_tell_68 : decode cX9_tell 68 = .ok (.iload_n 3, 1) := dk_29 (dk_at dksX9_tell_2 22 rfl rfl)
theorem dX9_tell_69 : decode cX9_tell 69 = .ok (.bastore, 1) := dk_84 (dk_at dksX9_tell_2 23 rfl rfl)
theorem dX9_tell_70 : decode cX9_tell 70 = .ok (.aload_n 0, 1) := dk_42 (dk_at dksX9_tell_3 0 rfl rfl)
theorem dX9_tell_71 : decode cX9_tell 71 = .ok (.getfield 156, 3) := dk_180 0 156 (dk_at dksX9_tell_3 1 rfl rfl)
theorem dX9_tell_74 : decode cX9_tell 74 = .ok (.iconst 0, 1) := dk_3 (dk_at dksX9_tell_3 4 rfl rfl)
theorem dX9_tell_75 : decode cX9_tell 75 = .ok (.dup2, 1) := dk_92 (dk_at dksX9_tell_3 5 rfl rfl)
theorem dX9_tell_76 : decode cX9_tell 76 = .ok (.iaload, 1) := dk_46 (dk_at dksX9_tell_3 6 rfl rfl)
theorem dX9_tell_77 : decode cX9_tell 77 = .ok (.iconst 1, 1) := dk_4 (dk_at dksX9_tell_3 7 rfl rfl)
theorem dX9_tell_78 : decode cX9_tell 78 = .ok (.iadd, 1) := dk_96 (dk_at dksX9_tell_3 8 rfl rfl)
theorem dX9_tell_79 : decode cX9_tell 79 = .ok (.iastore, 1) := dk_79 (dk_at dksX9_tell_3 9 rfl rfl)
theorem dX9_tell_80 : decode cX9_tell 80 = .ok (.iconst 1, 1) := dk_4 (dk_at dksX9_tell_3 10 rfl rfl)
theorem dX9_tell_81 : decode cX9_tell 81 = .ok (.ireturn, 1) := dk_172 (dk_at dksX9_tell_3 11 rfl rfl)
abbrev cX9_laws : ByteArray := prog_35_method_95_code
def yX9_laws : MethodName := ⟨RX9, "laws", "(I)I"⟩
def dkwX9_laws_4 : List UInt8 := [167, 0, 14, 27, 4, 160, 0, 7, 29, 167, 0, 5, 21, 4, 172]
abbrev dktX9_laws_4 : List UInt8 := dkwX9_laws_4 ++ []
def dkwX9_laws_3 : List UInt8 := [160, 0, 7, 21, 6, 54, 4, 132, 6, 1, 167, 255, 212, 132, 5, 1, 167, 255, 197, 27, 154, 0, 7, 28]
abbrev dktX9_laws_3 : List UInt8 := dkwX9_laws_3 ++ dktX9_laws_4
def dkwX9_laws_2 : List UInt8 := [182, 2, 67, 154, 0, 6, 167, 0, 23, 132, 2, 1, 29, 156, 0, 6, 21, 5, 62, 29, 21, 5]
abbrev dktX9_laws_2 : List UInt8 := dkwX9_laws_2 ++ dktX9_laws_3
def dkwX9_laws_1 : List UInt8 := [54, 5, 21, 5, 8, 162, 0, 59, 4, 54, 6, 21, 6, 16, 9, 162, 0, 43, 42, 21, 5, 21, 6]
abbrev dktX9_laws_1 : List UInt8 := dkwX9_laws_1 ++ dktX9_laws_2
def dkwX9_laws_0 : List UInt8 := [42, 3, 181, 0, 212, 27, 3, 5, 184, 1, 95, 154, 0, 5, 2, 172, 3, 61, 2, 62, 2, 54, 4, 3]
abbrev dktX9_laws_0 : List UInt8 := dkwX9_laws_0 ++ dktX9_laws_1
theorem dksX9_laws_0 : cX9_laws.data.toList.drop 0 = dktX9_laws_0 := by decide +kernel
theorem dksX9_laws_1 : cX9_laws.data.toList.drop 24 = dktX9_laws_1 := dk_seg dksX9_laws_0 24 rfl rfl
theorem dksX9_laws_2 : cX9_laws.data.toList.drop 47 = dktX9_laws_2 := dk_seg dksX9_laws_1 23 rfl rfl
theorem dksX9_laws_3 : cX9_laws.data.toList.drop 69 = dktX9_laws_3 := dk_seg dksX9_laws_2 22 rfl rfl
theorem dksX9_laws_4 : cX9_laws.data.toList.drop 93 = dktX9_laws_4 := dk_seg dksX9_laws_3 24 rfl rfl
theorem dX9_laws_0 : decode cX9_laws 0 = .ok (.aload_n 0, 1) := dk_42 (dk_at dksX9_laws_0 0 rfl rfl)
theorem dX9_laws_1 : decode cX9_laws 1 = .ok (.iconst 0, 1) := dk_3 (dk_at dksX9_laws_0 1 rfl rfl)
theorem dX9_laws_2 : decode cX9_laws 2 = .ok (.putfield 212, 3) := dk_181 0 212 (dk_at dksX9_laws_0 2 rfl rfl)
theorem dX9_laws_5 : decode cX9_laws 5 = .ok (.iload_n 1, 1) := dk_27 (dk_at dksX9_laws_0 5 rfl rfl)
theorem dX9_laws_6 : decode cX9_laws 6 = .ok (.iconst 0, 1) := dk_3 (dk_at dksX9_laws_0 6 rfl rfl)
theorem dX9_laws_7 : decode cX9_laws 7 = .ok (.iconst 2, 1) := dk_5 (dk_at dksX9_laws_0 7 rfl rfl)
theorem dX9_laws_8 : decode cX9_laws 8 = .ok (.invokestatic 351, 3) := dk_184 1 95 (dk_at dksX9_laws_0 8 rfl rfl)
theorem dX9_laws_11 : decode cX9_laws 11 = .ok (.ifCond .ne 5, 3) := dk_154 0 5 (dk_at dksX9_laws_0 11 rfl rfl)
theorem dX9_laws_14 : decode cX9_laws 14 = .ok (.iconst (-1), 1) := dk_2 (dk_at dksX9_laws_0 14 rfl rfl)
theorem dX9_laws_15 : decode cX9_laws 15 = .ok (.ireturn, 1) := dk_172 (dk_at dksX9_laws_0 15 rfl rfl)
theorem dX9_laws_16 : decode cX9_laws 16 = .ok (.iconst 0, 1) := dk_3 (dk_at dksX9_laws_0 16 rfl rfl)
theorem dX9_laws_17 : decode cX9_laws 17 = .ok (.istore_n 2, 1) := dk_61 (dk_at dksX9_laws_0 17 rfl rfl)
theorem dX9_laws_18 : decode cX9_laws 18 = .ok (.iconst (-1), 1) := dk_2 (dk_at dksX9_laws_0 18 rfl rfl)
theorem dX9_laws_19 : decode cX9_laws 19 = .ok (.istore_n 3, 1) := dk_62 (dk_at dksX9_laws_0 19 rfl rfl)
theorem dX9_laws_20 : decode cX9_laws 20 = .ok (.iconst (-1), 1) := dk_2 (dk_at dksX9_laws_0 20 rfl rfl)
theorem dX9_laws_21 : decode cX9_laws 21 = .ok (.istore 4, 2) := dk_54 4 (dk_at dksX9_laws_0 21 rfl rfl)
theorem dX9_laws_23 : decode cX9_laws 23 = .ok (.iconst 0, 1) := dk_3 (dk_at dksX9_laws_0 23 rfl rfl)
theorem dX9_laws_24 : decode cX9_laws 24 = .ok (.istore 5, 2) := dk_54 5 (dk_at dksX9_laws_1 0 rfl rfl)
theorem dX9_laws_26 : decode cX9_laws 26 = .ok (.iload 5, 2) := dk_21 5 (dk_at dksX9_laws_1 2 rfl rfl)
theorem dX9_laws_28 : decode cX9_laws 28 = .ok (.iconst 5, 1) := dk_8 (dk_at dksX9_laws_1 4 rfl rfl)
theorem dX9_laws_29 : decode cX9_laws 29 = .ok (.if_icmp .ge 59, 3) := dk_162 0 59 (dk_at dksX9_laws_1 5 rfl rfl)
theorem dX9_laws_32 : decode cX9_laws 32 = .ok (.iconst 1, 1) := dk_4 (dk_at dksX9_laws_1 8 rfl rfl)
theorem dX9_laws_33 : decode cX9_laws 33 = .ok (.istore 6, 2) := dk_54 6 (dk_at dksX9_laws_1 9 rfl rfl)
theorem dX9_laws_35 : decode cX9_laws 35 = .ok (.iload 6, 2) := dk_21 6 (dk_at dksX9_laws_1 11 rfl rfl)
theorem dX9_laws_37 : decode cX9_laws 37 = .ok (.bipush 9, 2) := dk_16 9 (dk_at dksX9_laws_1 13 rfl rfl)
theorem dX9_laws_39 : decode cX9_laws 39 = .ok (.if_icmp .ge 43, 3) := dk_162 0 43 (dk_at dksX9_laws_1 15 rfl rfl)
theorem dX9_laws_42 : decode cX9_laws 42 = .ok (.aload_n 0, 1) := dk_42 (dk_at dksX9_laws_1 18 rfl rfl)
theorem dX9_laws_43 : decode cX9_laws 43 = .ok (.iload 5, 2) := dk_21 5 (dk_at dksX9_laws_1 19 rfl rfl)
theorem dX9_laws_45 : decode cX9_laws 45 = .ok (.iload 6, 2) := dk_21 6 (dk_at dksX9_laws_1 21 rfl rfl)
theorem dX9_laws_47 : decode cX9_laws 47 = .ok (.invokevirtual 579, 3) := dk_182 2 67 (dk_at dksX9_laws_2 0 rfl rfl)
theorem dX9_laws_50 : decode cX9_laws 50 = .ok (.ifCond .ne 6, 3) := dk_154 0 6 (dk_at dksX9_laws_2 3 rfl rfl)
theorem dX9_laws_53 : decode cX9_laws 53 = .ok (.goto 23, 3) := dk_167 0 23 (dk_at dksX9_laws_2 6 rfl rfl)
theorem dX9_laws_56 : decode cX9_laws 56 = .ok (.iinc 2 1, 3) := dk_132 2 1 (dk_at dksX9_laws_2 9 rfl rfl)
theorem dX9_laws_59 : decode cX9_laws 59 = .ok (.iload_n 3, 1) := dk_29 (dk_at dksX9_laws_2 12 rfl rfl)
theorem dX9_laws_60 : decode cX9_laws 60 = .ok (.ifCond .ge 6, 3) := dk_156 0 6 (dk_at dksX9_laws_2 13 rfl rfl)
theorem dX9_laws_63 : decode cX9_laws 63 = .ok (.iload 5, 2) := dk_21 5 (dk_at dksX9_laws_2 16 rfl rfl)
theorem dX9_laws_65 : decode cX9_laws 65 = .ok (.istore_n 3, 1) := dk_62 (dk_at dksX9_laws_2 18 rfl rfl)
theorem dX9_laws_66 : decode cX9_laws 66 = .ok (.iload_n 3, 1) := dk_29 (dk_at dksX9_laws_2 19 rfl rfl)
theorem dX9_laws_67 : decode cX9_laws 67 = .ok (.iload 5, 2) := dk_21 5 (dk_at dksX9_laws_2 20 rfl rfl)
theorem dX9_laws_69 : decode cX9_laws 69 = .ok (.if_icmp .ne 7, 3) := dk_160 0 7 (dk_at dksX9_laws_3 0 rfl rfl)
theorem dX9_laws_72 : decode cX9_laws 72 = .ok (.iload 6, 2) := dk_21 6 (dk_at dksX9_laws_3 3 rfl rfl)
theorem dX9_laws_74 : decode cX9_laws 74 = .ok (.istore 4, 2) := dk_54 4 (dk_at dksX9_laws_3 5 rfl rfl)
theorem dX9_laws_76 : decode cX9_laws 76 = .ok (.iinc 6 1, 3) := dk_132 6 1 (dk_at dksX9_laws_3 7 rfl rfl)
theorem dX9_laws_79 : decode cX9_laws 79 = .ok (.goto (-44), 3) := dk_167 255 212 (dk_at dksX9_laws_3 10 rfl rfl)
theorem dX9_laws_82 : decode cX9_laws 82 = .ok (.iinc 5 1, 3) := dk_132 5 1 (dk_at dksX9_laws_3 13 rfl rfl)
theorem dX9_laws_85 : decode cX9_laws 85 = .ok (.goto (-59), 3) := dk_167 255 197 (dk_at dksX9_laws_3 16 rfl rfl)
theorem dX9_laws_88 : decode cX9_laws 88 = .ok (.iload_n 1, 1) := dk_27 (dk_at dksX9_laws_3 19 rfl rfl)
theorem dX9_laws_89 : decode cX9_laws 89 = .ok (.ifCond .ne 7, 3) := dk_154 0 7 (dk_at dksX9_laws_3 20 rfl rfl)
theorem dX9_laws_92 : decode cX9_laws 92 = .ok (.iload_n 2, 1) := dk_28 (dk_at dksX9_laws_3 23 rfl rfl)
theorem dX9_laws_93 : decode cX9_laws 93 = .ok (.goto 14, 3) := dk_167 0 14 (dk_at dksX9_laws_4 0 rfl rfl)
theorem dX9_laws_96 : decode cX9_laws 96 = .ok (.iload_n 1, 1) := dk_27 (dk_at dksX9_laws_4 3 rfl rfl)
theorem dX9_laws_97 : decode cX9_laws 97 = .ok (.iconst 1, 1) := dk_4 (dk_at dksX9_laws_4 4 rfl rfl)
theorem dX9_laws_98 : decode cX9_laws 98 = .ok (.if_icmp .ne 7, 3) := dk_160 0 7 (dk_at dksX9_laws_4 5 rfl rfl)
theorem dX9_laws_101 : decode cX9_laws 101 = .ok (.iload_n 3, 1) := dk_29 (dk_at dksX9_laws_4 8 rfl rfl)
theorem dX9_laws_102 : decode cX9_laws 102 = .ok (.goto 5, 3) := dk_167 0 5 (dk_at dksX9_laws_4 9 rfl rfl)
theorem dX9_laws_105 : decode cX9_laws 105 = .ok (.iload 4, 2) := dk_21 4 (dk_at dksX9_laws_4 12 rfl rfl)
theorem dX9_laws_107 : decode cX9_laws 107 = .ok (.ireturn, 1) := dk_172 (dk_at dksX9_laws_4 14 rfl rfl)
abbrev cX9_isLaw : ByteArray := prog_35_method_94_code
def yX9_isLaw : MethodName := ⟨RX9, "isLaw", "(II)Z"⟩
def dkwX9_isLaw_3 : List UInt8 := [132, 3, 1, 167, 255, 187, 4, 172]
abbrev dktX9_isLaw_3 : List UInt8 := dkwX9_isLaw_3 ++ []
def dkwX9_isLaw_2 : List UInt8 := [21, 4, 46, 28, 161, 0, 7, 4, 167, 0, 4, 3, 42, 180, 0, 165, 29, 51, 159, 0, 5, 3, 172]
abbrev dktX9_isLaw_2 : List UInt8 := dkwX9_isLaw_2 ++ dktX9_isLaw_3
def dkwX9_isLaw_1 : List UInt8 := [180, 0, 162, 29, 46, 96, 54, 4, 42, 180, 0, 117, 21, 4, 46, 27, 164, 0, 14, 42, 180, 0, 123]
abbrev dktX9_isLaw_1 : List UInt8 := dkwX9_isLaw_1 ++ dktX9_isLaw_2
def dkwX9_isLaw_0 : List UInt8 := [3, 62, 29, 42, 180, 0, 156, 3, 46, 162, 0, 65, 16, 16, 42, 180, 0, 159, 29, 46, 104, 42]
abbrev dktX9_isLaw_0 : List UInt8 := dkwX9_isLaw_0 ++ dktX9_isLaw_1
theorem dksX9_isLaw_0 : cX9_isLaw.data.toList.drop 0 = dktX9_isLaw_0 := by decide +kernel
theorem dksX9_isLaw_1 : cX9_isLaw.data.toList.drop 22 = dktX9_isLaw_1 := dk_seg dksX9_isLaw_0 22 rfl rfl
theorem dksX9_isLaw_2 : cX9_isLaw.data.toList.drop 45 = dktX9_isLaw_2 := dk_seg dksX9_isLaw_1 23 rfl rfl
theorem dksX9_isLaw_3 : cX9_isLaw.data.toList.drop 68 = dktX9_isLaw_3 := dk_seg dksX9_isLaw_2 23 rfl rfl
theorem dX9_isLaw_0 : decode cX9_isLaw 0 = .ok (.iconst 0, 1) := dk_3 (dk_at dksX9_isLaw_0 0 rfl rfl)
theorem dX9_isLaw_1 : decode cX9_isLaw 1 = .ok (.istore_n 3, 1) := dk_62 (dk_at dksX9_isLaw_0 1 rfl rfl)
theorem dX9_isLaw_2 : decode cX9_isLaw 2 = .ok (.iload_n 3, 1) := dk_29 (dk_at dksX9_isLaw_0 2 rfl rfl)
theorem dX9_isLaw_3 : decode cX9_isLaw 3 = .ok (.aload_n 0, 1) := dk_42 (dk_at dksX9_isLaw_0 3 rfl rfl)
theorem dX9_isLaw_4 : decode cX9_isLaw 4 = .ok (.getfield 156, 3) := dk_180 0 156 (dk_at dksX9_isLaw_0 4 rfl rfl)
theorem dX9_isLaw_7 : decode cX9_isLaw 7 = .ok (.iconst 0, 1) := dk_3 (dk_at dksX9_isLaw_0 7 rfl rfl)
theorem dX9_isLaw_8 : decode cX9_isLaw 8 = .ok (.iaload, 1) := dk_46 (dk_at dksX9_isLaw_0 8 rfl rfl)
theorem dX9_isLaw_9 : decode cX9_isLaw 9 = .ok (.if_icmp .ge 65, 3) := dk_162 0 65 (dk_at dksX9_isLaw_0 9 rfl rfl)
theorem dX9_isLaw_12 : decode cX9_isLaw 12 = .ok (.bipush 16, 2) := dk_16 16 (dk_at dksX9_isLaw_0 12 rfl rfl)
theorem dX9_isLaw_14 : decode cX9_isLaw 14 = .ok (.aload_n 0, 1) := dk_42 (dk_at dksX9_isLaw_0 14 rfl rfl)
theorem dX9_isLaw_15 : decode cX9_isLaw 15 = .ok (.getfield 159, 3) := dk_180 0 159 (dk_at dksX9_isLaw_0 15 rfl rfl)
theorem dX9_isLaw_18 : decode cX9_isLaw 18 = .ok (.iload_n 3, 1) := dk_29 (dk_at dksX9_isLaw_0 18 rfl rfl)
theorem dX9_isLaw_19 : decode cX9_isLaw 19 = .ok (.iaload, 1) := dk_46 (dk_at dksX9_isLaw_0 19 rfl rfl)
theorem dX9_isLaw_20 : decode cX9_isLaw 20 = .ok (.imul, 1) := dk_104 (dk_at dksX9_isLaw_0 20 rfl rfl)
theorem dX9_isLaw_21 : decode cX9_isLaw 21 = .ok (.aload_n 0, 1) := dk_42 (dk_at dksX9_isLaw_0 21 rfl rfl)
theorem dX9_isLaw_22 : decode cX9_isLaw 22 = .ok (.getfield 162, 3) := dk_180 0 162 (dk_at dksX9_isLaw_1 0 rfl rfl)
theorem dX9_isLaw_25 : decode cX9_isLaw 25 = .ok (.iload_n 3, 1) := dk_29 (dk_at dksX9_isLaw_1 3 rfl rfl)
theorem dX9_isLaw_26 : decode cX9_isLaw 26 = .ok (.iaload, 1) := dk_46 (dk_at dksX9_isLaw_1 4 rfl rfl)
theorem dX9_isLaw_27 : decode cX9_isLaw 27 = .ok (.iadd, 1) := dk_96 (dk_at dksX9_isLaw_1 5 rfl rfl)
theorem dX9_isLaw_28 : decode cX9_isLaw 28 = .ok (.istore 4, 2) := dk_54 4 (dk_at dksX9_isLaw_1 6 rfl rfl)
theorem dX9_isLaw_30 : decode cX9_isLaw 30 = .ok (.aload_n 0, 1) := dk_42 (dk_at dksX9_isLaw_1 8 rfl rfl)
theorem dX9_isLaw_31 : decode cX9_isLaw 31 = .ok (.getfield 117, 3) := dk_180 0 117 (dk_at dksX9_isLaw_1 9 rfl rfl)
theorem dX9_isLaw_34 : decode cX9_isLaw 34 = .ok (.iload 4, 2) := dk_21 4 (dk_at dksX9_isLaw_1 12 rfl rfl)
theorem dX9_isLaw_36 : decode cX9_isLaw 36 = .ok (.iaload, 1) := dk_46 (dk_at dksX9_isLaw_1 14 rfl rfl)
theorem dX9_isLaw_37 : decode cX9_isLaw 37 = .ok (.iload_n 1, 1) := dk_27 (dk_at dksX9_isLaw_1 15 rfl rfl)
theorem dX9_isLaw_38 : decode cX9_isLaw 38 = .ok (.if_icmp .le 14, 3) := dk_164 0 14 (dk_at dksX9_isLaw_1 16 rfl rfl)
theorem dX9_isLaw_41 : decode cX9_isLaw 41 = .ok (.aload_n 0, 1) := dk_42 (dk_at dksX9_isLaw_1 19 rfl rfl)
theorem dX9_isLaw_42 : decode cX9_isLaw 42 = .ok (.getfield 123, 3) := dk_180 0 123 (dk_at dksX9_isLaw_1 20 rfl rfl)
theorem dX9_isLaw_45 : decode cX9_isLaw 45 = .ok (.iload 4, 2) := dk_21 4 (dk_at dksX9_isLaw_2 0 rfl rfl)
theorem dX9_isLaw_47 : decode cX9_isLaw 47 = .ok (.iaload, 1) := dk_46 (dk_at dksX9_isLaw_2 2 rfl rfl)
theorem dX9_isLaw_48 : decode cX9_isLaw 48 = .ok (.iload_n 2, 1) := dk_28 (dk_at dksX9_isLaw_2 3 rfl rfl)
theorem dX9_isLaw_49 : decode cX9_isLaw 49 = .ok (.if_icmp .lt 7, 3) := dk_161 0 7 (dk_at dksX9_isLaw_2 4 rfl rfl)
theorem dX9_isLaw_52 : decode cX9_isLaw 52 = .ok (.iconst 1, 1) := dk_4 (dk_at dksX9_isLaw_2 7 rfl rfl)
theorem dX9_isLaw_53 : decode cX9_isLaw 53 = .ok (.goto 4, 3) := dk_167 0 4 (dk_at dksX9_isLaw_2 8 rfl rfl)
theorem dX9_isLaw_56 : decode cX9_isLaw 56 = .ok (.iconst 0, 1) := dk_3 (dk_at dksX9_isLaw_2 11 rfl rfl)
theorem dX9_isLaw_57 : decode cX9_isLaw 57 = .ok (.aload_n 0, 1) := dk_42 (dk_at dksX9_isLaw_2 12 rfl rfl)
theorem dX9_isLaw_58 : decode cX9_isLaw 58 = .ok (.getfield 165, 3) := dk_180 0 165 (dk_at dksX9_isLaw_2 13 rfl rfl)
theorem dX9_isLaw_61 : decode cX9_isLaw 61 = .ok (.iload_n 3, 1) := dk_29 (dk_at dksX9_isLaw_2 16 rfl rfl)
theorem dX9_isLaw_62 : decode cX9_isLaw 62 = .ok (.baload, 1) := dk_51 (dk_at dksX9_isLaw_2 17 rfl rfl)
theorem dX9_isLaw_63 : decode cX9_isLaw 63 = .ok (.if_icmp .eq 5, 3) := dk_159 0 5 (dk_at dksX9_isLaw_2 18 rfl rfl)
theorem dX9_isLaw_66 : decode cX9_isLaw 66 = .ok (.iconst 0, 1) := dk_3 (dk_at dksX9_isLaw_2 21 rfl rfl)
theorem dX9_isLaw_67 : decode cX9_isLaw 67 = .ok (.ireturn, 1) := dk_172 (dk_at dksX9_isLaw_2 22 rfl rfl)
theorem dX9_isLaw_68 : decode cX9_isLaw 68 = .ok (.iinc 3 1, 3) := dk_132 3 1 (dk_at dksX9_isLaw_3 0 rfl rfl)
theorem dX9_isLaw_71 : decode cX9_isLaw 71 = .ok (.goto (-69), 3) := dk_167 255 187 (dk_at dksX9_isLaw_3 3 rfl rfl)
theorem dX9_isLaw_74 : decode cX9_isLaw 74 = .ok (.iconst 1, 1) := dk_4 (dk_at dksX9_isLaw_3 6 rfl rfl)
theorem dX9_isLaw_75 : decode cX9_isLaw 75 = .ok (.ireturn, 1) := dk_172 (dk_at dksX9_isLaw_3 7 rfl rfl)
abbrev cX9_loss : ByteArray := prog_35_method_97_code
def yX9_loss : MethodName := ⟨RX9, "loss", "(I)I"⟩
def dkwX9_loss_1 : List UInt8 := [172]
abbrev dktX9_loss_1 : List UInt8 := dkwX9_loss_1 ++ []
def dkwX9_loss_0 : List UInt8 := [42, 3, 181, 0, 212, 27, 4, 16, 30, 184, 1, 95, 153, 0, 11, 42, 27, 182, 2, 73, 167, 0, 4, 2]
abbrev dktX9_loss_0 : List UInt8 := dkwX9_loss_0 ++ dktX9_loss_1
theorem dksX9_loss_0 : cX9_loss.data.toList.drop 0 = dktX9_loss_0 := by decide +kernel
theorem dksX9_loss_1 : cX9_loss.data.toList.drop 24 = dktX9_loss_1 := dk_seg dksX9_loss_0 24 rfl rfl
theorem dX9_loss_0 : decode cX9_loss 0 = .ok (.aload_n 0, 1) := dk_42 (dk_at dksX9_loss_0 0 rfl rfl)
theorem dX9_loss_1 : decode cX9_loss 1 = .ok (.iconst 0, 1) := dk_3 (dk_at dksX9_loss_0 1 rfl rfl)
theorem dX9_loss_2 : decode cX9_loss 2 = .ok (.putfield 212, 3) := dk_181 0 212 (dk_at dksX9_loss_0 2 rfl rfl)
theorem dX9_loss_5 : decode cX9_loss 5 = .ok (.iload_n 1, 1) := dk_27 (dk_at dksX9_loss_0 5 rfl rfl)
theorem dX9_loss_6 : decode cX9_loss 6 = .ok (.iconst 1, 1) := dk_4 (dk_at dksX9_loss_0 6 rfl rfl)
theorem dX9_loss_7 : decode cX9_loss 7 = .ok (.bipush 30, 2) := dk_16 30 (dk_at dksX9_loss_0 7 rfl rfl)
theorem dX9_loss_9 : decode cX9_loss 9 = .ok (.invokestatic 351, 3) := dk_184 1 95 (dk_at dksX9_loss_0 9 rfl rfl)
theorem dX9_loss_12 : decode cX9_loss 12 = .ok (.ifCond .eq 11, 3) := dk_153 0 11 (dk_at dksX9_loss_0 12 rfl rfl)
theorem dX9_loss_15 : decode cX9_loss 15 = .ok (.aload_n 0, 1) := dk_42 (dk_at dksX9_loss_0 15 rfl rfl)
theorem dX9_loss_16 : decode cX9_loss 16 = .ok (.iload_n 1, 1) := dk_27 (dk_at dksX9_loss_0 16 rfl rfl)
theorem dX9_loss_17 : decode cX9_loss 17 = .ok (.invokevirtual 585, 3) := dk_182 2 73 (dk_at dksX9_loss_0 17 rfl rfl)
theorem dX9_loss_20 : decode cX9_loss 20 = .ok (.goto 4, 3) := dk_167 0 4 (dk_at dksX9_loss_0 20 rfl rfl)
theorem dX9_loss_23 : decode cX9_loss 23 = .ok (.iconst (-1), 1) := dk_2 (dk_at dksX9_loss_0 23 rfl rfl)
theorem dX9_loss_24 : decode cX9_loss 24 = .ok (.ireturn, 1) := dk_172 (dk_at dksX9_loss_1 0 rfl rfl)
abbrev cX9_lossOf : ByteArray := prog_35_method_96_code
def yX9_lossOf : MethodName := ⟨RX9, "lossOf", "(I)I"⟩
def dkwX9_lossOf_5 : List UInt8 := [19, 2, 70, 21, 4, 100, 133, 105, 20, 2, 71, 109, 136, 96, 61, 132, 3, 1, 167, 255, 126, 28, 172]
abbrev dktX9_lossOf_5 : List UInt8 := dkwX9_lossOf_5 ++ []
def dkwX9_lossOf_4 : List UInt8 := [54, 4, 132, 6, 1, 167, 255, 209, 132, 5, 1, 167, 255, 194, 28, 42, 180, 0, 38, 29, 46, 133]
abbrev dktX9_lossOf_4 : List UInt8 := dkwX9_lossOf_4 ++ dktX9_lossOf_5
def dkwX9_lossOf_3 : List UInt8 := [46, 29, 182, 1, 243, 153, 0, 21, 21, 4, 16, 10, 42, 180, 0, 56, 21, 6, 46, 100, 104, 16, 10, 108]
abbrev dktX9_lossOf_3 : List UInt8 := dkwX9_lossOf_3 ++ dktX9_lossOf_4
def dkwX9_lossOf_2 : List UInt8 := [162, 0, 62, 3, 54, 6, 21, 6, 42, 180, 0, 13, 6, 46, 162, 0, 42, 42, 42, 180, 0, 53, 21, 6]
abbrev dktX9_lossOf_2 : List UInt8 := dkwX9_lossOf_2 ++ dktX9_lossOf_3
def dkwX9_lossOf_1 : List UInt8 := [180, 0, 26, 29, 46, 6, 160, 0, 6, 167, 0, 99, 19, 2, 70, 54, 4, 3, 54, 5, 21, 5, 27]
abbrev dktX9_lossOf_1 : List UInt8 := dkwX9_lossOf_1 ++ dktX9_lossOf_2
def dkwX9_lossOf_0 : List UInt8 := [3, 61, 3, 62, 29, 42, 180, 0, 13, 3, 46, 162, 0, 126, 42, 29, 182, 2, 20, 153, 0, 112, 42]
abbrev dktX9_lossOf_0 : List UInt8 := dkwX9_lossOf_0 ++ dktX9_lossOf_1
theorem dksX9_lossOf_0 : cX9_lossOf.data.toList.drop 0 = dktX9_lossOf_0 := by decide +kernel
theorem dksX9_lossOf_1 : cX9_lossOf.data.toList.drop 23 = dktX9_lossOf_1 := dk_seg dksX9_lossOf_0 23 rfl rfl
theorem dksX9_lossOf_2 : cX9_lossOf.data.toList.drop 46 = dktX9_lossOf_2 := dk_seg dksX9_lossOf_1 23 rfl rfl
theorem dksX9_lossOf_3 : cX9_lossOf.data.toList.drop 70 = dktX9_lossOf_3 := dk_seg dksX9_lossOf_2 24 rfl rfl
theorem dksX9_lossOf_4 : cX9_lossOf.data.toList.drop 94 = dktX9_lossOf_4 := dk_seg dksX9_lossOf_3 24 rfl rfl
theorem dksX9_lossOf_5 : cX9_lossOf.data.toList.drop 116 = dktX9_lossOf_5 := dk_seg dksX9_lossOf_4 22 rfl rfl
theorem dX9_lossOf_0 : decode cX9_lossOf 0 = .ok (.iconst 0, 1) := dk_3 (dk_at dksX9_lossOf_0 0 rfl rfl)
theorem dX9_lossOf_1 : decode cX9_lossOf 1 = .ok (.istore_n 2, 1) := dk_61 (dk_at dksX9_lossOf_0 1 rfl rfl)
theorem dX9_lossOf_2 : decode cX9_lossOf 2 = .ok (.iconst 0, 1) := dk_3 (dk_at dksX9_lossOf_0 2 rfl rfl)
theorem dX9_lossOf_3 : decode cX9_lossOf 3 = .ok (.istore_n 3, 1) := dk_62 (dk_at dksX9_lossOf_0 3 rfl rfl)
theorem dX9_lossOf_4 : decode cX9_lossOf 4 = .ok (.iload_n 3, 1) := dk_29 (dk_at dksX9_lossOf_0 4 rfl rfl)
theorem dX9_lossOf_5 : decode cX9_lossOf 5 = .ok (.aload_n 0, 1) := dk_42 (dk_at dksX9_lossOf_0 5 rfl rfl)
theorem dX9_lossOf_6 : decode cX9_lossOf 6 = .ok (.getfield 13, 3) := dk_180 0 13 (dk_at dksX9_lossOf_0 6 rfl rfl)
theorem dX9_lossOf_9 : decode cX9_lossOf 9 = .ok (.iconst 0, 1) := dk_3 (dk_at dksX9_lossOf_0 9 rfl rfl)
theorem dX9_lossOf_10 : decode cX9_lossOf 10 = .ok (.iaload, 1) := dk_46 (dk_at dksX9_lossOf_0 10 rfl rfl)
theorem dX9_lossOf_11 : decode cX9_lossOf 11 = .ok (.if_icmp .ge 126, 3) := dk_162 0 126 (dk_at dksX9_lossOf_0 11 rfl rfl)
theorem dX9_lossOf_14 : decode cX9_lossOf 14 = .ok (.aload_n 0, 1) := dk_42 (dk_at dksX9_lossOf_0 14 rfl rfl)
theorem dX9_lossOf_15 : decode cX9_lossOf 15 = .ok (.iload_n 3, 1) := dk_29 (dk_at dksX9_lossOf_0 15 rfl rfl)
theorem dX9_lossOf_16 : decode cX9_lossOf 16 = .ok (.invokevirtual 532, 3) := dk_182 2 20 (dk_at dksX9_lossOf_0 16 rfl rfl)
theorem dX9_lossOf_19 : decode cX9_lossOf 19 = .ok (.ifCond .eq 112, 3) := dk_153 0 112 (dk_at dksX9_lossOf_0 19 rfl rfl)
theorem dX9_lossOf_22 : decode cX9_lossOf 22 = .ok (.aload_n 0, 1) := dk_42 (dk_at dksX9_lossOf_0 22 rfl rfl)
theorem dX9_lossOf_23 : decode cX9_lossOf 23 = .ok (.getfield 26, 3) := dk_180 0 26 (dk_at dksX9_lossOf_1 0 rfl rfl)
theorem dX9_lossOf_26 : decode cX9_lossOf 26 = .ok (.iload_n 3, 1) := dk_29 (dk_at dksX9_lossOf_1 3 rfl rfl)
theorem dX9_lossOf_27 : decode cX9_lossOf 27 = .ok (.iaload, 1) := dk_46 (dk_at dksX9_lossOf_1 4 rfl rfl)
theorem dX9_lossOf_28 : decode cX9_lossOf 28 = .ok (.iconst 3, 1) := dk_6 (dk_at dksX9_lossOf_1 5 rfl rfl)
theorem dX9_lossOf_29 : decode cX9_lossOf 29 = .ok (.if_icmp .ne 6, 3) := dk_160 0 6 (dk_at dksX9_lossOf_1 6 rfl rfl)
theorem dX9_lossOf_32 : decode cX9_lossOf 32 = .ok (.goto 99, 3) := dk_167 0 99 (dk_at dksX9_lossOf_1 9 rfl rfl)
theorem dX9_lossOf_35 : decode cX9_lossOf 35 = .ok (.ldc_w 582, 3) := dk_19 2 70 (dk_at dksX9_lossOf_1 12 rfl rfl)
theorem dX9_lossOf_38 : decode cX9_lossOf 38 = .ok (.istore 4, 2) := dk_54 4 (dk_at dksX9_lossOf_1 15 rfl rfl)
theorem dX9_lossOf_40 : decode cX9_lossOf 40 = .ok (.iconst 0, 1) := dk_3 (dk_at dksX9_lossOf_1 17 rfl rfl)
theorem dX9_lossOf_41 : decode cX9_lossOf 41 = .ok (.istore 5, 2) := dk_54 5 (dk_at dksX9_lossOf_1 18 rfl rfl)
theorem dX9_lossOf_43 : decode cX9_lossOf 43 = .ok (.iload 5, 2) := dk_21 5 (dk_at dksX9_lossOf_1 20 rfl rfl)
theorem dX9_lossOf_45 : decode cX9_lossOf 45 = .ok (.iload_n 1, 1) := dk_27 (dk_at dksX9_lossOf_1 22 rfl rfl)
theorem dX9_lossOf_46 : decode cX9_lossOf 46 = .ok (.if_icmp .ge 62, 3) := dk_162 0 62 (dk_at dksX9_lossOf_2 0 rfl rfl)
theorem dX9_lossOf_49 : decode cX9_lossOf 49 = .ok (.iconst 0, 1) := dk_3 (dk_at dksX9_lossOf_2 3 rfl rfl)
theorem dX9_lossOf_50 : decode cX9_lossOf 50 = .ok (.istore 6, 2) := dk_54 6 (dk_at dksX9_lossOf_2 4 rfl rfl)
theorem dX9_lossOf_52 : decode cX9_lossOf 52 = .ok (.iload 6, 2) := dk_21 6 (dk_at dksX9_lossOf_2 6 rfl rfl)
theorem dX9_lossOf_54 : decode cX9_lossOf 54 = .ok (.aload_n 0, 1) := dk_42 (dk_at dksX9_lossOf_2 8 rfl rfl)
theorem dX9_lossOf_55 : decode cX9_lossOf 55 = .ok (.getfield 13, 3) := dk_180 0 13 (dk_at dksX9_lossOf_2 9 rfl rfl)
theorem dX9_lossOf_58 : decode cX9_lossOf 58 = .ok (.iconst 3, 1) := dk_6 (dk_at dksX9_lossOf_2 12 rfl rfl)
theorem dX9_lossOf_59 : decode cX9_lossOf 59 = .ok (.iaload, 1) := dk_46 (dk_at dksX9_lossOf_2 13 rfl rfl)
theorem dX9_lossOf_60 : decode cX9_lossOf 60 = .ok (.if_icmp .ge 42, 3) := dk_162 0 42 (dk_at dksX9_lossOf_2 14 rfl rfl)
theorem dX9_lossOf_63 : decode cX9_lossOf 63 = .ok (.aload_n 0, 1) := dk_42 (dk_at dksX9_lossOf_2 17 rfl rfl)
theorem dX9_lossOf_64 : decode cX9_lossOf 64 = .ok (.aload_n 0, 1) := dk_42 (dk_at dksX9_lossOf_2 18 rfl rfl)
theorem dX9_lossOf_65 : decode cX9_lossOf 65 = .ok (.getfield 53, 3) := dk_180 0 53 (dk_at dksX9_lossOf_2 19 rfl rfl)
theorem dX9_lossOf_68 : decode cX9_lossOf 68 = .ok (.iload 6, 2) := dk_21 6 (dk_at dksX9_lossOf_2 22 rfl rfl)
theorem dX9_lossOf_70 : decode cX9_lossOf 70 = .ok (.iaload, 1) := dk_46 (dk_at dksX9_lossOf_3 0 rfl rfl)
theorem dX9_lossOf_71 : decode cX9_lossOf 71 = .ok (.iload_n 3, 1) := dk_29 (dk_at dksX9_lossOf_3 1 rfl rfl)
theorem dX9_lossOf_72 : decode cX9_lossOf 72 = .ok (.invokevirtual 499, 3) := dk_182 1 243 (dk_at dksX9_lossOf_3 2 rfl rfl)
theorem dX9_lossOf_75 : decode cX9_lossOf 75 = .ok (.ifCond .eq 21, 3) := dk_153 0 21 (dk_at dksX9_lossOf_3 5 rfl rfl)
theorem dX9_lossOf_78 : decode cX9_lossOf 78 = .ok (.iload 4, 2) := dk_21 4 (dk_at dksX9_lossOf_3 8 rfl rfl)
theorem dX9_lossOf_80 : decode cX9_lossOf 80 = .ok (.bipush 10, 2) := dk_16 10 (dk_at dksX9_lossOf_3 10 rfl rfl)
theorem dX9_lossOf_82 : decode cX9_lossOf 82 = .ok (.aload_n 0, 1) := dk_42 (dk_at dksX9_lossOf_3 12 rfl rfl)
theorem dX9_lossOf_83 : decode cX9_lossOf 83 = .ok (.getfield 56, 3) := dk_180 0 56 (dk_at dksX9_lossOf_3 13 rfl rfl)
theorem dX9_lossOf_86 : decode cX9_lossOf 86 = .ok (.iload 6, 2) := dk_21 6 (dk_at dksX9_lossOf_3 16 rfl rfl)
theorem dX9_lossOf_88 : decode cX9_lossOf 88 = .ok (.iaload, 1) := dk_46 (dk_at dksX9_lossOf_3 18 rfl rfl)
theorem dX9_lossOf_89 : decode cX9_lossOf 89 = .ok (.isub, 1) := dk_100 (dk_at dksX9_lossOf_3 19 rfl rfl)
theorem dX9_lossOf_90 : decode cX9_lossOf 90 = .ok (.imul, 1) := dk_104 (dk_at dksX9_lossOf_3 20 rfl rfl)
theorem dX9_lossOf_91 : decode cX9_lossOf 91 = .ok (.bipush 10, 2) := dk_16 10 (dk_at dksX9_lossOf_3 21 rfl rfl)
theorem dX9_lossOf_93 : decode cX9_lossOf 93 = .ok (.idiv, 1) := dk_108 (dk_at dksX9_lossOf_3 23 rfl rfl)
theorem dX9_lossOf_94 : decode cX9_lossOf 94 = .ok (.istore 4, 2) := dk_54 4 (dk_at dksX9_lossOf_4 0 rfl rfl)
theorem dX9_lossOf_96 : decode cX9_lossOf 96 = .ok (.iinc 6 1, 3) := dk_132 6 1 (dk_at dksX9_lossOf_4 2 rfl rfl)
theorem dX9_lossOf_99 : decode cX9_lossOf 99 = .ok (.goto (-47), 3) := dk_167 255 209 (dk_at dksX9_lossOf_4 5 rfl rfl)
theorem dX9_lossOf_102 : decode cX9_lossOf 102 = .ok (.iinc 5 1, 3) := dk_132 5 1 (dk_at dksX9_lossOf_4 8 rfl rfl)
theorem dX9_lossOf_105 : decode cX9_lossOf 105 = .ok (.goto (-62), 3) := dk_167 255 194 (dk_at dksX9_lossOf_4 11 rfl rfl)
theorem dX9_lossOf_108 : decode cX9_lossOf 108 = .ok (.iload_n 2, 1) := dk_28 (dk_at dksX9_lossOf_4 14 rfl rfl)
theorem dX9_lossOf_109 : decode cX9_lossOf 109 = .ok (.aload_n 0, 1) := dk_42 (dk_at dksX9_lossOf_4 15 rfl rfl)
theorem dX9_lossOf_110 : decode cX9_lossOf 110 = .ok (.getfield 38, 3) := dk_180 0 38 (dk_at dksX9_lossOf_4 16 rfl rfl)
theorem dX9_lossOf_113 : decode cX9_lossOf 113 = .ok (.iload_n 3, 1) := dk_29 (dk_at dksX9_lossOf_4 19 rfl rfl)
theorem dX9_lossOf_114 : decode cX9_lossOf 114 = .ok (.iaload, 1) := dk_46 (dk_at dksX9_lossOf_4 20 rfl rfl)
theorem dX9_lossOf_115 : decode cX9_lossOf 115 = .ok (.i2l, 1) := dk_133 (dk_at dksX9_lossOf_4 21 rfl rfl)
theorem dX9_lossOf_116 : decode cX9_lossOf 116 = .ok (.ldc_w 582, 3) := dk_19 2 70 (dk_at dksX9_lossOf_5 0 rfl rfl)
theorem dX9_lossOf_119 : decode cX9_lossOf 119 = .ok (.iload 4, 2) := dk_21 4 (dk_at dksX9_lossOf_5 3 rfl rfl)
theorem dX9_lossOf_121 : decode cX9_lossOf 121 = .ok (.isub, 1) := dk_100 (dk_at dksX9_lossOf_5 5 rfl rfl)
theorem dX9_lossOf_122 : decode cX9_lossOf 122 = .ok (.i2l, 1) := dk_133 (dk_at dksX9_lossOf_5 6 rfl rfl)
theorem dX9_lossOf_123 : decode cX9_lossOf 123 = .ok (.lmul, 1) := dk_105 (dk_at dksX9_lossOf_5 7 rfl rfl)
theorem dX9_lossOf_124 : decode cX9_lossOf 124 = .ok (.ldc2_w 583, 3) := dk_20 2 71 (dk_at dksX9_lossOf_5 8 rfl rfl)
theorem dX9_lossOf_127 : decode cX9_lossOf 127 = .ok (.ldiv, 1) := dk_109 (dk_at dksX9_lossOf_5 11 rfl rfl)
theorem dX9_lossOf_128 : decode cX9_lossOf 128 = .ok (.l2i, 1) := dk_136 (dk_at dksX9_lossOf_5 12 rfl rfl)
theorem dX9_lossOf_129 : decode cX9_lossOf 129 = .ok (.iadd, 1) := dk_96 (dk_at dksX9_lossOf_5 13 rfl rfl)
theorem dX9_lossOf_130 : decode cX9_lossOf 130 = .ok (.istore_n 2, 1) := dk_61 (dk_at dksX9_lossOf_5 14 rfl rfl)
theorem dX9_lossOf_131 : decode cX9_lossOf 131 = .ok (.iinc 3 1, 3) := dk_132 3 1 (dk_at dksX9_lossOf_5 15 rfl rfl)
theorem dX9_lossOf_134 : decode cX9_lossOf 134 = .ok (.goto (-130), 3) := dk_167 255 126 (dk_at dksX9_lossOf_5 18 rfl rfl)
theorem dX9_lossOf_137 : decode cX9_lossOf 137 = .ok (.iload_n 2, 1) := dk_28 (dk_at dksX9_lossOf_5 21 rfl rfl)
theorem dX9_lossOf_138 : decode cX9_lossOf 138 = .ok (.ireturn, 1) := dk_172 (dk_at dksX9_lossOf_5 22 rfl rfl)
abbrev cX9_best : ByteArray := prog_35_method_98_code
def yX9_best : MethodName := ⟨RX9, "best", "(II)I"⟩
def dkwX9_best_5 : List UInt8 := [132, 6, 1, 167, 255, 189, 42, 180, 0, 168, 8, 27, 96, 29, 79, 21, 4, 172]
abbrev dktX9_best_5 : List UInt8 := dkwX9_best_5 ++ []
def dkwX9_best_4 : List UInt8 := [21, 4, 155, 0, 13, 21, 7, 21, 5, 161, 0, 6, 167, 0, 11, 21, 6, 54, 4, 21, 7, 54, 5]
abbrev dktX9_best_4 : List UInt8 := dkwX9_best_4 ++ dktX9_best_5
def dkwX9_best_3 : List UInt8 := [154, 0, 6, 167, 0, 43, 42, 180, 0, 168, 8, 27, 96, 21, 6, 79, 42, 28, 182, 2, 73, 54, 7]
abbrev dktX9_best_3 : List UInt8 := dkwX9_best_3 ++ dktX9_best_4
def dkwX9_best_2 : List UInt8 := [54, 5, 3, 54, 6, 21, 6, 42, 180, 0, 13, 4, 46, 162, 0, 62, 42, 21, 6, 27, 182, 2, 29]
abbrev dktX9_best_2 : List UInt8 := dkwX9_best_2 ++ dktX9_best_3
def dkwX9_best_1 : List UInt8 := [16, 30, 184, 1, 95, 154, 0, 5, 2, 172, 42, 180, 0, 168, 8, 27, 96, 46, 62, 2, 54, 4, 3]
abbrev dktX9_best_1 : List UInt8 := dkwX9_best_1 ++ dktX9_best_2
def dkwX9_best_0 : List UInt8 := [42, 3, 181, 0, 212, 42, 27, 182, 1, 222, 153, 0, 21, 42, 27, 182, 2, 20, 153, 0, 13, 28, 4]
abbrev dktX9_best_0 : List UInt8 := dkwX9_best_0 ++ dktX9_best_1
theorem dksX9_best_0 : cX9_best.data.toList.drop 0 = dktX9_best_0 := by decide +kernel
theorem dksX9_best_1 : cX9_best.data.toList.drop 23 = dktX9_best_1 := dk_seg dksX9_best_0 23 rfl rfl
theorem dksX9_best_2 : cX9_best.data.toList.drop 46 = dktX9_best_2 := dk_seg dksX9_best_1 23 rfl rfl
theorem dksX9_best_3 : cX9_best.data.toList.drop 69 = dktX9_best_3 := dk_seg dksX9_best_2 23 rfl rfl
theorem dksX9_best_4 : cX9_best.data.toList.drop 92 = dktX9_best_4 := dk_seg dksX9_best_3 23 rfl rfl
theorem dksX9_best_5 : cX9_best.data.toList.drop 115 = dktX9_best_5 := dk_seg dksX9_best_4 23 rfl rfl
theorem dX9_best_0 : decode cX9_best 0 = .ok (.aload_n 0, 1) := dk_42 (dk_at dksX9_best_0 0 rfl rfl)
theorem dX9_best_1 : decode cX9_best 1 = .ok (.iconst 0, 1) := dk_3 (dk_at dksX9_best_0 1 rfl rfl)
theorem dX9_best_2 : decode cX9_best 2 = .ok (.putfield 212, 3) := dk_181 0 212 (dk_at dksX9_best_0 2 rfl rfl)
theorem dX9_best_5 : decode cX9_best 5 = .ok (.aload_n 0, 1) := dk_42 (dk_at dksX9_best_0 5 rfl rfl)
theorem dX9_best_6 : decode cX9_best 6 = .ok (.iload_n 1, 1) := dk_27 (dk_at dksX9_best_0 6 rfl rfl)
theorem dX9_best_7 : decode cX9_best 7 = .ok (.invokevirtual 478, 3) := dk_182 1 222 (dk_at dksX9_best_0 7 rfl rfl)
theorem dX9_best_10 : decode cX9_best 10 = .ok (.ifCond .eq 21, 3) := dk_153 0 21 (dk_at dksX9_best_0 10 rfl rfl)
theorem dX9_best_13 : decode cX9_best 13 = .ok (.aload_n 0, 1) := dk_42 (dk_at dksX9_best_0 13 rfl rfl)
theorem dX9_best_14 : decode cX9_best 14 = .ok (.iload_n 1, 1) := dk_27 (dk_at dksX9_best_0 14 rfl rfl)
theorem dX9_best_15 : decode cX9_best 15 = .ok (.invokevirtual 532, 3) := dk_182 2 20 (dk_at dksX9_best_0 15 rfl rfl)
theorem dX9_best_18 : decode cX9_best 18 = .ok (.ifCond .eq 13, 3) := dk_153 0 13 (dk_at dksX9_best_0 18 rfl rfl)
theorem dX9_best_21 : decode cX9_best 21 = .ok (.iload_n 2, 1) := dk_28 (dk_at dksX9_best_0 21 rfl rfl)
theorem dX9_best_22 : decode cX9_best 22 = .ok (.iconst 1, 1) := dk_4 (dk_at dksX9_best_0 22 rfl rfl)
theorem dX9_best_23 : decode cX9_best 23 = .ok (.bipush 30, 2) := dk_16 30 (dk_at dksX9_best_1 0 rfl rfl)
theorem dX9_best_25 : decode cX9_best 25 = .ok (.invokestatic 351, 3) := dk_184 1 95 (dk_at dksX9_best_1 2 rfl rfl)
theorem dX9_best_28 : decode cX9_best 28 = .ok (.ifCond .ne 5, 3) := dk_154 0 5 (dk_at dksX9_best_1 5 rfl rfl)
theorem dX9_best_31 : decode cX9_best 31 = .ok (.iconst (-1), 1) := dk_2 (dk_at dksX9_best_1 8 rfl rfl)
theorem dX9_best_32 : decode cX9_best 32 = .ok (.ireturn, 1) := dk_172 (dk_at dksX9_best_1 9 rfl rfl)
theorem dX9_best_33 : decode cX9_best 33 = .ok (.aload_n 0, 1) := dk_42 (dk_at dksX9_best_1 10 rfl rfl)
theorem dX9_best_34 : decode cX9_best 34 = .ok (.getfield 168, 3) := dk_180 0 168 (dk_at dksX9_best_1 11 rfl rfl)
theorem dX9_best_37 : decode cX9_best 37 = .ok (.iconst 5, 1) := dk_8 (dk_at dksX9_best_1 14 rfl rfl)
theorem dX9_best_38 : decode cX9_best 38 = .ok (.iload_n 1, 1) := dk_27 (dk_at dksX9_best_1 15 rfl rfl)
theorem dX9_best_39 : decode cX9_best 39 = .ok (.iadd, 1) := dk_96 (dk_at dksX9_best_1 16 rfl rfl)
theorem dX9_best_40 : decode cX9_best 40 = .ok (.iaload, 1) := dk_46 (dk_at dksX9_best_1 17 rfl rfl)
theorem dX9_best_41 : decode cX9_best 41 = .ok (.istore_n 3, 1) := dk_62 (dk_at dksX9_best_1 18 rfl rfl)
theorem dX9_best_42 : decode cX9_best 42 = .ok (.iconst (-1), 1) := dk_2 (dk_at dksX9_best_1 19 rfl rfl)
theorem dX9_best_43 : decode cX9_best 43 = .ok (.istore 4, 2) := dk_54 4 (dk_at dksX9_best_1 20 rfl rfl)
theorem dX9_best_45 : decode cX9_best 45 = .ok (.iconst 0, 1) := dk_3 (dk_at dksX9_best_1 22 rfl rfl)
theorem dX9_best_46 : decode cX9_best 46 = .ok (.istore 5, 2) := dk_54 5 (dk_at dksX9_best_2 0 rfl rfl)
theorem dX9_best_48 : decode cX9_best 48 = .ok (.iconst 0, 1) := dk_3 (dk_at dksX9_best_2 2 rfl rfl)
theorem dX9_best_49 : decode cX9_best 49 = .ok (.istore 6, 2) := dk_54 6 (dk_at dksX9_best_2 3 rfl rfl)
theorem dX9_best_51 : decode cX9_best 51 = .ok (.iload 6, 2) := dk_21 6 (dk_at dksX9_best_2 5 rfl rfl)
theorem dX9_best_53 : decode cX9_best 53 = .ok (.aload_n 0, 1) := dk_42 (dk_at dksX9_best_2 7 rfl rfl)
theorem dX9_best_54 : decode cX9_best 54 = .ok (.getfield 13, 3) := dk_180 0 13 (dk_at dksX9_best_2 8 rfl rfl)
theorem dX9_best_57 : decode cX9_best 57 = .ok (.iconst 1, 1) := dk_4 (dk_at dksX9_best_2 11 rfl rfl)
theorem dX9_best_58 : decode cX9_best 58 = .ok (.iaload, 1) := dk_46 (dk_at dksX9_best_2 12 rfl rfl)
theorem dX9_best_59 : decode cX9_best 59 = .ok (.if_icmp .ge 62, 3) := dk_162 0 62 (dk_at dksX9_best_2 13 rfl rfl)
theorem dX9_best_62 : decode cX9_best 62 = .ok (.aload_n 0, 1) := dk_42 (dk_at dksX9_best_2 16 rfl rfl)
theorem dX9_best_63 : decode cX9_best 63 = .ok (.iload 6, 2) := dk_21 6 (dk_at dksX9_best_2 17 rfl rfl)
theorem dX9_best_65 : decode cX9_best 65 = .ok (.iload_n 1, 1) := dk_27 (dk_at dksX9_best_2 19 rfl rfl)
theorem dX9_best_66 : decode cX9_best 66 = .ok (.invokevirtual 541, 3) := dk_182 2 29 (dk_at dksX9_best_2 20 rfl rfl)
theorem dX9_best_69 : decode cX9_best 69 = .ok (.ifCond .ne 6, 3) := dk_154 0 6 (dk_at dksX9_best_3 0 rfl rfl)
theorem dX9_best_72 : decode cX9_best 72 = .ok (.goto 43, 3) := dk_167 0 43 (dk_at dksX9_best_3 3 rfl rfl)
theorem dX9_best_75 : decode cX9_best 75 = .ok (.aload_n 0, 1) := dk_42 (dk_at dksX9_best_3 6 rfl rfl)
theorem dX9_best_76 : decode cX9_best 76 = .ok (.getfield 168, 3) := dk_180 0 168 (dk_at dksX9_best_3 7 rfl rfl)
theorem dX9_best_79 : decode cX9_best 79 = .ok (.iconst 5, 1) := dk_8 (dk_at dksX9_best_3 10 rfl rfl)
theorem dX9_best_80 : decode cX9_best 80 = .ok (.iload_n 1, 1) := dk_27 (dk_at dksX9_best_3 11 rfl rfl)
theorem dX9_best_81 : decode cX9_best 81 = .ok (.iadd, 1) := dk_96 (dk_at dksX9_best_3 12 rfl rfl)
theorem dX9_best_82 : decode cX9_best 82 = .ok (.iload 6, 2) := dk_21 6 (dk_at dksX9_best_3 13 rfl rfl)
theorem dX9_best_84 : decode cX9_best 84 = .ok (.iastore, 1) := dk_79 (dk_at dksX9_best_3 15 rfl rfl)
theorem dX9_best_85 : decode cX9_best 85 = .ok (.aload_n 0, 1) := dk_42 (dk_at dksX9_best_3 16 rfl rfl)
theorem dX9_best_86 : decode cX9_best 86 = .ok (.iload_n 2, 1) := dk_28 (dk_at dksX9_best_3 17 rfl rfl)
theorem dX9_best_87 : decode cX9_best 87 = .ok (.invokevirtual 585, 3) := dk_182 2 73 (dk_at dksX9_best_3 18 rfl rfl)
theorem dX9_best_90 : decode cX9_best 90 = .ok (.istore 7, 2) := dk_54 7 (dk_at dksX9_best_3 21 rfl rfl)
theorem dX9_best_92 : decode cX9_best 92 = .ok (.iload 4, 2) := dk_21 4 (dk_at dksX9_best_4 0 rfl rfl)
theorem dX9_best_94 : decode cX9_best 94 = .ok (.ifCond .lt 13, 3) := dk_155 0 13 (dk_at dksX9_best_4 2 rfl rfl)
theorem dX9_best_97 : decode cX9_best 97 = .ok (.iload 7, 2) := dk_21 7 (dk_at dksX9_best_4 5 rfl rfl)
theorem dX9_best_99 : decode cX9_best 99 = .ok (.iload 5, 2) := dk_21 5 (dk_at dksX9_best_4 7 rfl rfl)
theorem dX9_best_101 : decode cX9_best 101 = .ok (.if_icmp .lt 6, 3) := dk_161 0 6 (dk_at dksX9_best_4 9 rfl rfl)
theorem dX9_best_104 : decode cX9_best 104 = .ok (.goto 11, 3) := dk_167 0 11 (dk_at dksX9_best_4 12 rfl rfl)
theorem dX9_best_107 : decode cX9_best 107 = .ok (.iload 6, 2) := dk_21 6 (dk_at dksX9_best_4 15 rfl rfl)
theorem dX9_best_109 : decode cX9_best 109 = .ok (.istore 4, 2) := dk_54 4 (dk_at dksX9_best_4 17 rfl rfl)
theorem dX9_best_111 : decode cX9_best 111 = .ok (.iload 7, 2) := dk_21 7 (dk_at dksX9_best_4 19 rfl rfl)
theorem dX9_best_113 : decode cX9_best 113 = .ok (.istore 5, 2) := dk_54 5 (dk_at dksX9_best_4 21 rfl rfl)
theorem dX9_best_115 : decode cX9_best 115 = .ok (.iinc 6 1, 3) := dk_132 6 1 (dk_at dksX9_best_5 0 rfl rfl)
theorem dX9_best_118 : decode cX9_best 118 = .ok (.goto (-67), 3) := dk_167 255 189 (dk_at dksX9_best_5 3 rfl rfl)
theorem dX9_best_121 : decode cX9_best 121 = .ok (.aload_n 0, 1) := dk_42 (dk_at dksX9_best_5 6 rfl rfl)
theorem dX9_best_122 : decode cX9_best 122 = .ok (.getfield 168, 3) := dk_180 0 168 (dk_at dksX9_best_5 7 rfl rfl)
theorem dX9_best_125 : decode cX9_best 125 = .ok (.iconst 5, 1) := dk_8 (dk_at dksX9_best_5 10 rfl rfl)
theorem dX9_best_126 : decode cX9_best 126 = .ok (.iload_n 1, 1) := dk_27 (dk_at dksX9_best_5 11 rfl rfl)
theorem dX9_best_127 : decode cX9_best 127 = .ok (.iadd, 1) := dk_96 (dk_at dksX9_best_5 12 rfl rfl)
theorem dX9_best_128 : decode cX9_best 128 = .ok (.iload_n 3, 1) := dk_29 (dk_at dksX9_best_5 13 rfl rfl)
theorem dX9_best_129 : decode cX9_best 129 = .ok (.iastore, 1) := dk_79 (dk_at dksX9_best_5 14 rfl rfl)
theorem dX9_best_130 : decode cX9_best 130 = .ok (.iload 4, 2) := dk_21 4 (dk_at dksX9_best_5 15 rfl rfl)
theorem dX9_best_132 : decode cX9_best 132 = .ok (.ireturn, 1) := dk_172 (dk_at dksX9_best_5 17 rfl rfl)
abbrev cX9_thief : ByteArray := prog_35_method_101_code
def yX9_thief : MethodName := ⟨RX9, "thief", "(III)I"⟩
def dkwX9_thief_2 : List UInt8 := [182, 2, 79, 172]
abbrev dktX9_thief_2 : List UInt8 := dkwX9_thief_2 ++ []
def dkwX9_thief_1 : List UInt8 := [167, 0, 4, 4, 181, 0, 212, 42, 180, 0, 212, 4, 160, 0, 7, 3, 167, 0, 10, 42, 27, 28, 29]
abbrev dktX9_thief_1 : List UInt8 := dkwX9_thief_1 ++ dktX9_thief_2
def dkwX9_thief_0 : List UInt8 := [42, 27, 155, 0, 25, 27, 42, 180, 0, 13, 7, 46, 162, 0, 15, 28, 29, 184, 2, 76, 153, 0, 7, 3]
abbrev dktX9_thief_0 : List UInt8 := dkwX9_thief_0 ++ dktX9_thief_1
theorem dksX9_thief_0 : cX9_thief.data.toList.drop 0 = dktX9_thief_0 := by decide +kernel
theorem dksX9_thief_1 : cX9_thief.data.toList.drop 24 = dktX9_thief_1 := dk_seg dksX9_thief_0 24 rfl rfl
theorem dksX9_thief_2 : cX9_thief.data.toList.drop 47 = dktX9_thief_2 := dk_seg dksX9_thief_1 23 rfl rfl
theorem dX9_thief_0 : decode cX9_thief 0 = .ok (.aload_n 0, 1) := dk_42 (dk_at dksX9_thief_0 0 rfl rfl)
theorem dX9_thief_1 : decode cX9_thief 1 = .ok (.iload_n 1, 1) := dk_27 (dk_at dksX9_thief_0 1 rfl rfl)
theorem dX9_thief_2 : decode cX9_thief 2 = .ok (.ifCond .lt 25, 3) := dk_155 0 25 (dk_at dksX9_thief_0 2 rfl rfl)
theorem dX9_thief_5 : decode cX9_thief 5 = .ok (.iload_n 1, 1) := dk_27 (dk_at dksX9_thief_0 5 rfl rfl)
theorem dX9_thief_6 : decode cX9_thief 6 = .ok (.aload_n 0, 1) := dk_42 (dk_at dksX9_thief_0 6 rfl rfl)
theorem dX9_thief_7 : decode cX9_thief 7 = .ok (.getfield 13, 3) := dk_180 0 13 (dk_at dksX9_thief_0 7 rfl rfl)
theorem dX9_thief_10 : decode cX9_thief 10 = .ok (.iconst 4, 1) := dk_7 (dk_at dksX9_thief_0 10 rfl rfl)
theorem dX9_thief_11 : decode cX9_thief 11 = .ok (.iaload, 1) := dk_46 (dk_at dksX9_thief_0 11 rfl rfl)
theorem dX9_thief_12 : decode cX9_thief 12 = .ok (.if_icmp .ge 15, 3) := dk_162 0 15 (dk_at dksX9_thief_0 12 rfl rfl)
theorem dX9_thief_15 : decode cX9_thief 15 = .ok (.iload_n 2, 1) := dk_28 (dk_at dksX9_thief_0 15 rfl rfl)
theorem dX9_thief_16 : decode cX9_thief 16 = .ok (.iload_n 3, 1) := dk_29 (dk_at dksX9_thief_0 16 rfl rfl)
theorem dX9_thief_17 : decode cX9_thief 17 = .ok (.invokestatic 588, 3) := dk_184 2 76 (dk_at dksX9_thief_0 17 rfl rfl)
theorem dX9_thief_20 : decode cX9_thief 20 = .ok (.ifCond .eq 7, 3) := dk_153 0 7 (dk_at dksX9_thief_0 20 rfl rfl)
theorem dX9_thief_23 : decode cX9_thief 23 = .ok (.iconst 0, 1) := dk_3 (dk_at dksX9_thief_0 23 rfl rfl)
theorem dX9_thief_24 : decode cX9_thief 24 = .ok (.goto 4, 3) := dk_167 0 4 (dk_at dksX9_thief_1 0 rfl rfl)
theorem dX9_thief_27 : decode cX9_thief 27 = .ok (.iconst 1, 1) := dk_4 (dk_at dksX9_thief_1 3 rfl rfl)
theorem dX9_thief_28 : decode cX9_thief 28 = .ok (.putfield 212, 3) := dk_181 0 212 (dk_at dksX9_thief_1 4 rfl rfl)
theorem dX9_thief_31 : decode cX9_thief 31 = .ok (.aload_n 0, 1) := dk_42 (dk_at dksX9_thief_1 7 rfl rfl)
theorem dX9_thief_32 : decode cX9_thief 32 = .ok (.getfield 212, 3) := dk_180 0 212 (dk_at dksX9_thief_1 8 rfl rfl)
theorem dX9_thief_35 : decode cX9_thief 35 = .ok (.iconst 1, 1) := dk_4 (dk_at dksX9_thief_1 11 rfl rfl)
theorem dX9_thief_36 : decode cX9_thief 36 = .ok (.if_icmp .ne 7, 3) := dk_160 0 7 (dk_at dksX9_thief_1 12 rfl rfl)
theorem dX9_thief_39 : decode cX9_thief 39 = .ok (.iconst 0, 1) := dk_3 (dk_at dksX9_thief_1 15 rfl rfl)
theorem dX9_thief_40 : decode cX9_thief 40 = .ok (.goto 10, 3) := dk_167 0 10 (dk_at dksX9_thief_1 16 rfl rfl)
theorem dX9_thief_43 : decode cX9_thief 43 = .ok (.aload_n 0, 1) := dk_42 (dk_at dksX9_thief_1 19 rfl rfl)
theorem dX9_thief_44 : decode cX9_thief 44 = .ok (.iload_n 1, 1) := dk_27 (dk_at dksX9_thief_1 20 rfl rfl)
theorem dX9_thief_45 : decode cX9_thief 45 = .ok (.iload_n 2, 1) := dk_28 (dk_at dksX9_thief_1 21 rfl rfl)
theorem dX9_thief_46 : decode cX9_thief 46 = .ok (.iload_n 3, 1) := dk_29 (dk_at dksX9_thief_1 22 rfl rfl)
theorem dX9_thief_47 : decode cX9_thief 47 = .ok (.invokevirtual 591, 3) := dk_182 2 79 (dk_at dksX9_thief_2 0 rfl rfl)
theorem dX9_thief_50 : decode cX9_thief 50 = .ok (.ireturn, 1) := dk_172 (dk_at dksX9_thief_2 3 rfl rfl)
abbrev cX9_isVoice : ByteArray := prog_35_method_100_code
def yX9_isVoice : MethodName := ⟨RX9, "isVoice", "(II)Z"⟩
def dkwX9_isVoice_1 : List UInt8 := [3, 172]
abbrev dktX9_isVoice_1 : List UInt8 := dkwX9_isVoice_1 ++ []
def dkwX9_isVoice_0 : List UInt8 := [26, 3, 16, 11, 184, 1, 95, 153, 0, 17, 27, 3, 16, 6, 184, 1, 95, 153, 0, 7, 4, 167, 0, 4]
abbrev dktX9_isVoice_0 : List UInt8 := dkwX9_isVoice_0 ++ dktX9_isVoice_1
theorem dksX9_isVoice_0 : cX9_isVoice.data.toList.drop 0 = dktX9_isVoice_0 := by decide +kernel
theorem dksX9_isVoice_1 : cX9_isVoice.data.toList.drop 24 = dktX9_isVoice_1 := dk_seg dksX9_isVoice_0 24 rfl rfl
theorem dX9_isVoice_0 : decode cX9_isVoice 0 = .ok (.iload_n 0, 1) := dk_26 (dk_at dksX9_isVoice_0 0 rfl rfl)
theorem dX9_isVoice_1 : decode cX9_isVoice 1 = .ok (.iconst 0, 1) := dk_3 (dk_at dksX9_isVoice_0 1 rfl rfl)
theorem dX9_isVoice_2 : decode cX9_isVoice 2 = .ok (.bipush 11, 2) := dk_16 11 (dk_at dksX9_isVoice_0 2 rfl rfl)
theorem dX9_isVoice_4 : decode cX9_isVoice 4 = .ok (.invokestatic 351, 3) := dk_184 1 95 (dk_at dksX9_isVoice_0 4 rfl rfl)
theorem dX9_isVoice_7 : decode cX9_isVoice 7 = .ok (.ifCond .eq 17, 3) := dk_153 0 17 (dk_at dksX9_isVoice_0 7 rfl rfl)
theorem dX9_isVoice_10 : decode cX9_isVoice 10 = .ok (.iload_n 1, 1) := dk_27 (dk_at dksX9_isVoice_0 10 rfl rfl)
theorem dX9_isVoice_11 : decode cX9_isVoice 11 = .ok (.iconst 0, 1) := dk_3 (dk_at dksX9_isVoice_0 11 rfl rfl)
theorem dX9_isVoice_12 : decode cX9_isVoice 12 = .ok (.bipush 6, 2) := dk_16 6 (dk_at dksX9_isVoice_0 12 rfl rfl)
theorem dX9_isVoice_14 : decode cX9_isVoice 14 = .ok (.invokestatic 351, 3) := dk_184 1 95 (dk_at dksX9_isVoice_0 14 rfl rfl)
theorem dX9_isVoice_17 : decode cX9_isVoice 17 = .ok (.ifCond .eq 7, 3) := dk_153 0 7 (dk_at dksX9_isVoice_0 17 rfl rfl)
theorem dX9_isVoice_20 : decode cX9_isVoice 20 = .ok (.iconst 1, 1) := dk_4 (dk_at dksX9_isVoice_0 20 rfl rfl)
theorem dX9_isVoice_21 : decode cX9_isVoice 21 = .ok (.goto 4, 3) := dk_167 0 4 (dk_at dksX9_isVoice_0 21 rfl rfl)
theorem dX9_isVoice_24 : decode cX9_isVoice 24 = .ok (.iconst 0, 1) := dk_3 (dk_at dksX9_isVoice_1 0 rfl rfl)
theorem dX9_isVoice_25 : decode cX9_isVoice 25 = .ok (.ireturn, 1) := dk_172 (dk_at dksX9_isVoice_1 1 rfl rfl)
abbrev cX9_thiefOf : ByteArray := prog_35_method_99_code
def yX9_thiefOf : MethodName := ⟨RX9, "thiefOf", "(III)I"⟩
def dkwX9_thiefOf_6 : List UInt8 := [167, 255, 139, 21, 6, 172]
abbrev dktX9_thiefOf_6 : List UInt8 := dkwX9_thiefOf_6 ++ []
def dkwX9_thiefOf_5 : List UInt8 := [180, 0, 38, 21, 9, 46, 167, 0, 4, 3, 96, 54, 6, 132, 9, 1, 167, 255, 215, 132, 7, 1]
abbrev dktX9_thiefOf_5 : List UInt8 := dkwX9_thiefOf_5 ++ dktX9_thiefOf_6
def dkwX9_thiefOf_4 : List UInt8 := [180, 0, 13, 3, 46, 162, 0, 36, 21, 6, 21, 8, 21, 9, 122, 4, 126, 4, 160, 0, 13, 42]
abbrev dktX9_thiefOf_4 : List UInt8 := dkwX9_thiefOf_4 ++ dktX9_thiefOf_5
def dkwX9_thiefOf_3 : List UInt8 := [54, 8, 21, 4, 21, 8, 2, 130, 126, 54, 4, 42, 180, 1, 252, 54, 5, 3, 54, 9, 21, 9, 42]
abbrev dktX9_thiefOf_3 : List UInt8 := dkwX9_thiefOf_3 ++ dktX9_thiefOf_4
def dkwX9_thiefOf_2 : List UInt8 := [96, 46, 46, 28, 29, 182, 1, 255, 42, 21, 4, 21, 5, 42, 180, 1, 237, 42, 180, 1, 240, 182, 2, 3]
abbrev dktX9_thiefOf_2 : List UInt8 := dkwX9_thiefOf_2 ++ dktX9_thiefOf_3
def dkwX9_thiefOf_1 : List UInt8 := [42, 180, 0, 62, 27, 46, 162, 0, 112, 42, 42, 180, 0, 23, 42, 180, 0, 59, 16, 10, 27, 104, 21, 7]
abbrev dktX9_thiefOf_1 : List UInt8 := dkwX9_thiefOf_1 ++ dktX9_thiefOf_2
def dkwX9_thiefOf_0 : List UInt8 := [42, 180, 0, 168, 3, 46, 54, 4, 42, 180, 0, 168, 4, 46, 54, 5, 3, 54, 6, 3, 54, 7, 21, 7]
abbrev dktX9_thiefOf_0 : List UInt8 := dkwX9_thiefOf_0 ++ dktX9_thiefOf_1
theorem dksX9_thiefOf_0 : cX9_thiefOf.data.toList.drop 0 = dktX9_thiefOf_0 := by decide +kernel
theorem dksX9_thiefOf_1 : cX9_thiefOf.data.toList.drop 24 = dktX9_thiefOf_1 := dk_seg dksX9_thiefOf_0 24 rfl rfl
theorem dksX9_thiefOf_2 : cX9_thiefOf.data.toList.drop 48 = dktX9_thiefOf_2 := dk_seg dksX9_thiefOf_1 24 rfl rfl
theorem dksX9_thiefOf_3 : cX9_thiefOf.data.toList.drop 72 = dktX9_thiefOf_3 := dk_seg dksX9_thiefOf_2 24 rfl rfl
theorem dksX9_thiefOf_4 : cX9_thiefOf.data.toList.drop 95 = dktX9_thiefOf_4 := dk_seg dksX9_thiefOf_3 23 rfl rfl
theorem dksX9_thiefOf_5 : cX9_thiefOf.data.toList.drop 117 = dktX9_thiefOf_5 := dk_seg dksX9_thiefOf_4 22 rfl rfl
theorem dksX9_thiefOf_6 : cX9_thiefOf.data.toList.drop 139 = dktX9_thiefOf_6 := dk_seg dksX9_thiefOf_5 22 rfl rfl
theorem dX9_thiefOf_0 : decode cX9_thiefOf 0 = .ok (.aload_n 0, 1) := dk_42 (dk_at dksX9_thiefOf_0 0 rfl rfl)
theorem dX9_thiefOf_1 : decode cX9_thiefOf 1 = .ok (.getfield 168, 3) := dk_180 0 168 (dk_at dksX9_thiefOf_0 1 rfl rfl)
theorem dX9_thiefOf_4 : decode cX9_thiefOf 4 = .ok (.iconst 0, 1) := dk_3 (dk_at dksX9_thiefOf_0 4 rfl rfl)
theorem dX9_thiefOf_5 : decode cX9_thiefOf 5 = .ok (.iaload, 1) := dk_46 (dk_at dksX9_thiefOf_0 5 rfl rfl)
theorem dX9_thiefOf_6 : decode cX9_thiefOf 6 = .ok (.istore 4, 2) := dk_54 4 (dk_at dksX9_thiefOf_0 6 rfl rfl)
theorem dX9_thiefOf_8 : decode cX9_thiefOf 8 = .ok (.aload_n 0, 1) := dk_42 (dk_at dksX9_thiefOf_0 8 rfl rfl)
theorem dX9_thiefOf_9 : decode cX9_thiefOf 9 = .ok (.getfield 168, 3) := dk_180 0 168 (dk_at dksX9_thiefOf_0 9 rfl rfl)
theorem dX9_thiefOf_12 : decode cX9_thiefOf 12 = .ok (.iconst 1, 1) := dk_4 (dk_at dksX9_thiefOf_0 12 rfl rfl)
theorem dX9_thiefOf_13 : decode cX9_thiefOf 13 = .ok (.iaload, 1) := dk_46 (dk_at dksX9_thiefOf_0 13 rfl rfl)
theorem dX9_thiefOf_14 : decode cX9_thiefOf 14 = .ok (.istore 5, 2) := dk_54 5 (dk_at dksX9_thiefOf_0 14 rfl rfl)
theorem dX9_thiefOf_16 : decode cX9_thiefOf 16 = .ok (.iconst 0, 1) := dk_3 (dk_at dksX9_thiefOf_0 16 rfl rfl)
theorem dX9_thiefOf_17 : decode cX9_thiefOf 17 = .ok (.istore 6, 2) := dk_54 6 (dk_at dksX9_thiefOf_0 17 rfl rfl)
theorem dX9_thiefOf_19 : decode cX9_thiefOf 19 = .ok (.iconst 0, 1) := dk_3 (dk_at dksX9_thiefOf_0 19 rfl rfl)
theorem dX9_thiefOf_20 : decode cX9_thiefOf 20 = .ok (.istore 7, 2) := dk_54 7 (dk_at dksX9_thiefOf_0 20 rfl rfl)
theorem dX9_thiefOf_22 : decode cX9_thiefOf 22 = .ok (.iload 7, 2) := dk_21 7 (dk_at dksX9_thiefOf_0 22 rfl rfl)
theorem dX9_thiefOf_24 : decode cX9_thiefOf 24 = .ok (.aload_n 0, 1) := dk_42 (dk_at dksX9_thiefOf_1 0 rfl rfl)
theorem dX9_thiefOf_25 : decode cX9_thiefOf 25 = .ok (.getfield 62, 3) := dk_180 0 62 (dk_at dksX9_thiefOf_1 1 rfl rfl)
theorem dX9_thiefOf_28 : decode cX9_thiefOf 28 = .ok (.iload_n 1, 1) := dk_27 (dk_at dksX9_thiefOf_1 4 rfl rfl)
theorem dX9_thiefOf_29 : decode cX9_thiefOf 29 = .ok (.iaload, 1) := dk_46 (dk_at dksX9_thiefOf_1 5 rfl rfl)
theorem dX9_thiefOf_30 : decode cX9_thiefOf 30 = .ok (.if_icmp .ge 112, 3) := dk_162 0 112 (dk_at dksX9_thiefOf_1 6 rfl rfl)
theorem dX9_thiefOf_33 : decode cX9_thiefOf 33 = .ok (.aload_n 0, 1) := dk_42 (dk_at dksX9_thiefOf_1 9 rfl rfl)
theorem dX9_thiefOf_34 : decode cX9_thiefOf 34 = .ok (.aload_n 0, 1) := dk_42 (dk_at dksX9_thiefOf_1 10 rfl rfl)
theorem dX9_thiefOf_35 : decode cX9_thiefOf 35 = .ok (.getfield 23, 3) := dk_180 0 23 (dk_at dksX9_thiefOf_1 11 rfl rfl)
theorem dX9_thiefOf_38 : decode cX9_thiefOf 38 = .ok (.aload_n 0, 1) := dk_42 (dk_at dksX9_thiefOf_1 14 rfl rfl)
theorem dX9_thiefOf_39 : decode cX9_thiefOf 39 = .ok (.getfield 59, 3) := dk_180 0 59 (dk_at dksX9_thiefOf_1 15 rfl rfl)
theorem dX9_thiefOf_42 : decode cX9_thiefOf 42 = .ok (.bipush 10, 2) := dk_16 10 (dk_at dksX9_thiefOf_1 18 rfl rfl)
theorem dX9_thiefOf_44 : decode cX9_thiefOf 44 = .ok (.iload_n 1, 1) := dk_27 (dk_at dksX9_thiefOf_1 20 rfl rfl)
theorem dX9_thiefOf_45 : decode cX9_thiefOf 45 = .ok (.imul, 1) := dk_104 (dk_at dksX9_thiefOf_1 21 rfl rfl)
theorem dX9_thiefOf_46 : decode cX9_thiefOf 46 = .ok (.iload 7, 2) := dk_21 7 (dk_at dksX9_thiefOf_1 22 rfl rfl)
theorem dX9_thiefOf_48 : decode cX9_thiefOf 48 = .ok (.iadd, 1) := dk_96 (dk_at dksX9_thiefOf_2 0 rfl rfl)
theorem dX9_thiefOf_49 : decode cX9_thiefOf 49 = .ok (.iaload, 1) := dk_46 (dk_at dksX9_thiefOf_2 1 rfl rfl)
theorem dX9_thiefOf_50 : decode cX9_thiefOf 50 = .ok (.iaload, 1) := dk_46 (dk_at dksX9_thiefOf_2 2 rfl rfl)
theorem dX9_thiefOf_51 : decode cX9_thiefOf 51 = .ok (.iload_n 2, 1) := dk_28 (dk_at dksX9_thiefOf_2 3 rfl rfl)
theorem dX9_thiefOf_52 : decode cX9_thiefOf 52 = .ok (.iload_n 3, 1) := dk_29 (dk_at dksX9_thiefOf_2 4 rfl rfl)
theorem dX9_thiefOf_53 : decode cX9_thiefOf 53 = .ok (.invokevirtual 511, 3) := dk_182 1 255 (dk_at dksX9_thiefOf_2 5 rfl rfl)
theorem dX9_thiefOf_56 : decode cX9_thiefOf 56 = .ok (.aload_n 0, 1) := dk_42 (dk_at dksX9_thiefOf_2 8 rfl rfl)
theorem dX9_thiefOf_57 : decode cX9_thiefOf 57 = .ok (.iload 4, 2) := dk_21 4 (dk_at dksX9_thiefOf_2 9 rfl rfl)
theorem dX9_thiefOf_59 : decode cX9_thiefOf 59 = .ok (.iload 5, 2) := dk_21 5 (dk_at dksX9_thiefOf_2 11 rfl rfl)
theorem dX9_thiefOf_61 : decode cX9_thiefOf 61 = .ok (.aload_n 0, 1) := dk_42 (dk_at dksX9_thiefOf_2 13 rfl rfl)
theorem dX9_thiefOf_62 : decode cX9_thiefOf 62 = .ok (.getfield 493, 3) := dk_180 1 237 (dk_at dksX9_thiefOf_2 14 rfl rfl)
theorem dX9_thiefOf_65 : decode cX9_thiefOf 65 = .ok (.aload_n 0, 1) := dk_42 (dk_at dksX9_thiefOf_2 17 rfl rfl)
theorem dX9_thiefOf_66 : decode cX9_thiefOf 66 = .ok (.getfield 496, 3) := dk_180 1 240 (dk_at dksX9_thiefOf_2 18 rfl rfl)
theorem dX9_thiefOf_69 : decode cX9_thiefOf 69 = .ok (.invokevirtual 515, 3) := dk_182 2 3 (dk_at dksX9_thiefOf_2 21 rfl rfl)
theorem dX9_thiefOf_72 : decode cX9_thiefOf 72 = .ok (.istore 8, 2) := dk_54 8 (dk_at dksX9_thiefOf_3 0 rfl rfl)
theorem dX9_thiefOf_74 : decode cX9_thiefOf 74 = .ok (.iload 4, 2) := dk_21 4 (dk_at dksX9_thiefOf_3 2 rfl rfl)
theorem dX9_thiefOf_76 : decode cX9_thiefOf 76 = .ok (.iload 8, 2) := dk_21 8 (dk_at dksX9_thiefOf_3 4 rfl rfl)
theorem dX9_thiefOf_78 : decode cX9_thiefOf 78 = .ok (.iconst (-1), 1) := dk_2 (dk_at dksX9_thiefOf_3 6 rfl rfl)
theorem dX9_thiefOf_79 : decode cX9_thiefOf 79 = .ok (.ixor, 1) := dk_130 (dk_at dksX9_thiefOf_3 7 rfl rfl)
theorem dX9_thiefOf_80 : decode cX9_thiefOf 80 = .ok (.iand, 1) := dk_126 (dk_at dksX9_thiefOf_3 8 rfl rfl)
theorem dX9_thiefOf_81 : decode cX9_thiefOf 81 = .ok (.istore 4, 2) := dk_54 4 (dk_at dksX9_thiefOf_3 9 rfl rfl)
theorem dX9_thiefOf_83 : decode cX9_thiefOf 83 = .ok (.aload_n 0, 1) := dk_42 (dk_at dksX9_thiefOf_3 11 rfl rfl)
theorem dX9_thiefOf_84 : decode cX9_thiefOf 84 = .ok (.getfield 508, 3) := dk_180 1 252 (dk_at dksX9_thiefOf_3 12 rfl rfl)
theorem dX9_thiefOf_87 : decode cX9_thiefOf 87 = .ok (.istore 5, 2) := dk_54 5 (dk_at dksX9_thiefOf_3 15 rfl rfl)
theorem dX9_thiefOf_89 : decode cX9_thiefOf 89 = .ok (.iconst 0, 1) := dk_3 (dk_at dksX9_thiefOf_3 17 rfl rfl)
theorem dX9_thiefOf_90 : decode cX9_thiefOf 90 = .ok (.istore 9, 2) := dk_54 9 (dk_at dksX9_thiefOf_3 18 rfl rfl)
theorem dX9_thiefOf_92 : decode cX9_thiefOf 92 = .ok (.iload 9, 2) := dk_21 9 (dk_at dksX9_thiefOf_3 20 rfl rfl)
theorem dX9_thiefOf_94 : decode cX9_thiefOf 94 = .ok (.aload_n 0, 1) := dk_42 (dk_at dksX9_thiefOf_3 22 rfl rfl)
theorem dX9_thiefOf_95 : decode cX9_thiefOf 95 = .ok (.getfield 13, 3) := dk_180 0 13 (dk_at dksX9_thiefOf_4 0 rfl rfl)
theorem dX9_thiefOf_98 : decode cX9_thiefOf 98 = .ok (.iconst 0, 1) := dk_3 (dk_at dksX9_thiefOf_4 3 rfl rfl)
theorem dX9_thiefOf_99 : decode cX9_thiefOf 99 = .ok (.iaload, 1) := dk_46 (dk_at dksX9_thiefOf_4 4 rfl rfl)
theorem dX9_thiefOf_100 : decode cX9_thiefOf 100 = .ok (.if_icmp .ge 36, 3) := dk_162 0 36 (dk_at dksX9_thiefOf_4 5 rfl rfl)
theorem dX9_thiefOf_103 : decode cX9_thiefOf 103 = .ok (.iload 6, 2) := dk_21 6 (dk_at dksX9_thiefOf_4 8 rfl rfl)
theorem dX9_thiefOf_105 : decode cX9_thiefOf 105 = .ok (.iload 8, 2) := dk_21 8 (dk_at dksX9_thiefOf_4 10 rfl rfl)
theorem dX9_thiefOf_107 : decode cX9_thiefOf 107 = .ok (.iload 9, 2) := dk_21 9 (dk_at dksX9_thiefOf_4 12 rfl rfl)
theorem dX9_thiefOf_109 : decode cX9_thiefOf 109 = .ok (.ishr, 1) := dk_122 (dk_at dksX9_thiefOf_4 14 rfl rfl)
theorem dX9_thiefOf_110 : decode cX9_thiefOf 110 = .ok (.iconst 1, 1) := dk_4 (dk_at dksX9_thiefOf_4 15 rfl rfl)
theorem dX9_thiefOf_111 : decode cX9_thiefOf 111 = .ok (.iand, 1) := dk_126 (dk_at dksX9_thiefOf_4 16 rfl rfl)
theorem dX9_thiefOf_112 : decode cX9_thiefOf 112 = .ok (.iconst 1, 1) := dk_4 (dk_at dksX9_thiefOf_4 17 rfl rfl)
theorem dX9_thiefOf_113 : decode cX9_thiefOf 113 = .ok (.if_icmp .ne 13, 3) := dk_160 0 13 (dk_at dksX9_thiefOf_4 18 rfl rfl)
theorem dX9_thiefOf_116 : decode cX9_thiefOf 116 = .ok (.aload_n 0, 1) := dk_42 (dk_at dksX9_thiefOf_4 21 rfl rfl)
theorem dX9_thiefOf_117 : decode cX9_thiefOf 117 = .ok (.getfield 38, 3) := dk_180 0 38 (dk_at dksX9_thiefOf_5 0 rfl rfl)
theorem dX9_thiefOf_120 : decode cX9_thiefOf 120 = .ok (.iload 9, 2) := dk_21 9 (dk_at dksX9_thiefOf_5 3 rfl rfl)
theorem dX9_thiefOf_122 : decode cX9_thiefOf 122 = .ok (.iaload, 1) := dk_46 (dk_at dksX9_thiefOf_5 5 rfl rfl)
theorem dX9_thiefOf_123 : decode cX9_thiefOf 123 = .ok (.goto 4, 3) := dk_167 0 4 (dk_at dksX9_thiefOf_5 6 rfl rfl)
theorem dX9_thiefOf_126 : decode cX9_thiefOf 126 = .ok (.iconst 0, 1) := dk_3 (dk_at dksX9_thiefOf_5 9 rfl rfl)
theorem dX9_thiefOf_127 : decode cX9_thiefOf 127 = .ok (.iadd, 1) := dk_96 (dk_at dksX9_thiefOf_5 10 rfl rfl)
theorem dX9_thiefOf_128 : decode cX9_thiefOf 128 = .ok (.istore 6, 2) := dk_54 6 (dk_at dksX9_thiefOf_5 11 rfl rfl)
theorem dX9_thiefOf_130 : decode cX9_thiefOf 130 = .ok (.iinc 9 1, 3) := dk_132 9 1 (dk_at dksX9_thiefOf_5 13 rfl rfl)
theorem dX9_thiefOf_133 : decode cX9_thiefOf 133 = .ok (.goto (-41), 3) := dk_167 255 215 (dk_at dksX9_thiefOf_5 16 rfl rfl)
theorem dX9_thiefOf_136 : decode cX9_thiefOf 136 = .ok (.iinc 7 1, 3) := dk_132 7 1 (dk_at dksX9_thiefOf_5 19 rfl rfl)
theorem dX9_thiefOf_139 : decode cX9_thiefOf 139 = .ok (.goto (-117), 3) := dk_167 255 139 (dk_at dksX9_thiefOf_6 0 rfl rfl)
theorem dX9_thiefOf_142 : decode cX9_thiefOf 142 = .ok (.iload 6, 2) := dk_21 6 (dk_at dksX9_thiefOf_6 3 rfl rfl)
theorem dX9_thiefOf_144 : decode cX9_thiefOf 144 = .ok (.ireturn, 1) := dk_172 (dk_at dksX9_thiefOf_6 5 rfl rfl)
abbrev cX9_hide : ByteArray := prog_35_method_102_code
def yX9_hide : MethodName := ⟨RX9, "hide", "(II)I"⟩
def dkwX9_hide_4 : List UInt8 := [21, 4, 161, 0, 6, 167, 0, 10, 21, 5, 62, 21, 6, 54, 4, 132, 5, 1, 167, 255, 176, 29, 172]
abbrev dktX9_hide_4 : List UInt8 := dkwX9_hide_4 ++ []
def dkwX9_hide_3 : List UInt8 := [21, 7, 27, 28, 182, 2, 79, 184, 2, 82, 54, 6, 132, 7, 1, 167, 255, 220, 29, 155, 0, 13, 21, 6]
abbrev dktX9_hide_3 : List UInt8 := dkwX9_hide_3 ++ dktX9_hide_4
def dkwX9_hide_2 : List UInt8 := [54, 7, 21, 7, 42, 180, 0, 13, 7, 46, 162, 0, 31, 21, 7, 21, 5, 159, 0, 18, 21, 6, 42]
abbrev dktX9_hide_2 : List UInt8 := dkwX9_hide_2 ++ dktX9_hide_3
def dkwX9_hide_1 : List UInt8 := [172, 2, 62, 3, 54, 4, 3, 54, 5, 21, 5, 42, 180, 0, 13, 7, 46, 162, 0, 75, 3, 54, 6, 3]
abbrev dktX9_hide_1 : List UInt8 := dkwX9_hide_1 ++ dktX9_hide_2
def dkwX9_hide_0 : List UInt8 := [42, 3, 181, 0, 212, 27, 28, 184, 2, 76, 153, 0, 13, 42, 180, 0, 13, 7, 46, 5, 162, 0, 5, 2]
abbrev dktX9_hide_0 : List UInt8 := dkwX9_hide_0 ++ dktX9_hide_1
theorem dksX9_hide_0 : cX9_hide.data.toList.drop 0 = dktX9_hide_0 := by decide +kernel
theorem dksX9_hide_1 : cX9_hide.data.toList.drop 24 = dktX9_hide_1 := dk_seg dksX9_hide_0 24 rfl rfl
theorem dksX9_hide_2 : cX9_hide.data.toList.drop 48 = dktX9_hide_2 := dk_seg dksX9_hide_1 24 rfl rfl
theorem dksX9_hide_3 : cX9_hide.data.toList.drop 71 = dktX9_hide_3 := dk_seg dksX9_hide_2 23 rfl rfl
theorem dksX9_hide_4 : cX9_hide.data.toList.drop 95 = dktX9_hide_4 := dk_seg dksX9_hide_3 24 rfl rfl
theorem dX9_hide_0 : decode cX9_hide 0 = .ok (.aload_n 0, 1) := dk_42 (dk_at dksX9_hide_0 0 rfl rfl)
theorem dX9_hide_1 : decode cX9_hide 1 = .ok (.iconst 0, 1) := dk_3 (dk_at dksX9_hide_0 1 rfl rfl)
theorem dX9_hide_2 : decode cX9_hide 2 = .ok (.putfield 212, 3) := dk_181 0 212 (dk_at dksX9_hide_0 2 rfl rfl)
theorem dX9_hide_5 : decode cX9_hide 5 = .ok (.iload_n 1, 1) := dk_27 (dk_at dksX9_hide_0 5 rfl rfl)
theorem dX9_hide_6 : decode cX9_hide 6 = .ok (.iload_n 2, 1) := dk_28 (dk_at dksX9_hide_0 6 rfl rfl)
theorem dX9_hide_7 : decode cX9_hide 7 = .ok (.invokestatic 588, 3) := dk_184 2 76 (dk_at dksX9_hide_0 7 rfl rfl)
theorem dX9_hide_10 : decode cX9_hide 10 = .ok (.ifCond .eq 13, 3) := dk_153 0 13 (dk_at dksX9_hide_0 10 rfl rfl)
theorem dX9_hide_13 : decode cX9_hide 13 = .ok (.aload_n 0, 1) := dk_42 (dk_at dksX9_hide_0 13 rfl rfl)
theorem dX9_hide_14 : decode cX9_hide 14 = .ok (.getfield 13, 3) := dk_180 0 13 (dk_at dksX9_hide_0 14 rfl rfl)
theorem dX9_hide_17 : decode cX9_hide 17 = .ok (.iconst 4, 1) := dk_7 (dk_at dksX9_hide_0 17 rfl rfl)
theorem dX9_hide_18 : decode cX9_hide 18 = .ok (.iaload, 1) := dk_46 (dk_at dksX9_hide_0 18 rfl rfl)
theorem dX9_hide_19 : decode cX9_hide 19 = .ok (.iconst 2, 1) := dk_5 (dk_at dksX9_hide_0 19 rfl rfl)
theorem dX9_hide_20 : decode cX9_hide 20 = .ok (.if_icmp .ge 5, 3) := dk_162 0 5 (dk_at dksX9_hide_0 20 rfl rfl)
theorem dX9_hide_23 : decode cX9_hide 23 = .ok (.iconst (-1), 1) := dk_2 (dk_at dksX9_hide_0 23 rfl rfl)
theorem dX9_hide_24 : decode cX9_hide 24 = .ok (.ireturn, 1) := dk_172 (dk_at dksX9_hide_1 0 rfl rfl)
theorem dX9_hide_25 : decode cX9_hide 25 = .ok (.iconst (-1), 1) := dk_2 (dk_at dksX9_hide_1 1 rfl rfl)
theorem dX9_hide_26 : decode cX9_hide 26 = .ok (.istore_n 3, 1) := dk_62 (dk_at dksX9_hide_1 2 rfl rfl)
theorem dX9_hide_27 : decode cX9_hide 27 = .ok (.iconst 0, 1) := dk_3 (dk_at dksX9_hide_1 3 rfl rfl)
theorem dX9_hide_28 : decode cX9_hide 28 = .ok (.istore 4, 2) := dk_54 4 (dk_at dksX9_hide_1 4 rfl rfl)
theorem dX9_hide_30 : decode cX9_hide 30 = .ok (.iconst 0, 1) := dk_3 (dk_at dksX9_hide_1 6 rfl rfl)
theorem dX9_hide_31 : decode cX9_hide 31 = .ok (.istore 5, 2) := dk_54 5 (dk_at dksX9_hide_1 7 rfl rfl)
theorem dX9_hide_33 : decode cX9_hide 33 = .ok (.iload 5, 2) := dk_21 5 (dk_at dksX9_hide_1 9 rfl rfl)
theorem dX9_hide_35 : decode cX9_hide 35 = .ok (.aload_n 0, 1) := dk_42 (dk_at dksX9_hide_1 11 rfl rfl)
theorem dX9_hide_36 : decode cX9_hide 36 = .ok (.getfield 13, 3) := dk_180 0 13 (dk_at dksX9_hide_1 12 rfl rfl)
theorem dX9_hide_39 : decode cX9_hide 39 = .ok (.iconst 4, 1) := dk_7 (dk_at dksX9_hide_1 15 rfl rfl)
theorem dX9_hide_40 : decode cX9_hide 40 = .ok (.iaload, 1) := dk_46 (dk_at dksX9_hide_1 16 rfl rfl)
theorem dX9_hide_41 : decode cX9_hide 41 = .ok (.if_icmp .ge 75, 3) := dk_162 0 75 (dk_at dksX9_hide_1 17 rfl rfl)
theorem dX9_hide_44 : decode cX9_hide 44 = .ok (.iconst 0, 1) := dk_3 (dk_at dksX9_hide_1 20 rfl rfl)
theorem dX9_hide_45 : decode cX9_hide 45 = .ok (.istore 6, 2) := dk_54 6 (dk_at dksX9_hide_1 21 rfl rfl)
theorem dX9_hide_47 : decode cX9_hide 47 = .ok (.iconst 0, 1) := dk_3 (dk_at dksX9_hide_1 23 rfl rfl)
theorem dX9_hide_48 : decode cX9_hide 48 = .ok (.istore 7, 2) := dk_54 7 (dk_at dksX9_hide_2 0 rfl rfl)
theorem dX9_hide_50 : decode cX9_hide 50 = .ok (.iload 7, 2) := dk_21 7 (dk_at dksX9_hide_2 2 rfl rfl)
theorem dX9_hide_52 : decode cX9_hide 52 = .ok (.aload_n 0, 1) := dk_42 (dk_at dksX9_hide_2 4 rfl rfl)
theorem dX9_hide_53 : decode cX9_hide 53 = .ok (.getfield 13, 3) := dk_180 0 13 (dk_at dksX9_hide_2 5 rfl rfl)
theorem dX9_hide_56 : decode cX9_hide 56 = .ok (.iconst 4, 1) := dk_7 (dk_at dksX9_hide_2 8 rfl rfl)
theorem dX9_hide_57 : decode cX9_hide 57 = .ok (.iaload, 1) := dk_46 (dk_at dksX9_hide_2 9 rfl rfl)
theorem dX9_hide_58 : decode cX9_hide 58 = .ok (.if_icmp .ge 31, 3) := dk_162 0 31 (dk_at dksX9_hide_2 10 rfl rfl)
theorem dX9_hide_61 : decode cX9_hide 61 = .ok (.iload 7, 2) := dk_21 7 (dk_at dksX9_hide_2 13 rfl rfl)
theorem dX9_hide_63 : decode cX9_hide 63 = .ok (.iload 5, 2) := dk_21 5 (dk_at dksX9_hide_2 15 rfl rfl)
theorem dX9_hide_65 : decode cX9_hide 65 = .ok (.if_icmp .eq 18, 3) := dk_159 0 18 (dk_at dksX9_hide_2 17 rfl rfl)
theorem dX9_hide_68 : decode cX9_hide 68 = .ok (.iload 6, 2) := dk_21 6 (dk_at dksX9_hide_2 20 rfl rfl)
theorem dX9_hide_70 : decode cX9_hide 70 = .ok (.aload_n 0, 1) := dk_42 (dk_at dksX9_hide_2 22 rfl rfl)
theorem dX9_hide_71 : decode cX9_hide 71 = .ok (.iload 7, 2) := dk_21 7 (dk_at dksX9_hide_3 0 rfl rfl)
theorem dX9_hide_73 : decode cX9_hide 73 = .ok (.iload_n 1, 1) := dk_27 (dk_at dksX9_hide_3 2 rfl rfl)
theorem dX9_hide_74 : decode cX9_hide 74 = .ok (.iload_n 2, 1) := dk_28 (dk_at dksX9_hide_3 3 rfl rfl)
theorem dX9_hide_75 : decode cX9_hide 75 = .ok (.invokevirtual 591, 3) := dk_182 2 79 (dk_at dksX9_hide_3 4 rfl rfl)
theorem dX9_hide_78 : decode cX9_hide 78 = .ok (.invokestatic 594, 3) := dk_184 2 82 (dk_at dksX9_hide_3 7 rfl rfl)
theorem dX9_hide_81 : decode cX9_hide 81 = .ok (.istore 6, 2) := dk_54 6 (dk_at dksX9_hide_3 10 rfl rfl)
theorem dX9_hide_83 : decode cX9_hide 83 = .ok (.iinc 7 1, 3) := dk_132 7 1 (dk_at dksX9_hide_3 12 rfl rfl)
theorem dX9_hide_86 : decode cX9_hide 86 = .ok (.goto (-36), 3) := dk_167 255 220 (dk_at dksX9_hide_3 15 rfl rfl)
theorem dX9_hide_89 : decode cX9_hide 89 = .ok (.iload_n 3, 1) := dk_29 (dk_at dksX9_hide_3 18 rfl rfl)
theorem dX9_hide_90 : decode cX9_hide 90 = .ok (.ifCond .lt 13, 3) := dk_155 0 13 (dk_at dksX9_hide_3 19 rfl rfl)
theorem dX9_hide_93 : decode cX9_hide 93 = .ok (.iload 6, 2) := dk_21 6 (dk_at dksX9_hide_3 22 rfl rfl)
theorem dX9_hide_95 : decode cX9_hide 95 = .ok (.iload 4, 2) := dk_21 4 (dk_at dksX9_hide_4 0 rfl rfl)
theorem dX9_hide_97 : decode cX9_hide 97 = .ok (.if_icmp .lt 6, 3) := dk_161 0 6 (dk_at dksX9_hide_4 2 rfl rfl)
theorem dX9_hide_100 : decode cX9_hide 100 = .ok (.goto 10, 3) := dk_167 0 10 (dk_at dksX9_hide_4 5 rfl rfl)
theorem dX9_hide_103 : decode cX9_hide 103 = .ok (.iload 5, 2) := dk_21 5 (dk_at dksX9_hide_4 8 rfl rfl)
theorem dX9_hide_105 : decode cX9_hide 105 = .ok (.istore_n 3, 1) := dk_62 (dk_at dksX9_hide_4 10 rfl rfl)
theorem dX9_hide_106 : decode cX9_hide 106 = .ok (.iload 6, 2) := dk_21 6 (dk_at dksX9_hide_4 11 rfl rfl)
theorem dX9_hide_108 : decode cX9_hide 108 = .ok (.istore 4, 2) := dk_54 4 (dk_at dksX9_hide_4 13 rfl rfl)
theorem dX9_hide_110 : decode cX9_hide 110 = .ok (.iinc 5 1, 3) := dk_132 5 1 (dk_at dksX9_hide_4 15 rfl rfl)
theorem dX9_hide_113 : decode cX9_hide 113 = .ok (.goto (-80), 3) := dk_167 255 176 (dk_at dksX9_hide_4 18 rfl rfl)
theorem dX9_hide_116 : decode cX9_hide 116 = .ok (.iload_n 3, 1) := dk_29 (dk_at dksX9_hide_4 21 rfl rfl)
theorem dX9_hide_117 : decode cX9_hide 117 = .ok (.ireturn, 1) := dk_172 (dk_at dksX9_hide_4 22 rfl rfl)
abbrev cX9_banns : ByteArray := prog_35_method_104_code
def yX9_banns : MethodName := ⟨RX9, "banns", "(III)I"⟩
def dkwX9_banns_3 : List UInt8 := [180, 2, 85, 167, 0, 11, 42, 180, 0, 209, 29, 4, 100, 46, 172]
abbrev dktX9_banns_3 : List UInt8 := dkwX9_banns_3 ++ []
def dkwX9_banns_2 : List UInt8 := [180, 0, 168, 3, 46, 42, 180, 0, 168, 4, 46, 3, 27, 28, 182, 2, 88, 29, 154, 0, 10, 42]
abbrev dktX9_banns_2 : List UInt8 := dkwX9_banns_2 ++ dktX9_banns_3
def dkwX9_banns_1 : List UInt8 := [42, 180, 0, 13, 8, 46, 184, 1, 95, 154, 0, 5, 2, 172, 42, 2, 181, 2, 85, 42, 3, 3, 42]
abbrev dktX9_banns_1 : List UInt8 := dkwX9_banns_1 ++ dktX9_banns_2
def dkwX9_banns_0 : List UInt8 := [42, 3, 181, 0, 212, 27, 28, 184, 2, 76, 153, 0, 26, 42, 180, 0, 13, 8, 46, 153, 0, 17, 29, 3]
abbrev dktX9_banns_0 : List UInt8 := dkwX9_banns_0 ++ dktX9_banns_1
theorem dksX9_banns_0 : cX9_banns.data.toList.drop 0 = dktX9_banns_0 := by decide +kernel
theorem dksX9_banns_1 : cX9_banns.data.toList.drop 24 = dktX9_banns_1 := dk_seg dksX9_banns_0 24 rfl rfl
theorem dksX9_banns_2 : cX9_banns.data.toList.drop 47 = dktX9_banns_2 := dk_seg dksX9_banns_1 23 rfl rfl
theorem dksX9_banns_3 : cX9_banns.data.toList.drop 69 = dktX9_banns_3 := dk_seg dksX9_banns_2 22 rfl rfl
theorem dX9_banns_0 : decode cX9_banns 0 = .ok (.aload_n 0, 1) := dk_42 (dk_at dksX9_banns_0 0 rfl rfl)
theorem dX9_banns_1 : decode cX9_banns 1 = .ok (.iconst 0, 1) := dk_3 (dk_at dksX9_banns_0 1 rfl rfl)
theorem dX9_banns_2 : decode cX9_banns 2 = .ok (.putfield 212, 3) := dk_181 0 212 (dk_at dksX9_banns_0 2 rfl rfl)
theorem dX9_banns_5 : decode cX9_banns 5 = .ok (.iload_n 1, 1) := dk_27 (dk_at dksX9_banns_0 5 rfl rfl)
theorem dX9_banns_6 : decode cX9_banns 6 = .ok (.iload_n 2, 1) := dk_28 (dk_at dksX9_banns_0 6 rfl rfl)
theorem dX9_banns_7 : decode cX9_banns 7 = .ok (.invokestatic 588, 3) := dk_184 2 76 (dk_at dksX9_banns_0 7 rfl rfl)
theorem dX9_banns_10 : decode cX9_banns 10 = .ok (.ifCond .eq 26, 3) := dk_153 0 26 (dk_at dksX9_banns_0 10 rfl rfl)
theorem dX9_banns_13 : decode cX9_banns 13 = .ok (.aload_n 0, 1) := dk_42 (dk_at dksX9_banns_0 13 rfl rfl)
theorem dX9_banns_14 : decode cX9_banns 14 = .ok (.getfield 13, 3) := dk_180 0 13 (dk_at dksX9_banns_0 14 rfl rfl)
theorem dX9_banns_17 : decode cX9_banns 17 = .ok (.iconst 5, 1) := dk_8 (dk_at dksX9_banns_0 17 rfl rfl)
theorem dX9_banns_18 : decode cX9_banns 18 = .ok (.iaload, 1) := dk_46 (dk_at dksX9_banns_0 18 rfl rfl)
theorem dX9_banns_19 : decode cX9_banns 19 = .ok (.ifCond .eq 17, 3) := dk_153 0 17 (dk_at dksX9_banns_0 19 rfl rfl)
theorem dX9_banns_22 : decode cX9_banns 22 = .ok (.iload_n 3, 1) := dk_29 (dk_at dksX9_banns_0 22 rfl rfl)
theorem dX9_banns_23 : decode cX9_banns 23 = .ok (.iconst 0, 1) := dk_3 (dk_at dksX9_banns_0 23 rfl rfl)
theorem dX9_banns_24 : decode cX9_banns 24 = .ok (.aload_n 0, 1) := dk_42 (dk_at dksX9_banns_1 0 rfl rfl)
theorem dX9_banns_25 : decode cX9_banns 25 = .ok (.getfield 13, 3) := dk_180 0 13 (dk_at dksX9_banns_1 1 rfl rfl)
theorem dX9_banns_28 : decode cX9_banns 28 = .ok (.iconst 5, 1) := dk_8 (dk_at dksX9_banns_1 4 rfl rfl)
theorem dX9_banns_29 : decode cX9_banns 29 = .ok (.iaload, 1) := dk_46 (dk_at dksX9_banns_1 5 rfl rfl)
theorem dX9_banns_30 : decode cX9_banns 30 = .ok (.invokestatic 351, 3) := dk_184 1 95 (dk_at dksX9_banns_1 6 rfl rfl)
theorem dX9_banns_33 : decode cX9_banns 33 = .ok (.ifCond .ne 5, 3) := dk_154 0 5 (dk_at dksX9_banns_1 9 rfl rfl)
theorem dX9_banns_36 : decode cX9_banns 36 = .ok (.iconst (-1), 1) := dk_2 (dk_at dksX9_banns_1 12 rfl rfl)
theorem dX9_banns_37 : decode cX9_banns 37 = .ok (.ireturn, 1) := dk_172 (dk_at dksX9_banns_1 13 rfl rfl)
theorem dX9_banns_38 : decode cX9_banns 38 = .ok (.aload_n 0, 1) := dk_42 (dk_at dksX9_banns_1 14 rfl rfl)
theorem dX9_banns_39 : decode cX9_banns 39 = .ok (.iconst (-1), 1) := dk_2 (dk_at dksX9_banns_1 15 rfl rfl)
theorem dX9_banns_40 : decode cX9_banns 40 = .ok (.putfield 597, 3) := dk_181 2 85 (dk_at dksX9_banns_1 16 rfl rfl)
theorem dX9_banns_43 : decode cX9_banns 43 = .ok (.aload_n 0, 1) := dk_42 (dk_at dksX9_banns_1 19 rfl rfl)
theorem dX9_banns_44 : decode cX9_banns 44 = .ok (.iconst 0, 1) := dk_3 (dk_at dksX9_banns_1 20 rfl rfl)
theorem dX9_banns_45 : decode cX9_banns 45 = .ok (.iconst 0, 1) := dk_3 (dk_at dksX9_banns_1 21 rfl rfl)
theorem dX9_banns_46 : decode cX9_banns 46 = .ok (.aload_n 0, 1) := dk_42 (dk_at dksX9_banns_1 22 rfl rfl)
theorem dX9_banns_47 : decode cX9_banns 47 = .ok (.getfield 168, 3) := dk_180 0 168 (dk_at dksX9_banns_2 0 rfl rfl)
theorem dX9_banns_50 : decode cX9_banns 50 = .ok (.iconst 0, 1) := dk_3 (dk_at dksX9_banns_2 3 rfl rfl)
theorem dX9_banns_51 : decode cX9_banns 51 = .ok (.iaload, 1) := dk_46 (dk_at dksX9_banns_2 4 rfl rfl)
theorem dX9_banns_52 : decode cX9_banns 52 = .ok (.aload_n 0, 1) := dk_42 (dk_at dksX9_banns_2 5 rfl rfl)
theorem dX9_banns_53 : decode cX9_banns 53 = .ok (.getfield 168, 3) := dk_180 0 168 (dk_at dksX9_banns_2 6 rfl rfl)
theorem dX9_banns_56 : decode cX9_banns 56 = .ok (.iconst 1, 1) := dk_4 (dk_at dksX9_banns_2 9 rfl rfl)
theorem dX9_banns_57 : decode cX9_banns 57 = .ok (.iaload, 1) := dk_46 (dk_at dksX9_banns_2 10 rfl rfl)
theorem dX9_banns_58 : decode cX9_banns 58 = .ok (.iconst 0, 1) := dk_3 (dk_at dksX9_banns_2 11 rfl rfl)
theorem dX9_banns_59 : decode cX9_banns 59 = .ok (.iload_n 1, 1) := dk_27 (dk_at dksX9_banns_2 12 rfl rfl)
theorem dX9_banns_60 : decode cX9_banns 60 = .ok (.iload_n 2, 1) := dk_28 (dk_at dksX9_banns_2 13 rfl rfl)
theorem dX9_banns_61 : decode cX9_banns 61 = .ok (.invokevirtual 600, 3) := dk_182 2 88 (dk_at dksX9_banns_2 14 rfl rfl)
theorem dX9_banns_64 : decode cX9_banns 64 = .ok (.iload_n 3, 1) := dk_29 (dk_at dksX9_banns_2 17 rfl rfl)
theorem dX9_banns_65 : decode cX9_banns 65 = .ok (.ifCond .ne 10, 3) := dk_154 0 10 (dk_at dksX9_banns_2 18 rfl rfl)
theorem dX9_banns_68 : decode cX9_banns 68 = .ok (.aload_n 0, 1) := dk_42 (dk_at dksX9_banns_2 21 rfl rfl)
theorem dX9_banns_69 : decode cX9_banns 69 = .ok (.getfield 597, 3) := dk_180 2 85 (dk_at dksX9_banns_3 0 rfl rfl)
theorem dX9_banns_72 : decode cX9_banns 72 = .ok (.goto 11, 3) := dk_167 0 11 (dk_at dksX9_banns_3 3 rfl rfl)
theorem dX9_banns_75 : decode cX9_banns 75 = .ok (.aload_n 0, 1) := dk_42 (dk_at dksX9_banns_3 6 rfl rfl)
theorem dX9_banns_76 : decode cX9_banns 76 = .ok (.getfield 209, 3) := dk_180 0 209 (dk_at dksX9_banns_3 7 rfl rfl)
theorem dX9_banns_79 : decode cX9_banns 79 = .ok (.iload_n 3, 1) := dk_29 (dk_at dksX9_banns_3 10 rfl rfl)
theorem dX9_banns_80 : decode cX9_banns 80 = .ok (.iconst 1, 1) := dk_4 (dk_at dksX9_banns_3 11 rfl rfl)
theorem dX9_banns_81 : decode cX9_banns 81 = .ok (.isub, 1) := dk_100 (dk_at dksX9_banns_3 12 rfl rfl)
theorem dX9_banns_82 : decode cX9_banns 82 = .ok (.iaload, 1) := dk_46 (dk_at dksX9_banns_3 13 rfl rfl)
theorem dX9_banns_83 : decode cX9_banns 83 = .ok (.ireturn, 1) := dk_172 (dk_at dksX9_banns_3 14 rfl rfl)
abbrev cX9_reads0 : ByteArray := prog_35_method_103_code
def yX9_reads0 : MethodName := ⟨RX9, "reads0", "(IIIIIII)V"⟩
def dkwX9_reads0_10 : List UInt8 := [182, 2, 88, 132, 8, 1, 167, 255, 87, 177]
abbrev dktX9_reads0_10 : List UInt8 := dkwX9_reads0_10 ++ []
def dkwX9_reads0_9 : List UInt8 := [167, 255, 162, 42, 27, 4, 96, 28, 4, 21, 8, 120, 128, 21, 9, 21, 10, 21, 11, 21, 6, 21, 7]
abbrev dktX9_reads0_9 : List UInt8 := dkwX9_reads0_9 ++ dktX9_reads0_10
def dkwX9_reads0_8 : List UInt8 := [21, 13, 42, 180, 0, 168, 5, 46, 16, 7, 27, 104, 96, 182, 2, 7, 96, 54, 11, 132, 12, 1]
abbrev dktX9_reads0_8 : List UInt8 := dkwX9_reads0_8 ++ dktX9_reads0_9
def dkwX9_reads0_7 : List UInt8 := [182, 2, 3, 54, 13, 21, 9, 21, 13, 2, 130, 126, 54, 9, 42, 180, 1, 252, 54, 10, 21, 11, 42]
abbrev dktX9_reads0_7 : List UInt8 := dkwX9_reads0_7 ++ dktX9_reads0_8
def dkwX9_reads0_6 : List UInt8 := [21, 8, 46, 21, 6, 21, 7, 182, 1, 255, 42, 21, 9, 21, 10, 42, 180, 1, 237, 42, 180, 1, 240]
abbrev dktX9_reads0_6 : List UInt8 := dkwX9_reads0_6 ++ dktX9_reads0_7
def dkwX9_reads0_5 : List UInt8 := [162, 0, 94, 42, 21, 12, 154, 0, 13, 42, 180, 0, 65, 21, 8, 46, 167, 0, 10, 42, 180, 0, 68]
abbrev dktX9_reads0_5 : List UInt8 := dkwX9_reads0_5 ++ dktX9_reads0_6
def dkwX9_reads0_4 : List UInt8 := [180, 0, 206, 27, 21, 8, 79, 29, 54, 9, 21, 4, 54, 10, 21, 5, 54, 11, 3, 54, 12, 21, 12, 5]
abbrev dktX9_reads0_4 : List UInt8 := dkwX9_reads0_4 ++ dktX9_reads0_5
def dkwX9_reads0_3 : List UInt8 := [180, 0, 13, 8, 46, 162, 0, 164, 28, 21, 8, 122, 4, 126, 4, 160, 0, 6, 167, 0, 145, 42]
abbrev dktX9_reads0_3 : List UInt8 := dkwX9_reads0_3 ++ dktX9_reads0_4
def dkwX9_reads0_2 : List UInt8 := [21, 8, 42, 180, 0, 206, 21, 8, 46, 79, 132, 8, 1, 167, 255, 233, 177, 3, 54, 8, 21, 8, 42]
abbrev dktX9_reads0_2 : List UInt8 := dkwX9_reads0_2 ++ dktX9_reads0_3
def dkwX9_reads0_1 : List UInt8 := [161, 0, 4, 177, 42, 21, 5, 181, 2, 85, 3, 54, 8, 21, 8, 7, 162, 0, 23, 42, 180, 0, 209]
abbrev dktX9_reads0_1 : List UInt8 := dkwX9_reads0_1 ++ dktX9_reads0_2
def dkwX9_reads0_0 : List UInt8 := [27, 42, 180, 0, 13, 8, 46, 160, 0, 56, 42, 180, 2, 85, 155, 0, 13, 21, 5, 42, 180, 2, 85]
abbrev dktX9_reads0_0 : List UInt8 := dkwX9_reads0_0 ++ dktX9_reads0_1
theorem dksX9_reads0_0 : cX9_reads0.data.toList.drop 0 = dktX9_reads0_0 := by decide +kernel
theorem dksX9_reads0_1 : cX9_reads0.data.toList.drop 23 = dktX9_reads0_1 := dk_seg dksX9_reads0_0 23 rfl rfl
theorem dksX9_reads0_2 : cX9_reads0.data.toList.drop 46 = dktX9_reads0_2 := dk_seg dksX9_reads0_1 23 rfl rfl
theorem dksX9_reads0_3 : cX9_reads0.data.toList.drop 69 = dktX9_reads0_3 := dk_seg dksX9_reads0_2 23 rfl rfl
theorem dksX9_reads0_4 : cX9_reads0.data.toList.drop 91 = dktX9_reads0_4 := dk_seg dksX9_reads0_3 22 rfl rfl
theorem dksX9_reads0_5 : cX9_reads0.data.toList.drop 115 = dktX9_reads0_5 := dk_seg dksX9_reads0_4 24 rfl rfl
theorem dksX9_reads0_6 : cX9_reads0.data.toList.drop 138 = dktX9_reads0_6 := dk_seg dksX9_reads0_5 23 rfl rfl
theorem dksX9_reads0_7 : cX9_reads0.data.toList.drop 161 = dktX9_reads0_7 := dk_seg dksX9_reads0_6 23 rfl rfl
theorem dksX9_reads0_8 : cX9_reads0.data.toList.drop 184 = dktX9_reads0_8 := dk_seg dksX9_reads0_7 23 rfl rfl
theorem dksX9_reads0_9 : cX9_reads0.data.toList.drop 206 = dktX9_reads0_9 := dk_seg dksX9_reads0_8 22 rfl rfl
theorem dksX9_reads0_10 : cX9_reads0.data.toList.drop 229 = dktX9_reads0_10 := dk_seg dksX9_reads0_9 23 rfl rfl
theorem dX9_reads0_0 : decode cX9_reads0 0 = .ok (.iload_n 1, 1) := dk_27 (dk_at dksX9_reads0_0 0 rfl rfl)
theorem dX9_reads0_1 : decode cX9_reads0 1 = .ok (.aload_n 0, 1) := dk_42 (dk_at dksX9_reads0_0 1 rfl rfl)
theorem dX9_reads0_2 : decode cX9_reads0 2 = .ok (.getfield 13, 3) := dk_180 0 13 (dk_at dksX9_reads0_0 2 rfl rfl)
theorem dX9_reads0_5 : decode cX9_reads0 5 = .ok (.iconst 5, 1) := dk_8 (dk_at dksX9_reads0_0 5 rfl rfl)
theorem dX9_reads0_6 : decode cX9_reads0 6 = .ok (.iaload, 1) := dk_46 (dk_at dksX9_reads0_0 6 rfl rfl)
theorem dX9_reads0_7 : decode cX9_reads0 7 = .ok (.if_icmp .ne 56, 3) := dk_160 0 56 (dk_at dksX9_reads0_0 7 rfl rfl)
theorem dX9_reads0_10 : decode cX9_reads0 10 = .ok (.aload_n 0, 1) := dk_42 (dk_at dksX9_reads0_0 10 rfl rfl)
theorem dX9_reads0_11 : decode cX9_reads0 11 = .ok (.getfield 597, 3) := dk_180 2 85 (dk_at dksX9_reads0_0 11 rfl rfl)
theorem dX9_reads0_14 : decode cX9_reads0 14 = .ok (.ifCond .lt 13, 3) := dk_155 0 13 (dk_at dksX9_reads0_0 14 rfl rfl)
theorem dX9_reads0_17 : decode cX9_reads0 17 = .ok (.iload 5, 2) := dk_21 5 (dk_at dksX9_reads0_0 17 rfl rfl)
theorem dX9_reads0_19 : decode cX9_reads0 19 = .ok (.aload_n 0, 1) := dk_42 (dk_at dksX9_reads0_0 19 rfl rfl)
theorem dX9_reads0_20 : decode cX9_reads0 20 = .ok (.getfield 597, 3) := dk_180 2 85 (dk_at dksX9_reads0_0 20 rfl rfl)
theorem dX9_reads0_23 : decode cX9_reads0 23 = .ok (.if_icmp .lt 4, 3) := dk_161 0 4 (dk_at dksX9_reads0_1 0 rfl rfl)
theorem dX9_reads0_26 : decode cX9_reads0 26 = .ok (.return_, 1) := dk_177 (dk_at dksX9_reads0_1 3 rfl rfl)
theorem dX9_reads0_27 : decode cX9_reads0 27 = .ok (.aload_n 0, 1) := dk_42 (dk_at dksX9_reads0_1 4 rfl rfl)
theorem dX9_reads0_28 : decode cX9_reads0 28 = .ok (.iload 5, 2) := dk_21 5 (dk_at dksX9_reads0_1 5 rfl rfl)
theorem dX9_reads0_30 : decode cX9_reads0 30 = .ok (.putfield 597, 3) := dk_181 2 85 (dk_at dksX9_reads0_1 7 rfl rfl)
theorem dX9_reads0_33 : decode cX9_reads0 33 = .ok (.iconst 0, 1) := dk_3 (dk_at dksX9_reads0_1 10 rfl rfl)
theorem dX9_reads0_34 : decode cX9_reads0 34 = .ok (.istore 8, 2) := dk_54 8 (dk_at dksX9_reads0_1 11 rfl rfl)
theorem dX9_reads0_36 : decode cX9_reads0 36 = .ok (.iload 8, 2) := dk_21 8 (dk_at dksX9_reads0_1 13 rfl rfl)
theorem dX9_reads0_38 : decode cX9_reads0 38 = .ok (.iconst 4, 1) := dk_7 (dk_at dksX9_reads0_1 15 rfl rfl)
theorem dX9_reads0_39 : decode cX9_reads0 39 = .ok (.if_icmp .ge 23, 3) := dk_162 0 23 (dk_at dksX9_reads0_1 16 rfl rfl)
theorem dX9_reads0_42 : decode cX9_reads0 42 = .ok (.aload_n 0, 1) := dk_42 (dk_at dksX9_reads0_1 19 rfl rfl)
theorem dX9_reads0_43 : decode cX9_reads0 43 = .ok (.getfield 209, 3) := dk_180 0 209 (dk_at dksX9_reads0_1 20 rfl rfl)
theorem dX9_reads0_46 : decode cX9_reads0 46 = .ok (.iload 8, 2) := dk_21 8 (dk_at dksX9_reads0_2 0 rfl rfl)
theorem dX9_reads0_48 : decode cX9_reads0 48 = .ok (.aload_n 0, 1) := dk_42 (dk_at dksX9_reads0_2 2 rfl rfl)
theorem dX9_reads0_49 : decode cX9_reads0 49 = .ok (.getfield 206, 3) := dk_180 0 206 (dk_at dksX9_reads0_2 3 rfl rfl)
theorem dX9_reads0_52 : decode cX9_reads0 52 = .ok (.iload 8, 2) := dk_21 8 (dk_at dksX9_reads0_2 6 rfl rfl)
theorem dX9_reads0_54 : decode cX9_reads0 54 = .ok (.iaload, 1) := dk_46 (dk_at dksX9_reads0_2 8 rfl rfl)
theorem dX9_reads0_55 : decode cX9_reads0 55 = .ok (.iastore, 1) := dk_79 (dk_at dksX9_reads0_2 9 rfl rfl)
theorem dX9_reads0_56 : decode cX9_reads0 56 = .ok (.iinc 8 1, 3) := dk_132 8 1 (dk_at dksX9_reads0_2 10 rfl rfl)
theorem dX9_reads0_59 : decode cX9_reads0 59 = .ok (.goto (-23), 3) := dk_167 255 233 (dk_at dksX9_reads0_2 13 rfl rfl)
theorem dX9_reads0_62 : decode cX9_reads0 62 = .ok (.return_, 1) := dk_177 (dk_at dksX9_reads0_2 16 rfl rfl)
theorem dX9_reads0_63 : decode cX9_reads0 63 = .ok (.iconst 0, 1) := dk_3 (dk_at dksX9_reads0_2 17 rfl rfl)
theorem dX9_reads0_64 : decode cX9_reads0 64 = .ok (.istore 8, 2) := dk_54 8 (dk_at dksX9_reads0_2 18 rfl rfl)
theorem dX9_reads0_66 : decode cX9_reads0 66 = .ok (.iload 8, 2) := dk_21 8 (dk_at dksX9_reads0_2 20 rfl rfl)
theorem dX9_reads0_68 : decode cX9_reads0 68 = .ok (.aload_n 0, 1) := dk_42 (dk_at dksX9_reads0_2 22 rfl rfl)
theorem dX9_reads0_69 : decode cX9_reads0 69 = .ok (.getfield 13, 3) := dk_180 0 13 (dk_at dksX9_reads0_3 0 rfl rfl)
theorem dX9_reads0_72 : decode cX9_reads0 72 = .ok (.iconst 5, 1) := dk_8 (dk_at dksX9_reads0_3 3 rfl rfl)
theorem dX9_reads0_73 : decode cX9_reads0 73 = .ok (.iaload, 1) := dk_46 (dk_at dksX9_reads0_3 4 rfl rfl)
theorem dX9_reads0_74 : decode cX9_reads0 74 = .ok (.if_icmp .ge 164, 3) := dk_162 0 164 (dk_at dksX9_reads0_3 5 rfl rfl)
theorem dX9_reads0_77 : decode cX9_reads0 77 = .ok (.iload_n 2, 1) := dk_28 (dk_at dksX9_reads0_3 8 rfl rfl)
theorem dX9_reads0_78 : decode cX9_reads0 78 = .ok (.iload 8, 2) := dk_21 8 (dk_at dksX9_reads0_3 9 rfl rfl)
theorem dX9_reads0_80 : decode cX9_reads0 80 = .ok (.ishr, 1) := dk_122 (dk_at dksX9_reads0_3 11 rfl rfl)
theorem dX9_reads0_81 : decode cX9_reads0 81 = .ok (.iconst 1, 1) := dk_4 (dk_at dksX9_reads0_3 12 rfl rfl)
theorem dX9_reads0_82 : decode cX9_reads0 82 = .ok (.iand, 1) := dk_126 (dk_at dksX9_reads0_3 13 rfl rfl)
theorem dX9_reads0_83 : decode cX9_reads0 83 = .ok (.iconst 1, 1) := dk_4 (dk_at dksX9_reads0_3 14 rfl rfl)
theorem dX9_reads0_84 : decode cX9_reads0 84 = .ok (.if_icmp .ne 6, 3) := dk_160 0 6 (dk_at dksX9_reads0_3 15 rfl rfl)
theorem dX9_reads0_87 : decode cX9_reads0 87 = .ok (.goto 145, 3) := dk_167 0 145 (dk_at dksX9_reads0_3 18 rfl rfl)
theorem dX9_reads0_90 : decode cX9_reads0 90 = .ok (.aload_n 0, 1) := dk_42 (dk_at dksX9_reads0_3 21 rfl rfl)
theorem dX9_reads0_91 : decode cX9_reads0 91 = .ok (.getfield 206, 3) := dk_180 0 206 (dk_at dksX9_reads0_4 0 rfl rfl)
theorem dX9_reads0_94 : decode cX9_reads0 94 = .ok (.iload_n 1, 1) := dk_27 (dk_at dksX9_reads0_4 3 rfl rfl)
theorem dX9_reads0_95 : decode cX9_reads0 95 = .ok (.iload 8, 2) := dk_21 8 (dk_at dksX9_reads0_4 4 rfl rfl)
theorem dX9_reads0_97 : decode cX9_reads0 97 = .ok (.iastore, 1) := dk_79 (dk_at dksX9_reads0_4 6 rfl rfl)
theorem dX9_reads0_98 : decode cX9_reads0 98 = .ok (.iload_n 3, 1) := dk_29 (dk_at dksX9_reads0_4 7 rfl rfl)
theorem dX9_reads0_99 : decode cX9_reads0 99 = .ok (.istore 9, 2) := dk_54 9 (dk_at dksX9_reads0_4 8 rfl rfl)
theorem dX9_reads0_101 : decode cX9_reads0 101 = .ok (.iload 4, 2) := dk_21 4 (dk_at dksX9_reads0_4 10 rfl rfl)
theorem dX9_reads0_103 : decode cX9_reads0 103 = .ok (.istore 10, 2) := dk_54 10 (dk_at dksX9_reads0_4 12 rfl rfl)
theorem dX9_reads0_105 : decode cX9_reads0 105 = .ok (.iload 5, 2) := dk_21 5 (dk_at dksX9_reads0_4 14 rfl rfl)
theorem dX9_reads0_107 : decode cX9_reads0 107 = .ok (.istore 11, 2) := dk_54 11 (dk_at dksX9_reads0_4 16 rfl rfl)
theorem dX9_reads0_109 : decode cX9_reads0 109 = .ok (.iconst 0, 1) := dk_3 (dk_at dksX9_reads0_4 18 rfl rfl)
theorem dX9_reads0_110 : decode cX9_reads0 110 = .ok (.istore 12, 2) := dk_54 12 (dk_at dksX9_reads0_4 19 rfl rfl)
theorem dX9_reads0_112 : decode cX9_reads0 112 = .ok (.iload 12, 2) := dk_21 12 (dk_at dksX9_reads0_4 21 rfl rfl)
theorem dX9_reads0_114 : decode cX9_reads0 114 = .ok (.iconst 2, 1) := dk_5 (dk_at dksX9_reads0_4 23 rfl rfl)
theorem dX9_reads0_115 : decode cX9_reads0 115 = .ok (.if_icmp .ge 94, 3) := dk_162 0 94 (dk_at dksX9_reads0_5 0 rfl rfl)
theorem dX9_reads0_118 : decode cX9_reads0 118 = .ok (.aload_n 0, 1) := dk_42 (dk_at dksX9_reads0_5 3 rfl rfl)
theorem dX9_reads0_119 : decode cX9_reads0 119 = .ok (.iload 12, 2) := dk_21 12 (dk_at dksX9_reads0_5 4 rfl rfl)
theorem dX9_reads0_121 : decode cX9_reads0 121 = .ok (.ifCond .ne 13, 3) := dk_154 0 13 (dk_at dksX9_reads0_5 6 rfl rfl)
theorem dX9_reads0_124 : decode cX9_reads0 124 = .ok (.aload_n 0, 1) := dk_42 (dk_at dksX9_reads0_5 9 rfl rfl)
theorem dX9_reads0_125 : decode cX9_reads0 125 = .ok (.getfield 65, 3) := dk_180 0 65 (dk_at dksX9_reads0_5 10 rfl rfl)
theorem dX9_reads0_128 : decode cX9_reads0 128 = .ok (.iload 8, 2) := dk_21 8 (dk_at dksX9_reads0_5 13 rfl rfl)
theorem dX9_reads0_130 : decode cX9_reads0 130 = .ok (.iaload, 1) := dk_46 (dk_at dksX9_reads0_5 15 rfl rfl)
theorem dX9_reads0_131 : decode cX9_reads0 131 = .ok (.goto 10, 3) := dk_167 0 10 (dk_at dksX9_reads0_5 16 rfl rfl)
theorem dX9_reads0_134 : decode cX9_reads0 134 = .ok (.aload_n 0, 1) := dk_42 (dk_at dksX9_reads0_5 19 rfl rfl)
theorem dX9_reads0_135 : decode cX9_reads0 135 = .ok (.getfield 68, 3) := dk_180 0 68 (dk_at dksX9_reads0_5 20 rfl rfl)
theorem dX9_reads0_138 : decode cX9_reads0 138 = .ok (.iload 8, 2) := dk_21 8 (dk_at dksX9_reads0_6 0 rfl rfl)
theorem dX9_reads0_140 : decode cX9_reads0 140 = .ok (.iaload, 1) := dk_46 (dk_at dksX9_reads0_6 2 rfl rfl)
theorem dX9_reads0_141 : decode cX9_reads0 141 = .ok (.iload 6, 2) := dk_21 6 (dk_at dksX9_reads0_6 3 rfl rfl)
theorem dX9_reads0_143 : decode cX9_reads0 143 = .ok (.iload 7, 2) := dk_21 7 (dk_at dksX9_reads0_6 5 rfl rfl)
theorem dX9_reads0_145 : decode cX9_reads0 145 = .ok (.invokevirtual 511, 3) := dk_182 1 255 (dk_at dksX9_reads0_6 7 rfl rfl)
theorem dX9_reads0_148 : decode cX9_reads0 148 = .ok (.aload_n 0, 1) := dk_42 (dk_at dksX9_reads0_6 10 rfl rfl)
theorem dX9_reads0_149 : decode cX9_reads0 149 = .ok (.iload 9, 2) := dk_21 9 (dk_at dksX9_reads0_6 11 rfl rfl)
theorem dX9_reads0_151 : decode cX9_reads0 151 = .ok (.iload 10, 2) := dk_21 10 (dk_at dksX9_reads0_6 13 rfl rfl)
theorem dX9_reads0_153 : decode cX9_reads0 153 = .ok (.aload_n 0, 1) := dk_42 (dk_at dksX9_reads0_6 15 rfl rfl)
theorem dX9_reads0_154 : decode cX9_reads0 154 = .ok (.getfield 493, 3) := dk_180 1 237 (dk_at dksX9_reads0_6 16 rfl rfl)
theorem dX9_reads0_157 : decode cX9_reads0 157 = .ok (.aload_n 0, 1) := dk_42 (dk_at dksX9_reads0_6 19 rfl rfl)
theorem dX9_reads0_158 : decode cX9_reads0 158 = .ok (.getfield 496, 3) := dk_180 1 240 (dk_at dksX9_reads0_6 20 rfl rfl)
theorem dX9_reads0_161 : decode cX9_reads0 161 = .ok (.invokevirtual 515, 3) := dk_182 2 3 (dk_at dksX9_reads0_7 0 rfl rfl)
theorem dX9_reads0_164 : decode cX9_reads0 164 = .ok (.istore 13, 2) := dk_54 13 (dk_at dksX9_reads0_7 3 rfl rfl)
theorem dX9_reads0_166 : decode cX9_reads0 166 = .ok (.iload 9, 2) := dk_21 9 (dk_at dksX9_reads0_7 5 rfl rfl)
theorem dX9_reads0_168 : decode cX9_reads0 168 = .ok (.iload 13, 2) := dk_21 13 (dk_at dksX9_reads0_7 7 rfl rfl)
theorem dX9_reads0_170 : decode cX9_reads0 170 = .ok (.iconst (-1), 1) := dk_2 (dk_at dksX9_reads0_7 9 rfl rfl)
theorem dX9_reads0_171 : decode cX9_reads0 171 = .ok (.ixor, 1) := dk_130 (dk_at dksX9_reads0_7 10 rfl rfl)
theorem dX9_reads0_172 : decode cX9_reads0 172 = .ok (.iand, 1) := dk_126 (dk_at dksX9_reads0_7 11 rfl rfl)
theorem dX9_reads0_173 : decode cX9_reads0 173 = .ok (.istore 9, 2) := dk_54 9 (dk_at dksX9_reads0_7 12 rfl rfl)
theorem dX9_reads0_175 : decode cX9_reads0 175 = .ok (.aload_n 0, 1) := dk_42 (dk_at dksX9_reads0_7 14 rfl rfl)
theorem dX9_reads0_176 : decode cX9_reads0 176 = .ok (.getfield 508, 3) := dk_180 1 252 (dk_at dksX9_reads0_7 15 rfl rfl)
theorem dX9_reads0_179 : decode cX9_reads0 179 = .ok (.istore 10, 2) := dk_54 10 (dk_at dksX9_reads0_7 18 rfl rfl)
theorem dX9_reads0_181 : decode cX9_reads0 181 = .ok (.iload 11, 2) := dk_21 11 (dk_at dksX9_reads0_7 20 rfl rfl)
theorem dX9_reads0_183 : decode cX9_reads0 183 = .ok (.aload_n 0, 1) := dk_42 (dk_at dksX9_reads0_7 22 rfl rfl)
theorem dX9_reads0_184 : decode cX9_reads0 184 = .ok (.iload 13, 2) := dk_21 13 (dk_at dksX9_reads0_8 0 rfl rfl)
theorem dX9_reads0_186 : decode cX9_reads0 186 = .ok (.aload_n 0, 1) := dk_42 (dk_at dksX9_reads0_8 2 rfl rfl)
theorem dX9_reads0_187 : decode cX9_reads0 187 = .ok (.getfield 168, 3) := dk_180 0 168 (dk_at dksX9_reads0_8 3 rfl rfl)
theorem dX9_reads0_190 : decode cX9_reads0 190 = .ok (.iconst 2, 1) := dk_5 (dk_at dksX9_reads0_8 6 rfl rfl)
theorem dX9_reads0_191 : decode cX9_reads0 191 = .ok (.iaload, 1) := dk_46 (dk_at dksX9_reads0_8 7 rfl rfl)
theorem dX9_reads0_192 : decode cX9_reads0 192 = .ok (.bipush 7, 2) := dk_16 7 (dk_at dksX9_reads0_8 8 rfl rfl)
theorem dX9_reads0_194 : decode cX9_reads0 194 = .ok (.iload_n 1, 1) := dk_27 (dk_at dksX9_reads0_8 10 rfl rfl)
theorem dX9_reads0_195 : decode cX9_reads0 195 = .ok (.imul, 1) := dk_104 (dk_at dksX9_reads0_8 11 rfl rfl)
theorem dX9_reads0_196 : decode cX9_reads0 196 = .ok (.iadd, 1) := dk_96 (dk_at dksX9_reads0_8 12 rfl rfl)
theorem dX9_reads0_197 : decode cX9_reads0 197 = .ok (.invokevirtual 519, 3) := dk_182 2 7 (dk_at dksX9_reads0_8 13 rfl rfl)
theorem dX9_reads0_200 : decode cX9_reads0 200 = .ok (.iadd, 1) := dk_96 (dk_at dksX9_reads0_8 16 rfl rfl)
theorem dX9_reads0_201 : decode cX9_reads0 201 = .ok (.istore 11, 2) := dk_54 11 (dk_at dksX9_reads0_8 17 rfl rfl)
theorem dX9_reads0_203 : decode cX9_reads0 203 = .ok (.iinc 12 1, 3) := dk_132 12 1 (dk_at dksX9_reads0_8 19 rfl rfl)
theorem dX9_reads0_206 : decode cX9_reads0 206 = .ok (.goto (-94), 3) := dk_167 255 162 (dk_at dksX9_reads0_9 0 rfl rfl)
theorem dX9_reads0_209 : decode cX9_reads0 209 = .ok (.aload_n 0, 1) := dk_42 (dk_at dksX9_reads0_9 3 rfl rfl)
theorem dX9_reads0_210 : decode cX9_reads0 210 = .ok (.iload_n 1, 1) := dk_27 (dk_at dksX9_reads0_9 4 rfl rfl)
theorem dX9_reads0_211 : decode cX9_reads0 211 = .ok (.iconst 1, 1) := dk_4 (dk_at dksX9_reads0_9 5 rfl rfl)
theorem dX9_reads0_212 : decode cX9_reads0 212 = .ok (.iadd, 1) := dk_96 (dk_at dksX9_reads0_9 6 rfl rfl)
theorem dX9_reads0_213 : decode cX9_reads0 213 = .ok (.iload_n 2, 1) := dk_28 (dk_at dksX9_reads0_9 7 rfl rfl)
theorem dX9_reads0_214 : decode cX9_reads0 214 = .ok (.iconst 1, 1) := dk_4 (dk_at dksX9_reads0_9 8 rfl rfl)
theorem dX9_reads0_215 : decode cX9_reads0 215 = .ok (.iload 8, 2) := dk_21 8 (dk_at dksX9_reads0_9 9 rfl rfl)
theorem dX9_reads0_217 : decode cX9_reads0 217 = .ok (.ishl, 1) := dk_120 (dk_at dksX9_reads0_9 11 rfl rfl)
theorem dX9_reads0_218 : decode cX9_reads0 218 = .ok (.ior, 1) := dk_128 (dk_at dksX9_reads0_9 12 rfl rfl)
theorem dX9_reads0_219 : decode cX9_reads0 219 = .ok (.iload 9, 2) := dk_21 9 (dk_at dksX9_reads0_9 13 rfl rfl)
theorem dX9_reads0_221 : decode cX9_reads0 221 = .ok (.iload 10, 2) := dk_21 10 (dk_at dksX9_reads0_9 15 rfl rfl)
theorem dX9_reads0_223 : decode cX9_reads0 223 = .ok (.iload 11, 2) := dk_21 11 (dk_at dksX9_reads0_9 17 rfl rfl)
theorem dX9_reads0_225 : decode cX9_reads0 225 = .ok (.iload 6, 2) := dk_21 6 (dk_at dksX9_reads0_9 19 rfl rfl)
theorem dX9_reads0_227 : decode cX9_reads0 227 = .ok (.iload 7, 2) := dk_21 7 (dk_at dksX9_reads0_9 21 rfl rfl)
theorem dX9_reads0_229 : decode cX9_reads0 229 = .ok (.invokevirtual 600, 3) := dk_182 2 88 (dk_at dksX9_reads0_10 0 rfl rfl)
theorem dX9_reads0_232 : decode cX9_reads0 232 = .ok (.iinc 8 1, 3) := dk_132 8 1 (dk_at dksX9_reads0_10 3 rfl rfl)
theorem dX9_reads0_235 : decode cX9_reads0 235 = .ok (.goto (-169), 3) := dk_167 255 87 (dk_at dksX9_reads0_10 6 rfl rfl)
theorem dX9_reads0_238 : decode cX9_reads0 238 = .ok (.return_, 1) := dk_177 (dk_at dksX9_reads0_10 9 rfl rfl)
abbrev cX9_years : ByteArray := prog_35_method_107_code
def yX9_years : MethodName := ⟨RX9, "years", "(III)I"⟩
def dkwX9_years_5 : List UInt8 := [46, 184, 2, 109, 54, 5, 42, 180, 0, 171, 3, 42, 180, 0, 168, 3, 184, 2, 10, 21, 5, 172]
abbrev dktX9_years_5 : List UInt8 := dkwX9_years_5 ++ []
def dkwX9_years_4 : List UInt8 := [180, 0, 171, 7, 46, 100, 167, 0, 22, 29, 4, 160, 0, 8, 21, 4, 167, 0, 12, 42, 180, 0, 168, 3]
abbrev dktX9_years_4 : List UInt8 := dkwX9_years_4 ++ dktX9_years_5
def dkwX9_years_3 : List UInt8 := [182, 2, 106, 96, 54, 4, 132, 5, 1, 167, 255, 238, 29, 154, 0, 19, 42, 180, 0, 168, 7, 46, 42]
abbrev dktX9_years_3 : List UInt8 := dkwX9_years_3 ++ dktX9_years_4
def dkwX9_years_2 : List UInt8 := [3, 42, 180, 0, 171, 3, 184, 2, 10, 3, 54, 4, 3, 54, 5, 21, 5, 28, 162, 0, 18, 21, 4, 42]
abbrev dktX9_years_2 : List UInt8 := dkwX9_years_2 ++ dktX9_years_3
def dkwX9_years_1 : List UInt8 := [153, 0, 12, 29, 3, 5, 184, 1, 95, 154, 0, 5, 2, 172, 42, 27, 133, 181, 2, 92, 42, 180, 0, 168]
abbrev dktX9_years_1 : List UInt8 := dkwX9_years_1 ++ dktX9_years_2
def dkwX9_years_0 : List UInt8 := [42, 3, 181, 0, 212, 27, 3, 17, 39, 15, 184, 1, 95, 153, 0, 22, 28, 4, 16, 60, 184, 1, 95]
abbrev dktX9_years_0 : List UInt8 := dkwX9_years_0 ++ dktX9_years_1
theorem dksX9_years_0 : cX9_years.data.toList.drop 0 = dktX9_years_0 := by decide +kernel
theorem dksX9_years_1 : cX9_years.data.toList.drop 23 = dktX9_years_1 := dk_seg dksX9_years_0 23 rfl rfl
theorem dksX9_years_2 : cX9_years.data.toList.drop 47 = dktX9_years_2 := dk_seg dksX9_years_1 24 rfl rfl
theorem dksX9_years_3 : cX9_years.data.toList.drop 71 = dktX9_years_3 := dk_seg dksX9_years_2 24 rfl rfl
theorem dksX9_years_4 : cX9_years.data.toList.drop 94 = dktX9_years_4 := dk_seg dksX9_years_3 23 rfl rfl
theorem dksX9_years_5 : cX9_years.data.toList.drop 118 = dktX9_years_5 := dk_seg dksX9_years_4 24 rfl rfl
theorem dX9_years_0 : decode cX9_years 0 = .ok (.aload_n 0, 1) := dk_42 (dk_at dksX9_years_0 0 rfl rfl)
theorem dX9_years_1 : decode cX9_years 1 = .ok (.iconst 0, 1) := dk_3 (dk_at dksX9_years_0 1 rfl rfl)
theorem dX9_years_2 : decode cX9_years 2 = .ok (.putfield 212, 3) := dk_181 0 212 (dk_at dksX9_years_0 2 rfl rfl)
theorem dX9_years_5 : decode cX9_years 5 = .ok (.iload_n 1, 1) := dk_27 (dk_at dksX9_years_0 5 rfl rfl)
theorem dX9_years_6 : decode cX9_years 6 = .ok (.iconst 0, 1) := dk_3 (dk_at dksX9_years_0 6 rfl rfl)
theorem dX9_years_7 : decode cX9_years 7 = .ok (.sipush 9999, 3) := dk_17 39 15 (dk_at dksX9_years_0 7 rfl rfl)
theorem dX9_years_10 : decode cX9_years 10 = .ok (.invokestatic 351, 3) := dk_184 1 95 (dk_at dksX9_years_0 10 rfl rfl)
theorem dX9_years_13 : decode cX9_years 13 = .ok (.ifCond .eq 22, 3) := dk_153 0 22 (dk_at dksX9_years_0 13 rfl rfl)
theorem dX9_years_16 : decode cX9_years 16 = .ok (.iload_n 2, 1) := dk_28 (dk_at dksX9_years_0 16 rfl rfl)
theorem dX9_years_17 : decode cX9_years 17 = .ok (.iconst 1, 1) := dk_4 (dk_at dksX9_years_0 17 rfl rfl)
theorem dX9_years_18 : decode cX9_years 18 = .ok (.bipush 60, 2) := dk_16 60 (dk_at dksX9_years_0 18 rfl rfl)
theorem dX9_years_20 : decode cX9_years 20 = .ok (.invokestatic 351, 3) := dk_184 1 95 (dk_at dksX9_years_0 20 rfl rfl)
theorem dX9_years_23 : decode cX9_years 23 = .ok (.ifCond .eq 12, 3) := dk_153 0 12 (dk_at dksX9_years_1 0 rfl rfl)
theorem dX9_years_26 : decode cX9_years 26 = .ok (.iload_n 3, 1) := dk_29 (dk_at dksX9_years_1 3 rfl rfl)
theorem dX9_years_27 : decode cX9_years 27 = .ok (.iconst 0, 1) := dk_3 (dk_at dksX9_years_1 4 rfl rfl)
theorem dX9_years_28 : decode cX9_years 28 = .ok (.iconst 2, 1) := dk_5 (dk_at dksX9_years_1 5 rfl rfl)
theorem dX9_years_29 : decode cX9_years 29 = .ok (.invokestatic 351, 3) := dk_184 1 95 (dk_at dksX9_years_1 6 rfl rfl)
theorem dX9_years_32 : decode cX9_years 32 = .ok (.ifCond .ne 5, 3) := dk_154 0 5 (dk_at dksX9_years_1 9 rfl rfl)
theorem dX9_years_35 : decode cX9_years 35 = .ok (.iconst (-1), 1) := dk_2 (dk_at dksX9_years_1 12 rfl rfl)
theorem dX9_years_36 : decode cX9_years 36 = .ok (.ireturn, 1) := dk_172 (dk_at dksX9_years_1 13 rfl rfl)
theorem dX9_years_37 : decode cX9_years 37 = .ok (.aload_n 0, 1) := dk_42 (dk_at dksX9_years_1 14 rfl rfl)
theorem dX9_years_38 : decode cX9_years 38 = .ok (.iload_n 1, 1) := dk_27 (dk_at dksX9_years_1 15 rfl rfl)
theorem dX9_years_39 : decode cX9_years 39 = .ok (.i2l, 1) := dk_133 (dk_at dksX9_years_1 16 rfl rfl)
theorem dX9_years_40 : decode cX9_years 40 = .ok (.putfield 604, 3) := dk_181 2 92 (dk_at dksX9_years_1 17 rfl rfl)
theorem dX9_years_43 : decode cX9_years 43 = .ok (.aload_n 0, 1) := dk_42 (dk_at dksX9_years_1 20 rfl rfl)
theorem dX9_years_44 : decode cX9_years 44 = .ok (.getfield 168, 3) := dk_180 0 168 (dk_at dksX9_years_1 21 rfl rfl)
theorem dX9_years_47 : decode cX9_years 47 = .ok (.iconst 0, 1) := dk_3 (dk_at dksX9_years_2 0 rfl rfl)
theorem dX9_years_48 : decode cX9_years 48 = .ok (.aload_n 0, 1) := dk_42 (dk_at dksX9_years_2 1 rfl rfl)
theorem dX9_years_49 : decode cX9_years 49 = .ok (.getfield 171, 3) := dk_180 0 171 (dk_at dksX9_years_2 2 rfl rfl)
theorem dX9_years_52 : decode cX9_years 52 = .ok (.iconst 0, 1) := dk_3 (dk_at dksX9_years_2 5 rfl rfl)
theorem dX9_years_53 : decode cX9_years 53 = .ok (.invokestatic 522, 3) := dk_184 2 10 (dk_at dksX9_years_2 6 rfl rfl)
theorem dX9_years_56 : decode cX9_years 56 = .ok (.iconst 0, 1) := dk_3 (dk_at dksX9_years_2 9 rfl rfl)
theorem dX9_years_57 : decode cX9_years 57 = .ok (.istore 4, 2) := dk_54 4 (dk_at dksX9_years_2 10 rfl rfl)
theorem dX9_years_59 : decode cX9_years 59 = .ok (.iconst 0, 1) := dk_3 (dk_at dksX9_years_2 12 rfl rfl)
theorem dX9_years_60 : decode cX9_years 60 = .ok (.istore 5, 2) := dk_54 5 (dk_at dksX9_years_2 13 rfl rfl)
theorem dX9_years_62 : decode cX9_years 62 = .ok (.iload 5, 2) := dk_21 5 (dk_at dksX9_years_2 15 rfl rfl)
theorem dX9_years_64 : decode cX9_years 64 = .ok (.iload_n 2, 1) := dk_28 (dk_at dksX9_years_2 17 rfl rfl)
theorem dX9_years_65 : decode cX9_years 65 = .ok (.if_icmp .ge 18, 3) := dk_162 0 18 (dk_at dksX9_years_2 18 rfl rfl)
theorem dX9_years_68 : decode cX9_years 68 = .ok (.iload 4, 2) := dk_21 4 (dk_at dksX9_years_2 21 rfl rfl)
theorem dX9_years_70 : decode cX9_years 70 = .ok (.aload_n 0, 1) := dk_42 (dk_at dksX9_years_2 23 rfl rfl)
theorem dX9_years_71 : decode cX9_years 71 = .ok (.invokevirtual 618, 3) := dk_182 2 106 (dk_at dksX9_years_3 0 rfl rfl)
theorem dX9_years_74 : decode cX9_years 74 = .ok (.iadd, 1) := dk_96 (dk_at dksX9_years_3 3 rfl rfl)
theorem dX9_years_75 : decode cX9_years 75 = .ok (.istore 4, 2) := dk_54 4 (dk_at dksX9_years_3 4 rfl rfl)
theorem dX9_years_77 : decode cX9_years 77 = .ok (.iinc 5 1, 3) := dk_132 5 1 (dk_at dksX9_years_3 6 rfl rfl)
theorem dX9_years_80 : decode cX9_years 80 = .ok (.goto (-18), 3) := dk_167 255 238 (dk_at dksX9_years_3 9 rfl rfl)
theorem dX9_years_83 : decode cX9_years 83 = .ok (.iload_n 3, 1) := dk_29 (dk_at dksX9_years_3 12 rfl rfl)
theorem dX9_years_84 : decode cX9_years 84 = .ok (.ifCond .ne 19, 3) := dk_154 0 19 (dk_at dksX9_years_3 13 rfl rfl)
theorem dX9_years_87 : decode cX9_years 87 = .ok (.aload_n 0, 1) := dk_42 (dk_at dksX9_years_3 16 rfl rfl)
theorem dX9_years_88 : decode cX9_years 88 = .ok (.getfield 168, 3) := dk_180 0 168 (dk_at dksX9_years_3 17 rfl rfl)
theorem dX9_years_91 : decode cX9_years 91 = .ok (.iconst 4, 1) := dk_7 (dk_at dksX9_years_3 20 rfl rfl)
theorem dX9_years_92 : decode cX9_years 92 = .ok (.iaload, 1) := dk_46 (dk_at dksX9_years_3 21 rfl rfl)
theorem dX9_years_93 : decode cX9_years 93 = .ok (.aload_n 0, 1) := dk_42 (dk_at dksX9_years_3 22 rfl rfl)
theorem dX9_years_94 : decode cX9_years 94 = .ok (.getfield 171, 3) := dk_180 0 171 (dk_at dksX9_years_4 0 rfl rfl)
theorem dX9_years_97 : decode cX9_years 97 = .ok (.iconst 4, 1) := dk_7 (dk_at dksX9_years_4 3 rfl rfl)
theorem dX9_years_98 : decode cX9_years 98 = .ok (.iaload, 1) := dk_46 (dk_at dksX9_years_4 4 rfl rfl)
theorem dX9_years_99 : decode cX9_years 99 = .ok (.isub, 1) := dk_100 (dk_at dksX9_years_4 5 rfl rfl)
theorem dX9_years_100 : decode cX9_years 100 = .ok (.goto 22, 3) := dk_167 0 22 (dk_at dksX9_years_4 6 rfl rfl)
theorem dX9_years_103 : decode cX9_years 103 = .ok (.iload_n 3, 1) := dk_29 (dk_at dksX9_years_4 9 rfl rfl)
theorem dX9_years_104 : decode cX9_years 104 = .ok (.iconst 1, 1) := dk_4 (dk_at dksX9_years_4 10 rfl rfl)
theorem dX9_years_105 : decode cX9_years 105 = .ok (.if_icmp .ne 8, 3) := dk_160 0 8 (dk_at dksX9_years_4 11 rfl rfl)
theorem dX9_years_108 : decode cX9_years 108 = .ok (.iload 4, 2) := dk_21 4 (dk_at dksX9_years_4 14 rfl rfl)
theorem dX9_years_110 : decode cX9_years 110 = .ok (.goto 12, 3) := dk_167 0 12 (dk_at dksX9_years_4 16 rfl rfl)
theorem dX9_years_113 : decode cX9_years 113 = .ok (.aload_n 0, 1) := dk_42 (dk_at dksX9_years_4 19 rfl rfl)
theorem dX9_years_114 : decode cX9_years 114 = .ok (.getfield 168, 3) := dk_180 0 168 (dk_at dksX9_years_4 20 rfl rfl)
theorem dX9_years_117 : decode cX9_years 117 = .ok (.iconst 0, 1) := dk_3 (dk_at dksX9_years_4 23 rfl rfl)
theorem dX9_years_118 : decode cX9_years 118 = .ok (.iaload, 1) := dk_46 (dk_at dksX9_years_5 0 rfl rfl)
theorem dX9_years_119 : decode cX9_years 119 = .ok (.invokestatic 621, 3) := dk_184 2 109 (dk_at dksX9_years_5 1 rfl rfl)
theorem dX9_years_122 : decode cX9_years 122 = .ok (.istore 5, 2) := dk_54 5 (dk_at dksX9_years_5 4 rfl rfl)
theorem dX9_years_124 : decode cX9_years 124 = .ok (.aload_n 0, 1) := dk_42 (dk_at dksX9_years_5 6 rfl rfl)
theorem dX9_years_125 : decode cX9_years 125 = .ok (.getfield 171, 3) := dk_180 0 171 (dk_at dksX9_years_5 7 rfl rfl)
theorem dX9_years_128 : decode cX9_years 128 = .ok (.iconst 0, 1) := dk_3 (dk_at dksX9_years_5 10 rfl rfl)
theorem dX9_years_129 : decode cX9_years 129 = .ok (.aload_n 0, 1) := dk_42 (dk_at dksX9_years_5 11 rfl rfl)
theorem dX9_years_130 : decode cX9_years 130 = .ok (.getfield 168, 3) := dk_180 0 168 (dk_at dksX9_years_5 12 rfl rfl)
theorem dX9_years_133 : decode cX9_years 133 = .ok (.iconst 0, 1) := dk_3 (dk_at dksX9_years_5 15 rfl rfl)
theorem dX9_years_134 : decode cX9_years 134 = .ok (.invokestatic 522, 3) := dk_184 2 10 (dk_at dksX9_years_5 16 rfl rfl)
theorem dX9_years_137 : decode cX9_years 137 = .ok (.iload 5, 2) := dk_21 5 (dk_at dksX9_years_5 19 rfl rfl)
theorem dX9_years_139 : decode cX9_years 139 = .ok (.ireturn, 1) := dk_172 (dk_at dksX9_years_5 21 rfl rfl)
abbrev cX9_livesDay : ByteArray := prog_35_method_106_code
def yX9_livesDay : MethodName := ⟨RX9, "livesDay", "()I"⟩
def dkwX9_livesDay_8 : List UInt8 := [87, 42, 182, 2, 32, 27, 172]
abbrev dktX9_livesDay_8 : List UInt8 := dkwX9_livesDay_8 ++ []
def dkwX9_livesDay_7 : List UInt8 := [162, 0, 9, 132, 2, 1, 167, 255, 220, 28, 42, 180, 0, 13, 3, 46, 162, 0, 9, 42, 28, 182, 2, 26]
abbrev dktX9_livesDay_7 : List UInt8 := dkwX9_livesDay_7 ++ dktX9_livesDay_8
def dkwX9_livesDay_6 : List UInt8 := [162, 0, 32, 42, 28, 182, 2, 23, 153, 0, 18, 42, 180, 0, 168, 5, 46, 42, 180, 0, 35, 28, 46]
abbrev dktX9_livesDay_6 : List UInt8 := dkwX9_livesDay_6 ++ dktX9_livesDay_7
def dkwX9_livesDay_5 : List UInt8 := [180, 0, 47, 28, 46, 182, 2, 17, 182, 2, 39, 96, 60, 3, 61, 28, 42, 180, 0, 13, 3, 46]
abbrev dktX9_livesDay_5 : List UInt8 := dkwX9_livesDay_5 ++ dktX9_livesDay_6
def dkwX9_livesDay_4 : List UInt8 := [182, 2, 103, 62, 42, 28, 29, 182, 1, 234, 153, 0, 27, 27, 42, 42, 29, 42, 180, 0, 44, 28, 46, 42]
abbrev dktX9_livesDay_4 : List UInt8 := dkwX9_livesDay_4 ++ dktX9_livesDay_5
def dkwX9_livesDay_3 : List UInt8 := [4, 46, 158, 0, 58, 42, 42, 180, 0, 13, 5, 46, 182, 2, 103, 61, 42, 42, 180, 0, 13, 4, 46]
abbrev dktX9_livesDay_3 : List UInt8 := dkwX9_livesDay_3 ++ dktX9_livesDay_4
def dkwX9_livesDay_2 : List UInt8 := [182, 2, 39, 96, 60, 132, 2, 1, 167, 255, 204, 42, 180, 0, 13, 5, 46, 158, 0, 67, 42, 180, 0, 13]
abbrev dktX9_livesDay_2 : List UInt8 := dkwX9_livesDay_2 ++ dktX9_livesDay_3
def dkwX9_livesDay_1 : List UInt8 := [28, 46, 162, 0, 27, 27, 42, 42, 42, 180, 0, 53, 28, 46, 42, 16, 12, 182, 2, 103, 6, 182, 2, 17]
abbrev dktX9_livesDay_1 : List UInt8 := dkwX9_livesDay_1 ++ dktX9_livesDay_2
def dkwX9_livesDay_0 : List UInt8 := [3, 60, 3, 61, 28, 42, 180, 0, 13, 6, 46, 162, 0, 48, 42, 16, 10, 182, 2, 103, 42, 180, 0, 56]
abbrev dktX9_livesDay_0 : List UInt8 := dkwX9_livesDay_0 ++ dktX9_livesDay_1
theorem dksX9_livesDay_0 : cX9_livesDay.data.toList.drop 0 = dktX9_livesDay_0 := by decide +kernel
theorem dksX9_livesDay_1 : cX9_livesDay.data.toList.drop 24 = dktX9_livesDay_1 := dk_seg dksX9_livesDay_0 24 rfl rfl
theorem dksX9_livesDay_2 : cX9_livesDay.data.toList.drop 48 = dktX9_livesDay_2 := dk_seg dksX9_livesDay_1 24 rfl rfl
theorem dksX9_livesDay_3 : cX9_livesDay.data.toList.drop 72 = dktX9_livesDay_3 := dk_seg dksX9_livesDay_2 24 rfl rfl
theorem dksX9_livesDay_4 : cX9_livesDay.data.toList.drop 95 = dktX9_livesDay_4 := dk_seg dksX9_livesDay_3 23 rfl rfl
theorem dksX9_livesDay_5 : cX9_livesDay.data.toList.drop 119 = dktX9_livesDay_5 := dk_seg dksX9_livesDay_4 24 rfl rfl
theorem dksX9_livesDay_6 : cX9_livesDay.data.toList.drop 141 = dktX9_livesDay_6 := dk_seg dksX9_livesDay_5 22 rfl rfl
theorem dksX9_livesDay_7 : cX9_livesDay.data.toList.drop 164 = dktX9_livesDay_7 := dk_seg dksX9_livesDay_6 23 rfl rfl
theorem dksX9_livesDay_8 : cX9_livesDay.data.toList.drop 188 = dktX9_livesDay_8 := dk_seg dksX9_livesDay_7 24 rfl rfl
theorem dX9_livesDay_0 : decode cX9_livesDay 0 = .ok (.iconst 0, 1) := dk_3 (dk_at dksX9_livesDay_0 0 rfl rfl)
theorem dX9_livesDay_1 : decode cX9_livesDay 1 = .ok (.istore_n 1, 1) := dk_60 (dk_at dksX9_livesDay_0 1 rfl rfl)
theorem dX9_livesDay_2 : decode cX9_livesDay 2 = .ok (.iconst 0, 1) := dk_3 (dk_at dksX9_livesDay_0 2 rfl rfl)
theorem dX9_livesDay_3 : decode cX9_livesDay 3 = .ok (.istore_n 2, 1) := dk_61 (dk_at dksX9_livesDay_0 3 rfl rfl)
theorem dX9_livesDay_4 : decode cX9_livesDay 4 = .ok (.iload_n 2, 1) := dk_28 (dk_at dksX9_livesDay_0 4 rfl rfl)
theorem dX9_livesDay_5 : decode cX9_livesDay 5 = .ok (.aload_n 0, 1) := dk_42 (dk_at dksX9_livesDay_0 5 rfl rfl)
theorem dX9_livesDay_6 : decode cX9_livesDay 6 = .ok (.getfield 13, 3) := dk_180 0 13 (dk_at dksX9_livesDay_0 6 rfl rfl)
theorem dX9_livesDay_9 : decode cX9_livesDay 9 = .ok (.iconst 3, 1) := dk_6 (dk_at dksX9_livesDay_0 9 rfl rfl)
theorem dX9_livesDay_10 : decode cX9_livesDay 10 = .ok (.iaload, 1) := dk_46 (dk_at dksX9_livesDay_0 10 rfl rfl)
theorem dX9_livesDay_11 : decode cX9_livesDay 11 = .ok (.if_icmp .ge 48, 3) := dk_162 0 48 (dk_at dksX9_livesDay_0 11 rfl rfl)
theorem dX9_livesDay_14 : decode cX9_livesDay 14 = .ok (.aload_n 0, 1) := dk_42 (dk_at dksX9_livesDay_0 14 rfl rfl)
theorem dX9_livesDay_15 : decode cX9_livesDay 15 = .ok (.bipush 10, 2) := dk_16 10 (dk_at dksX9_livesDay_0 15 rfl rfl)
theorem dX9_livesDay_17 : decode cX9_livesDay 17 = .ok (.invokevirtual 615, 3) := dk_182 2 103 (dk_at dksX9_livesDay_0 17 rfl rfl)
theorem dX9_livesDay_20 : decode cX9_livesDay 20 = .ok (.aload_n 0, 1) := dk_42 (dk_at dksX9_livesDay_0 20 rfl rfl)
theorem dX9_livesDay_21 : decode cX9_livesDay 21 = .ok (.getfield 56, 3) := dk_180 0 56 (dk_at dksX9_livesDay_0 21 rfl rfl)
theorem dX9_livesDay_24 : decode cX9_livesDay 24 = .ok (.iload_n 2, 1) := dk_28 (dk_at dksX9_livesDay_1 0 rfl rfl)
theorem dX9_livesDay_25 : decode cX9_livesDay 25 = .ok (.iaload, 1) := dk_46 (dk_at dksX9_livesDay_1 1 rfl rfl)
theorem dX9_livesDay_26 : decode cX9_livesDay 26 = .ok (.if_icmp .ge 27, 3) := dk_162 0 27 (dk_at dksX9_livesDay_1 2 rfl rfl)
theorem dX9_livesDay_29 : decode cX9_livesDay 29 = .ok (.iload_n 1, 1) := dk_27 (dk_at dksX9_livesDay_1 5 rfl rfl)
theorem dX9_livesDay_30 : decode cX9_livesDay 30 = .ok (.aload_n 0, 1) := dk_42 (dk_at dksX9_livesDay_1 6 rfl rfl)
theorem dX9_livesDay_31 : decode cX9_livesDay 31 = .ok (.aload_n 0, 1) := dk_42 (dk_at dksX9_livesDay_1 7 rfl rfl)
theorem dX9_livesDay_32 : decode cX9_livesDay 32 = .ok (.aload_n 0, 1) := dk_42 (dk_at dksX9_livesDay_1 8 rfl rfl)
theorem dX9_livesDay_33 : decode cX9_livesDay 33 = .ok (.getfield 53, 3) := dk_180 0 53 (dk_at dksX9_livesDay_1 9 rfl rfl)
theorem dX9_livesDay_36 : decode cX9_livesDay 36 = .ok (.iload_n 2, 1) := dk_28 (dk_at dksX9_livesDay_1 12 rfl rfl)
theorem dX9_livesDay_37 : decode cX9_livesDay 37 = .ok (.iaload, 1) := dk_46 (dk_at dksX9_livesDay_1 13 rfl rfl)
theorem dX9_livesDay_38 : decode cX9_livesDay 38 = .ok (.aload_n 0, 1) := dk_42 (dk_at dksX9_livesDay_1 14 rfl rfl)
theorem dX9_livesDay_39 : decode cX9_livesDay 39 = .ok (.bipush 12, 2) := dk_16 12 (dk_at dksX9_livesDay_1 15 rfl rfl)
theorem dX9_livesDay_41 : decode cX9_livesDay 41 = .ok (.invokevirtual 615, 3) := dk_182 2 103 (dk_at dksX9_livesDay_1 17 rfl rfl)
theorem dX9_livesDay_44 : decode cX9_livesDay 44 = .ok (.iconst 3, 1) := dk_6 (dk_at dksX9_livesDay_1 20 rfl rfl)
theorem dX9_livesDay_45 : decode cX9_livesDay 45 = .ok (.invokevirtual 529, 3) := dk_182 2 17 (dk_at dksX9_livesDay_1 21 rfl rfl)
theorem dX9_livesDay_48 : decode cX9_livesDay 48 = .ok (.invokevirtual 551, 3) := dk_182 2 39 (dk_at dksX9_livesDay_2 0 rfl rfl)
theorem dX9_livesDay_51 : decode cX9_livesDay 51 = .ok (.iadd, 1) := dk_96 (dk_at dksX9_livesDay_2 3 rfl rfl)
theorem dX9_livesDay_52 : decode cX9_livesDay 52 = .ok (.istore_n 1, 1) := dk_60 (dk_at dksX9_livesDay_2 4 rfl rfl)
theorem dX9_livesDay_53 : decode cX9_livesDay 53 = .ok (.iinc 2 1, 3) := dk_132 2 1 (dk_at dksX9_livesDay_2 5 rfl rfl)
theorem dX9_livesDay_56 : decode cX9_livesDay 56 = .ok (.goto (-52), 3) := dk_167 255 204 (dk_at dksX9_livesDay_2 8 rfl rfl)
theorem dX9_livesDay_59 : decode cX9_livesDay 59 = .ok (.aload_n 0, 1) := dk_42 (dk_at dksX9_livesDay_2 11 rfl rfl)
theorem dX9_livesDay_60 : decode cX9_livesDay 60 = .ok (.getfield 13, 3) := dk_180 0 13 (dk_at dksX9_livesDay_2 12 rfl rfl)
theorem dX9_livesDay_63 : decode cX9_livesDay 63 = .ok (.iconst 2, 1) := dk_5 (dk_at dksX9_livesDay_2 15 rfl rfl)
theorem dX9_livesDay_64 : decode cX9_livesDay 64 = .ok (.iaload, 1) := dk_46 (dk_at dksX9_livesDay_2 16 rfl rfl)
theorem dX9_livesDay_65 : decode cX9_livesDay 65 = .ok (.ifCond .le 67, 3) := dk_158 0 67 (dk_at dksX9_livesDay_2 17 rfl rfl)
theorem dX9_livesDay_68 : decode cX9_livesDay 68 = .ok (.aload_n 0, 1) := dk_42 (dk_at dksX9_livesDay_2 20 rfl rfl)
theorem dX9_livesDay_69 : decode cX9_livesDay 69 = .ok (.getfield 13, 3) := dk_180 0 13 (dk_at dksX9_livesDay_2 21 rfl rfl)
theorem dX9_livesDay_72 : decode cX9_livesDay 72 = .ok (.iconst 1, 1) := dk_4 (dk_at dksX9_livesDay_3 0 rfl rfl)
theorem dX9_livesDay_73 : decode cX9_livesDay 73 = .ok (.iaload, 1) := dk_46 (dk_at dksX9_livesDay_3 1 rfl rfl)
theorem dX9_livesDay_74 : decode cX9_livesDay 74 = .ok (.ifCond .le 58, 3) := dk_158 0 58 (dk_at dksX9_livesDay_3 2 rfl rfl)
theorem dX9_livesDay_77 : decode cX9_livesDay 77 = .ok (.aload_n 0, 1) := dk_42 (dk_at dksX9_livesDay_3 5 rfl rfl)
theorem dX9_livesDay_78 : decode cX9_livesDay 78 = .ok (.aload_n 0, 1) := dk_42 (dk_at dksX9_livesDay_3 6 rfl rfl)
theorem dX9_livesDay_79 : decode cX9_livesDay 79 = .ok (.getfield 13, 3) := dk_180 0 13 (dk_at dksX9_livesDay_3 7 rfl rfl)
theorem dX9_livesDay_82 : decode cX9_livesDay 82 = .ok (.iconst 2, 1) := dk_5 (dk_at dksX9_livesDay_3 10 rfl rfl)
theorem dX9_livesDay_83 : decode cX9_livesDay 83 = .ok (.iaload, 1) := dk_46 (dk_at dksX9_livesDay_3 11 rfl rfl)
theorem dX9_livesDay_84 : decode cX9_livesDay 84 = .ok (.invokevirtual 615, 3) := dk_182 2 103 (dk_at dksX9_livesDay_3 12 rfl rfl)
theorem dX9_livesDay_87 : decode cX9_livesDay 87 = .ok (.istore_n 2, 1) := dk_61 (dk_at dksX9_livesDay_3 15 rfl rfl)
theorem dX9_livesDay_88 : decode cX9_livesDay 88 = .ok (.aload_n 0, 1) := dk_42 (dk_at dksX9_livesDay_3 16 rfl rfl)
theorem dX9_livesDay_89 : decode cX9_livesDay 89 = .ok (.aload_n 0, 1) := dk_42 (dk_at dksX9_livesDay_3 17 rfl rfl)
theorem dX9_livesDay_90 : decode cX9_livesDay 90 = .ok (.getfield 13, 3) := dk_180 0 13 (dk_at dksX9_livesDay_3 18 rfl rfl)
theorem dX9_livesDay_93 : decode cX9_livesDay 93 = .ok (.iconst 1, 1) := dk_4 (dk_at dksX9_livesDay_3 21 rfl rfl)
theorem dX9_livesDay_94 : decode cX9_livesDay 94 = .ok (.iaload, 1) := dk_46 (dk_at dksX9_livesDay_3 22 rfl rfl)
theorem dX9_livesDay_95 : decode cX9_livesDay 95 = .ok (.invokevirtual 615, 3) := dk_182 2 103 (dk_at dksX9_livesDay_4 0 rfl rfl)
theorem dX9_livesDay_98 : decode cX9_livesDay 98 = .ok (.istore_n 3, 1) := dk_62 (dk_at dksX9_livesDay_4 3 rfl rfl)
theorem dX9_livesDay_99 : decode cX9_livesDay 99 = .ok (.aload_n 0, 1) := dk_42 (dk_at dksX9_livesDay_4 4 rfl rfl)
theorem dX9_livesDay_100 : decode cX9_livesDay 100 = .ok (.iload_n 2, 1) := dk_28 (dk_at dksX9_livesDay_4 5 rfl rfl)
theorem dX9_livesDay_101 : decode cX9_livesDay 101 = .ok (.iload_n 3, 1) := dk_29 (dk_at dksX9_livesDay_4 6 rfl rfl)
theorem dX9_livesDay_102 : decode cX9_livesDay 102 = .ok (.invokevirtual 490, 3) := dk_182 1 234 (dk_at dksX9_livesDay_4 7 rfl rfl)
theorem dX9_livesDay_105 : decode cX9_livesDay 105 = .ok (.ifCond .eq 27, 3) := dk_153 0 27 (dk_at dksX9_livesDay_4 10 rfl rfl)
theorem dX9_livesDay_108 : decode cX9_livesDay 108 = .ok (.iload_n 1, 1) := dk_27 (dk_at dksX9_livesDay_4 13 rfl rfl)
theorem dX9_livesDay_109 : decode cX9_livesDay 109 = .ok (.aload_n 0, 1) := dk_42 (dk_at dksX9_livesDay_4 14 rfl rfl)
theorem dX9_livesDay_110 : decode cX9_livesDay 110 = .ok (.aload_n 0, 1) := dk_42 (dk_at dksX9_livesDay_4 15 rfl rfl)
theorem dX9_livesDay_111 : decode cX9_livesDay 111 = .ok (.iload_n 3, 1) := dk_29 (dk_at dksX9_livesDay_4 16 rfl rfl)
theorem dX9_livesDay_112 : decode cX9_livesDay 112 = .ok (.aload_n 0, 1) := dk_42 (dk_at dksX9_livesDay_4 17 rfl rfl)
theorem dX9_livesDay_113 : decode cX9_livesDay 113 = .ok (.getfield 44, 3) := dk_180 0 44 (dk_at dksX9_livesDay_4 18 rfl rfl)
theorem dX9_livesDay_116 : decode cX9_livesDay 116 = .ok (.iload_n 2, 1) := dk_28 (dk_at dksX9_livesDay_4 21 rfl rfl)
theorem dX9_livesDay_117 : decode cX9_livesDay 117 = .ok (.iaload, 1) := dk_46 (dk_at dksX9_livesDay_4 22 rfl rfl)
theorem dX9_livesDay_118 : decode cX9_livesDay 118 = .ok (.aload_n 0, 1) := dk_42 (dk_at dksX9_livesDay_4 23 rfl rfl)
theorem dX9_livesDay_119 : decode cX9_livesDay 119 = .ok (.getfield 47, 3) := dk_180 0 47 (dk_at dksX9_livesDay_5 0 rfl rfl)
theorem dX9_livesDay_122 : decode cX9_livesDay 122 = .ok (.iload_n 2, 1) := dk_28 (dk_at dksX9_livesDay_5 3 rfl rfl)
theorem dX9_livesDay_123 : decode cX9_livesDay 123 = .ok (.iaload, 1) := dk_46 (dk_at dksX9_livesDay_5 4 rfl rfl)
theorem dX9_livesDay_124 : decode cX9_livesDay 124 = .ok (.invokevirtual 529, 3) := dk_182 2 17 (dk_at dksX9_livesDay_5 5 rfl rfl)
theorem dX9_livesDay_127 : decode cX9_livesDay 127 = .ok (.invokevirtual 551, 3) := dk_182 2 39 (dk_at dksX9_livesDay_5 8 rfl rfl)
theorem dX9_livesDay_130 : decode cX9_livesDay 130 = .ok (.iadd, 1) := dk_96 (dk_at dksX9_livesDay_5 11 rfl rfl)
theorem dX9_livesDay_131 : decode cX9_livesDay 131 = .ok (.istore_n 1, 1) := dk_60 (dk_at dksX9_livesDay_5 12 rfl rfl)
theorem dX9_livesDay_132 : decode cX9_livesDay 132 = .ok (.iconst 0, 1) := dk_3 (dk_at dksX9_livesDay_5 13 rfl rfl)
theorem dX9_livesDay_133 : decode cX9_livesDay 133 = .ok (.istore_n 2, 1) := dk_61 (dk_at dksX9_livesDay_5 14 rfl rfl)
theorem dX9_livesDay_134 : decode cX9_livesDay 134 = .ok (.iload_n 2, 1) := dk_28 (dk_at dksX9_livesDay_5 15 rfl rfl)
theorem dX9_livesDay_135 : decode cX9_livesDay 135 = .ok (.aload_n 0, 1) := dk_42 (dk_at dksX9_livesDay_5 16 rfl rfl)
theorem dX9_livesDay_136 : decode cX9_livesDay 136 = .ok (.getfield 13, 3) := dk_180 0 13 (dk_at dksX9_livesDay_5 17 rfl rfl)
theorem dX9_livesDay_139 : decode cX9_livesDay 139 = .ok (.iconst 0, 1) := dk_3 (dk_at dksX9_livesDay_5 20 rfl rfl)
theorem dX9_livesDay_140 : decode cX9_livesDay 140 = .ok (.iaload, 1) := dk_46 (dk_at dksX9_livesDay_5 21 rfl rfl)
theorem dX9_livesDay_141 : decode cX9_livesDay 141 = .ok (.if_icmp .ge 32, 3) := dk_162 0 32 (dk_at dksX9_livesDay_6 0 rfl rfl)
theorem dX9_livesDay_144 : decode cX9_livesDay 144 = .ok (.aload_n 0, 1) := dk_42 (dk_at dksX9_livesDay_6 3 rfl rfl)
theorem dX9_livesDay_145 : decode cX9_livesDay 145 = .ok (.iload_n 2, 1) := dk_28 (dk_at dksX9_livesDay_6 4 rfl rfl)
theorem dX9_livesDay_146 : decode cX9_livesDay 146 = .ok (.invokevirtual 535, 3) := dk_182 2 23 (dk_at dksX9_livesDay_6 5 rfl rfl)
theorem dX9_livesDay_149 : decode cX9_livesDay 149 = .ok (.ifCond .eq 18, 3) := dk_153 0 18 (dk_at dksX9_livesDay_6 8 rfl rfl)
theorem dX9_livesDay_152 : decode cX9_livesDay 152 = .ok (.aload_n 0, 1) := dk_42 (dk_at dksX9_livesDay_6 11 rfl rfl)
theorem dX9_livesDay_153 : decode cX9_livesDay 153 = .ok (.getfield 168, 3) := dk_180 0 168 (dk_at dksX9_livesDay_6 12 rfl rfl)
theorem dX9_livesDay_156 : decode cX9_livesDay 156 = .ok (.iconst 2, 1) := dk_5 (dk_at dksX9_livesDay_6 15 rfl rfl)
theorem dX9_livesDay_157 : decode cX9_livesDay 157 = .ok (.iaload, 1) := dk_46 (dk_at dksX9_livesDay_6 16 rfl rfl)
theorem dX9_livesDay_158 : decode cX9_livesDay 158 = .ok (.aload_n 0, 1) := dk_42 (dk_at dksX9_livesDay_6 17 rfl rfl)
theorem dX9_livesDay_159 : decode cX9_livesDay 159 = .ok (.getfield 35, 3) := dk_180 0 35 (dk_at dksX9_livesDay_6 18 rfl rfl)
theorem dX9_livesDay_162 : decode cX9_livesDay 162 = .ok (.iload_n 2, 1) := dk_28 (dk_at dksX9_livesDay_6 21 rfl rfl)
theorem dX9_livesDay_163 : decode cX9_livesDay 163 = .ok (.iaload, 1) := dk_46 (dk_at dksX9_livesDay_6 22 rfl rfl)
theorem dX9_livesDay_164 : decode cX9_livesDay 164 = .ok (.if_icmp .ge 9, 3) := dk_162 0 9 (dk_at dksX9_livesDay_7 0 rfl rfl)
theorem dX9_livesDay_167 : decode cX9_livesDay 167 = .ok (.iinc 2 1, 3) := dk_132 2 1 (dk_at dksX9_livesDay_7 3 rfl rfl)
theorem dX9_livesDay_170 : decode cX9_livesDay 170 = .ok (.goto (-36), 3) := dk_167 255 220 (dk_at dksX9_livesDay_7 6 rfl rfl)
theorem dX9_livesDay_173 : decode cX9_livesDay 173 = .ok (.iload_n 2, 1) := dk_28 (dk_at dksX9_livesDay_7 9 rfl rfl)
theorem dX9_livesDay_174 : decode cX9_livesDay 174 = .ok (.aload_n 0, 1) := dk_42 (dk_at dksX9_livesDay_7 10 rfl rfl)
theorem dX9_livesDay_175 : decode cX9_livesDay 175 = .ok (.getfield 13, 3) := dk_180 0 13 (dk_at dksX9_livesDay_7 11 rfl rfl)
theorem dX9_livesDay_178 : decode cX9_livesDay 178 = .ok (.iconst 0, 1) := dk_3 (dk_at dksX9_livesDay_7 14 rfl rfl)
theorem dX9_livesDay_179 : decode cX9_livesDay 179 = .ok (.iaload, 1) := dk_46 (dk_at dksX9_livesDay_7 15 rfl rfl)
theorem dX9_livesDay_180 : decode cX9_livesDay 180 = .ok (.if_icmp .ge 9, 3) := dk_162 0 9 (dk_at dksX9_livesDay_7 16 rfl rfl)
theorem dX9_livesDay_183 : decode cX9_livesDay 183 = .ok (.aload_n 0, 1) := dk_42 (dk_at dksX9_livesDay_7 19 rfl rfl)
theorem dX9_livesDay_184 : decode cX9_livesDay 184 = .ok (.iload_n 2, 1) := dk_28 (dk_at dksX9_livesDay_7 20 rfl rfl)
theorem dX9_livesDay_185 : decode cX9_livesDay 185 = .ok (.invokevirtual 538, 3) := dk_182 2 26 (dk_at dksX9_livesDay_7 21 rfl rfl)
theorem dX9_livesDay_188 : decode cX9_livesDay 188 = .ok (.pop, 1) := dk_87 (dk_at dksX9_livesDay_8 0 rfl rfl)
theorem dX9_livesDay_189 : decode cX9_livesDay 189 = .ok (.aload_n 0, 1) := dk_42 (dk_at dksX9_livesDay_8 1 rfl rfl)
theorem dX9_livesDay_190 : decode cX9_livesDay 190 = .ok (.invokevirtual 544, 3) := dk_182 2 32 (dk_at dksX9_livesDay_8 2 rfl rfl)
theorem dX9_livesDay_193 : decode cX9_livesDay 193 = .ok (.iload_n 1, 1) := dk_27 (dk_at dksX9_livesDay_8 5 rfl rfl)
theorem dX9_livesDay_194 : decode cX9_livesDay 194 = .ok (.ireturn, 1) := dk_172 (dk_at dksX9_livesDay_8 6 rfl rfl)
abbrev cX9_draws : ByteArray := prog_35_method_105_code
def yX9_draws : MethodName := ⟨RX9, "draws", "(I)I"⟩
def dkwX9_draws_1 : List UInt8 := [20, 2, 101, 109, 27, 133, 113, 136, 172]
abbrev dktX9_draws_1 : List UInt8 := dkwX9_draws_1 ++ []
def dkwX9_draws_0 : List UInt8 := [42, 42, 180, 2, 92, 20, 2, 95, 105, 20, 2, 97, 97, 20, 2, 99, 113, 181, 2, 92, 42, 180, 2, 92]
abbrev dktX9_draws_0 : List UInt8 := dkwX9_draws_0 ++ dktX9_draws_1
theorem dksX9_draws_0 : cX9_draws.data.toList.drop 0 = dktX9_draws_0 := by decide +kernel
theorem dksX9_draws_1 : cX9_draws.data.toList.drop 24 = dktX9_draws_1 := dk_seg dksX9_draws_0 24 rfl rfl
theorem dX9_draws_0 : decode cX9_draws 0 = .ok (.aload_n 0, 1) := dk_42 (dk_at dksX9_draws_0 0 rfl rfl)
theorem dX9_draws_1 : decode cX9_draws 1 = .ok (.aload_n 0, 1) := dk_42 (dk_at dksX9_draws_0 1 rfl rfl)
theorem dX9_draws_2 : decode cX9_draws 2 = .ok (.getfield 604, 3) := dk_180 2 92 (dk_at dksX9_draws_0 2 rfl rfl)
theorem dX9_draws_5 : decode cX9_draws 5 = .ok (.ldc2_w 607, 3) := dk_20 2 95 (dk_at dksX9_draws_0 5 rfl rfl)
theorem dX9_draws_8 : decode cX9_draws 8 = .ok (.lmul, 1) := dk_105 (dk_at dksX9_draws_0 8 rfl rfl)
theorem dX9_draws_9 : decode cX9_draws 9 = .ok (.ldc2_w 609, 3) := dk_20 2 97 (dk_at dksX9_draws_0 9 rfl rfl)
theorem dX9_draws_12 : decode cX9_draws 12 = .ok (.ladd, 1) := dk_97 (dk_at dksX9_draws_0 12 rfl rfl)
theorem dX9_draws_13 : decode cX9_draws 13 = .ok (.ldc2_w 611, 3) := dk_20 2 99 (dk_at dksX9_draws_0 13 rfl rfl)
theorem dX9_draws_16 : decode cX9_draws 16 = .ok (.lrem, 1) := dk_113 (dk_at dksX9_draws_0 16 rfl rfl)
theorem dX9_draws_17 : decode cX9_draws 17 = .ok (.putfield 604, 3) := dk_181 2 92 (dk_at dksX9_draws_0 17 rfl rfl)
theorem dX9_draws_20 : decode cX9_draws 20 = .ok (.aload_n 0, 1) := dk_42 (dk_at dksX9_draws_0 20 rfl rfl)
theorem dX9_draws_21 : decode cX9_draws 21 = .ok (.getfield 604, 3) := dk_180 2 92 (dk_at dksX9_draws_0 21 rfl rfl)
theorem dX9_draws_24 : decode cX9_draws 24 = .ok (.ldc2_w 613, 3) := dk_20 2 101 (dk_at dksX9_draws_1 0 rfl rfl)
theorem dX9_draws_27 : decode cX9_draws 27 = .ok (.ldiv, 1) := dk_109 (dk_at dksX9_draws_1 3 rfl rfl)
theorem dX9_draws_28 : decode cX9_draws 28 = .ok (.iload_n 1, 1) := dk_27 (dk_at dksX9_draws_1 4 rfl rfl)
theorem dX9_draws_29 : decode cX9_draws 29 = .ok (.i2l, 1) := dk_133 (dk_at dksX9_draws_1 5 rfl rfl)
theorem dX9_draws_30 : decode cX9_draws 30 = .ok (.lrem, 1) := dk_113 (dk_at dksX9_draws_1 6 rfl rfl)
theorem dX9_draws_31 : decode cX9_draws 31 = .ok (.l2i, 1) := dk_136 (dk_at dksX9_draws_1 7 rfl rfl)
theorem dX9_draws_32 : decode cX9_draws 32 = .ok (.ireturn, 1) := dk_172 (dk_at dksX9_draws_1 8 rfl rfl)
abbrev cX9_bits : ByteArray := prog_35_method_6_code
def yX9_bits : MethodName := ⟨RX9, "bits", "(I)I"⟩
def dkwX9_bits_1 : List UInt8 := [27, 172]
abbrev dktX9_bits_1 : List UInt8 := dkwX9_bits_1 ++ []
def dkwX9_bits_0 : List UInt8 := [3, 60, 3, 61, 28, 16, 16, 162, 0, 17, 27, 26, 28, 122, 4, 126, 96, 60, 132, 2, 1, 167, 255, 239]
abbrev dktX9_bits_0 : List UInt8 := dkwX9_bits_0 ++ dktX9_bits_1
theorem dksX9_bits_0 : cX9_bits.data.toList.drop 0 = dktX9_bits_0 := by decide +kernel
theorem dksX9_bits_1 : cX9_bits.data.toList.drop 24 = dktX9_bits_1 := dk_seg dksX9_bits_0 24 rfl rfl
theorem dX9_bits_0 : decode cX9_bits 0 = .ok (.iconst 0, 1) := dk_3 (dk_at dksX9_bits_0 0 rfl rfl)
theorem dX9_bits_1 : decode cX9_bits 1 = .ok (.istore_n 1, 1) := dk_60 (dk_at dksX9_bits_0 1 rfl rfl)
theorem dX9_bits_2 : decode cX9_bits 2 = .ok (.iconst 0, 1) := dk_3 (dk_at dksX9_bits_0 2 rfl rfl)
theorem dX9_bits_3 : decode cX9_bits 3 = .ok (.istore_n 2, 1) := dk_61 (dk_at dksX9_bits_0 3 rfl rfl)
theorem dX9_bits_4 : decode cX9_bits 4 = .ok (.iload_n 2, 1) := dk_28 (dk_at dksX9_bits_0 4 rfl rfl)
theorem dX9_bits_5 : decode cX9_bits 5 = .ok (.bipush 16, 2) := dk_16 16 (dk_at dksX9_bits_0 5 rfl rfl)
theorem dX9_bits_7 : decode cX9_bits 7 = .ok (.if_icmp .ge 17, 3) := dk_162 0 17 (dk_at dksX9_bits_0 7 rfl rfl)
theorem dX9_bits_10 : decode cX9_bits 10 = .ok (.iload_n 1, 1) := dk_27 (dk_at dksX9_bits_0 10 rfl rfl)
theorem dX9_bits_11 : decode cX9_bits 11 = .ok (.iload_n 0, 1) := dk_26 (dk_at dksX9_bits_0 11 rfl rfl)
theorem dX9_bits_12 : decode cX9_bits 12 = .ok (.iload_n 2, 1) := dk_28 (dk_at dksX9_bits_0 12 rfl rfl)
theorem dX9_bits_13 : decode cX9_bits 13 = .ok (.ishr, 1) := dk_122 (dk_at dksX9_bits_0 13 rfl rfl)
theorem dX9_bits_14 : decode cX9_bits 14 = .ok (.iconst 1, 1) := dk_4 (dk_at dksX9_bits_0 14 rfl rfl)
theorem dX9_bits_15 : decode cX9_bits 15 = .ok (.iand, 1) := dk_126 (dk_at dksX9_bits_0 15 rfl rfl)
theorem dX9_bits_16 : decode cX9_bits 16 = .ok (.iadd, 1) := dk_96 (dk_at dksX9_bits_0 16 rfl rfl)
theorem dX9_bits_17 : decode cX9_bits 17 = .ok (.istore_n 1, 1) := dk_60 (dk_at dksX9_bits_0 17 rfl rfl)
theorem dX9_bits_18 : decode cX9_bits 18 = .ok (.iinc 2 1, 3) := dk_132 2 1 (dk_at dksX9_bits_0 18 rfl rfl)
theorem dX9_bits_21 : decode cX9_bits 21 = .ok (.goto (-17), 3) := dk_167 255 239 (dk_at dksX9_bits_0 21 rfl rfl)
theorem dX9_bits_24 : decode cX9_bits 24 = .ok (.iload_n 1, 1) := dk_27 (dk_at dksX9_bits_1 0 rfl rfl)
theorem dX9_bits_25 : decode cX9_bits 25 = .ok (.ireturn, 1) := dk_172 (dk_at dksX9_bits_1 1 rfl rfl)
abbrev cX9_mark : ByteArray := prog_35_method_108_code
def yX9_mark : MethodName := ⟨RX9, "mark", "(IZ)Z"⟩
def dkwX9_mark_5 : List UInt8 := [172]
abbrev dktX9_mark_5 : List UInt8 := dkwX9_mark_5 ++ []
def dkwX9_mark_4 : List UInt8 := [3, 181, 1, 209, 167, 0, 19, 42, 180, 0, 168, 3, 42, 180, 0, 174, 16, 15, 27, 104, 184, 2, 10, 4]
abbrev dktX9_mark_4 : List UInt8 := dkwX9_mark_4 ++ dktX9_mark_5
def dkwX9_mark_3 : List UInt8 := [182, 2, 112, 28, 153, 0, 27, 42, 180, 0, 174, 16, 15, 27, 104, 42, 180, 0, 168, 3, 184, 2, 10, 42]
abbrev dktX9_mark_3 : List UInt8 := dkwX9_mark_3 ++ dktX9_mark_4
def dkwX9_mark_2 : List UInt8 := [28, 153, 0, 7, 3, 167, 0, 6, 4, 27, 96, 54, 4, 42, 29, 21, 4, 182, 1, 215, 42, 29, 21, 4]
abbrev dktX9_mark_2 : List UInt8 := dkwX9_mark_2 ++ dktX9_mark_3
def dkwX9_mark_1 : List UInt8 := [154, 0, 5, 3, 172, 42, 180, 0, 180, 27, 4, 84, 28, 153, 0, 9, 4, 27, 96, 167, 0, 4, 3, 62]
abbrev dktX9_mark_1 : List UInt8 := dkwX9_mark_1 ++ dktX9_mark_2
def dkwX9_mark_0 : List UInt8 := [42, 3, 181, 0, 212, 27, 3, 6, 184, 1, 95, 153, 0, 16, 28, 153, 0, 14, 42, 180, 0, 180, 27, 51]
abbrev dktX9_mark_0 : List UInt8 := dkwX9_mark_0 ++ dktX9_mark_1
theorem dksX9_mark_0 : cX9_mark.data.toList.drop 0 = dktX9_mark_0 := by decide +kernel
theorem dksX9_mark_1 : cX9_mark.data.toList.drop 24 = dktX9_mark_1 := dk_seg dksX9_mark_0 24 rfl rfl
theorem dksX9_mark_2 : cX9_mark.data.toList.drop 48 = dktX9_mark_2 := dk_seg dksX9_mark_1 24 rfl rfl
theorem dksX9_mark_3 : cX9_mark.data.toList.drop 72 = dktX9_mark_3 := dk_seg dksX9_mark_2 24 rfl rfl
theorem dksX9_mark_4 : cX9_mark.data.toList.drop 96 = dktX9_mark_4 := dk_seg dksX9_mark_3 24 rfl rfl
theorem dksX9_mark_5 : cX9_mark.data.toList.drop 120 = dktX9_mark_5 := dk_seg dksX9_mark_4 24 rfl rfl
theorem dX9_mark_0 : decode cX9_mark 0 = .ok (.aload_n 0, 1) := dk_42 (dk_at dksX9_mark_0 0 rfl rfl)
theorem dX9_mark_1 : decode cX9_mark 1 = .ok (.iconst 0, 1) := dk_3 (dk_at dksX9_mark_0 1 rfl rfl)
theorem dX9_mark_2 : decode cX9_mark 2 = .ok (.putfield 212, 3) := dk_181 0 212 (dk_at dksX9_mark_0 2 rfl rfl)
theorem dX9_mark_5 : decode cX9_mark 5 = .ok (.iload_n 1, 1) := dk_27 (dk_at dksX9_mark_0 5 rfl rfl)
theorem dX9_mark_6 : decode cX9_mark 6 = .ok (.iconst 0, 1) := dk_3 (dk_at dksX9_mark_0 6 rfl rfl)
theorem dX9_mark_7 : decode cX9_mark 7 = .ok (.iconst 3, 1) := dk_6 (dk_at dksX9_mark_0 7 rfl rfl)
theorem dX9_mark_8 : decode cX9_mark 8 = .ok (.invokestatic 351, 3) := dk_184 1 95 (dk_at dksX9_mark_0 8 rfl rfl)
theorem dX9_mark_11 : decode cX9_mark 11 = .ok (.ifCond .eq 16, 3) := dk_153 0 16 (dk_at dksX9_mark_0 11 rfl rfl)
theorem dX9_mark_14 : decode cX9_mark 14 = .ok (.iload_n 2, 1) := dk_28 (dk_at dksX9_mark_0 14 rfl rfl)
theorem dX9_mark_15 : decode cX9_mark 15 = .ok (.ifCond .eq 14, 3) := dk_153 0 14 (dk_at dksX9_mark_0 15 rfl rfl)
theorem dX9_mark_18 : decode cX9_mark 18 = .ok (.aload_n 0, 1) := dk_42 (dk_at dksX9_mark_0 18 rfl rfl)
theorem dX9_mark_19 : decode cX9_mark 19 = .ok (.getfield 180, 3) := dk_180 0 180 (dk_at dksX9_mark_0 19 rfl rfl)
theorem dX9_mark_22 : decode cX9_mark 22 = .ok (.iload_n 1, 1) := dk_27 (dk_at dksX9_mark_0 22 rfl rfl)
theorem dX9_mark_23 : decode cX9_mark 23 = .ok (.baload, 1) := dk_51 (dk_at dksX9_mark_0 23 rfl rfl)
theorem dX9_mark_24 : decode cX9_mark 24 = .ok (.ifCond .ne 5, 3) := dk_154 0 5 (dk_at dksX9_mark_1 0 rfl rfl)
theorem dX9_mark_27 : decode cX9_mark 27 = .ok (.iconst 0, 1) := dk_3 (dk_at dksX9_mark_1 3 rfl rfl)
theorem dX9_mark_28 : decode cX9_mark 28 = .ok (.ireturn, 1) := dk_172 (dk_at dksX9_mark_1 4 rfl rfl)
theorem dX9_mark_29 : decode cX9_mark 29 = .ok (.aload_n 0, 1) := dk_42 (dk_at dksX9_mark_1 5 rfl rfl)
theorem dX9_mark_30 : decode cX9_mark 30 = .ok (.getfield 180, 3) := dk_180 0 180 (dk_at dksX9_mark_1 6 rfl rfl)
theorem dX9_mark_33 : decode cX9_mark 33 = .ok (.iload_n 1, 1) := dk_27 (dk_at dksX9_mark_1 9 rfl rfl)
theorem dX9_mark_34 : decode cX9_mark 34 = .ok (.iconst 1, 1) := dk_4 (dk_at dksX9_mark_1 10 rfl rfl)
theorem dX9_mark_35 : decode cX9_mark 35 = .ok (.bastore, 1) := dk_84 (dk_at dksX9_mark_1 11 rfl rfl)
theorem dX9_mark_36 : decode cX9_mark 36 = .ok (.iload_n 2, 1) := dk_28 (dk_at dksX9_mark_1 12 rfl rfl)
theorem dX9_mark_37 : decode cX9_mark 37 = .ok (.ifCond .eq 9, 3) := dk_153 0 9 (dk_at dksX9_mark_1 13 rfl rfl)
theorem dX9_mark_40 : decode cX9_mark 40 = .ok (.iconst 1, 1) := dk_4 (dk_at dksX9_mark_1 16 rfl rfl)
theorem dX9_mark_41 : decode cX9_mark 41 = .ok (.iload_n 1, 1) := dk_27 (dk_at dksX9_mark_1 17 rfl rfl)
theorem dX9_mark_42 : decode cX9_mark 42 = .ok (.iadd, 1) := dk_96 (dk_at dksX9_mark_1 18 rfl rfl)
theorem dX9_mark_43 : decode cX9_mark 43 = .ok (.goto 4, 3) := dk_167 0 4 (dk_at dksX9_mark_1 19 rfl rfl)
theorem dX9_mark_46 : decode cX9_mark 46 = .ok (.iconst 0, 1) := dk_3 (dk_at dksX9_mark_1 22 rfl rfl)
theorem dX9_mark_47 : decode cX9_mark 47 = .ok (.istore_n 3, 1) := dk_62 (dk_at dksX9_mark_1 23 rfl rfl)
theorem dX9_mark_48 : decode cX9_mark 48 = .ok (.iload_n 2, 1) := dk_28 (dk_at dksX9_mark_2 0 rfl rfl)
theorem dX9_mark_49 : decode cX9_mark 49 = .ok (.ifCond .eq 7, 3) := dk_153 0 7 (dk_at dksX9_mark_2 1 rfl rfl)
theorem dX9_mark_52 : decode cX9_mark 52 = .ok (.iconst 0, 1) := dk_3 (dk_at dksX9_mark_2 4 rfl rfl)
theorem dX9_mark_53 : decode cX9_mark 53 = .ok (.goto 6, 3) := dk_167 0 6 (dk_at dksX9_mark_2 5 rfl rfl)
theorem dX9_mark_56 : decode cX9_mark 56 = .ok (.iconst 1, 1) := dk_4 (dk_at dksX9_mark_2 8 rfl rfl)
theorem dX9_mark_57 : decode cX9_mark 57 = .ok (.iload_n 1, 1) := dk_27 (dk_at dksX9_mark_2 9 rfl rfl)
theorem dX9_mark_58 : decode cX9_mark 58 = .ok (.iadd, 1) := dk_96 (dk_at dksX9_mark_2 10 rfl rfl)
theorem dX9_mark_59 : decode cX9_mark 59 = .ok (.istore 4, 2) := dk_54 4 (dk_at dksX9_mark_2 11 rfl rfl)
theorem dX9_mark_61 : decode cX9_mark 61 = .ok (.aload_n 0, 1) := dk_42 (dk_at dksX9_mark_2 13 rfl rfl)
theorem dX9_mark_62 : decode cX9_mark 62 = .ok (.iload_n 3, 1) := dk_29 (dk_at dksX9_mark_2 14 rfl rfl)
theorem dX9_mark_63 : decode cX9_mark 63 = .ok (.iload 4, 2) := dk_21 4 (dk_at dksX9_mark_2 15 rfl rfl)
theorem dX9_mark_65 : decode cX9_mark 65 = .ok (.invokevirtual 471, 3) := dk_182 1 215 (dk_at dksX9_mark_2 17 rfl rfl)
theorem dX9_mark_68 : decode cX9_mark 68 = .ok (.aload_n 0, 1) := dk_42 (dk_at dksX9_mark_2 20 rfl rfl)
theorem dX9_mark_69 : decode cX9_mark 69 = .ok (.iload_n 3, 1) := dk_29 (dk_at dksX9_mark_2 21 rfl rfl)
theorem dX9_mark_70 : decode cX9_mark 70 = .ok (.iload 4, 2) := dk_21 4 (dk_at dksX9_mark_2 22 rfl rfl)
theorem dX9_mark_72 : decode cX9_mark 72 = .ok (.invokevirtual 624, 3) := dk_182 2 112 (dk_at dksX9_mark_3 0 rfl rfl)
theorem dX9_mark_75 : decode cX9_mark 75 = .ok (.iload_n 2, 1) := dk_28 (dk_at dksX9_mark_3 3 rfl rfl)
theorem dX9_mark_76 : decode cX9_mark 76 = .ok (.ifCond .eq 27, 3) := dk_153 0 27 (dk_at dksX9_mark_3 4 rfl rfl)
theorem dX9_mark_79 : decode cX9_mark 79 = .ok (.aload_n 0, 1) := dk_42 (dk_at dksX9_mark_3 7 rfl rfl)
theorem dX9_mark_80 : decode cX9_mark 80 = .ok (.getfield 174, 3) := dk_180 0 174 (dk_at dksX9_mark_3 8 rfl rfl)
theorem dX9_mark_83 : decode cX9_mark 83 = .ok (.bipush 15, 2) := dk_16 15 (dk_at dksX9_mark_3 11 rfl rfl)
theorem dX9_mark_85 : decode cX9_mark 85 = .ok (.iload_n 1, 1) := dk_27 (dk_at dksX9_mark_3 13 rfl rfl)
theorem dX9_mark_86 : decode cX9_mark 86 = .ok (.imul, 1) := dk_104 (dk_at dksX9_mark_3 14 rfl rfl)
theorem dX9_mark_87 : decode cX9_mark 87 = .ok (.aload_n 0, 1) := dk_42 (dk_at dksX9_mark_3 15 rfl rfl)
theorem dX9_mark_88 : decode cX9_mark 88 = .ok (.getfield 168, 3) := dk_180 0 168 (dk_at dksX9_mark_3 16 rfl rfl)
theorem dX9_mark_91 : decode cX9_mark 91 = .ok (.iconst 0, 1) := dk_3 (dk_at dksX9_mark_3 19 rfl rfl)
theorem dX9_mark_92 : decode cX9_mark 92 = .ok (.invokestatic 522, 3) := dk_184 2 10 (dk_at dksX9_mark_3 20 rfl rfl)
theorem dX9_mark_95 : decode cX9_mark 95 = .ok (.aload_n 0, 1) := dk_42 (dk_at dksX9_mark_3 23 rfl rfl)
theorem dX9_mark_96 : decode cX9_mark 96 = .ok (.iconst 0, 1) := dk_3 (dk_at dksX9_mark_4 0 rfl rfl)
theorem dX9_mark_97 : decode cX9_mark 97 = .ok (.putfield 465, 3) := dk_181 1 209 (dk_at dksX9_mark_4 1 rfl rfl)
theorem dX9_mark_100 : decode cX9_mark 100 = .ok (.goto 19, 3) := dk_167 0 19 (dk_at dksX9_mark_4 4 rfl rfl)
theorem dX9_mark_103 : decode cX9_mark 103 = .ok (.aload_n 0, 1) := dk_42 (dk_at dksX9_mark_4 7 rfl rfl)
theorem dX9_mark_104 : decode cX9_mark 104 = .ok (.getfield 168, 3) := dk_180 0 168 (dk_at dksX9_mark_4 8 rfl rfl)
theorem dX9_mark_107 : decode cX9_mark 107 = .ok (.iconst 0, 1) := dk_3 (dk_at dksX9_mark_4 11 rfl rfl)
theorem dX9_mark_108 : decode cX9_mark 108 = .ok (.aload_n 0, 1) := dk_42 (dk_at dksX9_mark_4 12 rfl rfl)
theorem dX9_mark_109 : decode cX9_mark 109 = .ok (.getfield 174, 3) := dk_180 0 174 (dk_at dksX9_mark_4 13 rfl rfl)
theorem dX9_mark_112 : decode cX9_mark 112 = .ok (.bipush 15, 2) := dk_16 15 (dk_at dksX9_mark_4 16 rfl rfl)
theorem dX9_mark_114 : decode cX9_mark 114 = .ok (.iload_n 1, 1) := dk_27 (dk_at dksX9_mark_4 18 rfl rfl)
theorem dX9_mark_115 : decode cX9_mark 115 = .ok (.imul, 1) := dk_104 (dk_at dksX9_mark_4 19 rfl rfl)
theorem dX9_mark_116 : decode cX9_mark 116 = .ok (.invokestatic 522, 3) := dk_184 2 10 (dk_at dksX9_mark_4 20 rfl rfl)
theorem dX9_mark_119 : decode cX9_mark 119 = .ok (.iconst 1, 1) := dk_4 (dk_at dksX9_mark_4 23 rfl rfl)
theorem dX9_mark_120 : decode cX9_mark 120 = .ok (.ireturn, 1) := dk_172 (dk_at dksX9_mark_5 0 rfl rfl)
abbrev cX9_laysTold : ByteArray := prog_35_method_52_code
def yX9_laysTold : MethodName := ⟨RX9, "laysTold", "(II)V"⟩
def dkwX9_laysTold_4 : List UInt8 := [29, 96, 42, 180, 0, 165, 16, 12, 27, 104, 29, 96, 51, 84, 132, 3, 1, 167, 255, 181, 177]
abbrev dktX9_laysTold_4 : List UInt8 := dkwX9_laysTold_4 ++ []
def dkwX9_laysTold_3 : List UInt8 := [28, 104, 29, 96, 42, 180, 0, 162, 16, 12, 27, 104, 29, 96, 46, 79, 42, 180, 0, 165, 16, 12, 28, 104]
abbrev dktX9_laysTold_3 : List UInt8 := dkwX9_laysTold_3 ++ dktX9_laysTold_4
def dkwX9_laysTold_2 : List UInt8 := [16, 12, 28, 104, 29, 96, 42, 180, 0, 159, 16, 12, 27, 104, 29, 96, 46, 79, 42, 180, 0, 162, 16, 12]
abbrev dktX9_laysTold_2 : List UInt8 := dkwX9_laysTold_2 ++ dktX9_laysTold_3
def dkwX9_laysTold_1 : List UInt8 := [42, 180, 0, 156, 28, 42, 180, 0, 156, 27, 46, 79, 3, 62, 29, 16, 12, 162, 0, 75, 42, 180, 0, 159]
abbrev dktX9_laysTold_1 : List UInt8 := dkwX9_laysTold_1 ++ dktX9_laysTold_2
def dkwX9_laysTold_0 : List UInt8 := [42, 180, 0, 150, 28, 42, 180, 0, 150, 27, 46, 79, 42, 180, 0, 153, 28, 42, 180, 0, 153, 27, 46, 79]
abbrev dktX9_laysTold_0 : List UInt8 := dkwX9_laysTold_0 ++ dktX9_laysTold_1
theorem dksX9_laysTold_0 : cX9_laysTold.data.toList.drop 0 = dktX9_laysTold_0 := by decide +kernel
theorem dksX9_laysTold_1 : cX9_laysTold.data.toList.drop 24 = dktX9_laysTold_1 := dk_seg dksX9_laysTold_0 24 rfl rfl
theorem dksX9_laysTold_2 : cX9_laysTold.data.toList.drop 48 = dktX9_laysTold_2 := dk_seg dksX9_laysTold_1 24 rfl rfl
theorem dksX9_laysTold_3 : cX9_laysTold.data.toList.drop 72 = dktX9_laysTold_3 := dk_seg dksX9_laysTold_2 24 rfl rfl
theorem dksX9_laysTold_4 : cX9_laysTold.data.toList.drop 96 = dktX9_laysTold_4 := dk_seg dksX9_laysTold_3 24 rfl rfl
theorem dX9_laysTold_0 : decode cX9_laysTold 0 = .ok (.aload_n 0, 1) := dk_42 (dk_at dksX9_laysTold_0 0 rfl rfl)
theorem dX9_laysTold_1 : decode cX9_laysTold 1 = .ok (.getfield 150, 3) := dk_180 0 150 (dk_at dksX9_laysTold_0 1 rfl rfl)
theorem dX9_laysTold_4 : decode cX9_laysTold 4 = .ok (.iload_n 2, 1) := dk_28 (dk_at dksX9_laysTold_0 4 rfl rfl)
theorem dX9_laysTold_5 : decode cX9_laysTold 5 = .ok (.aload_n 0, 1) := dk_42 (dk_at dksX9_laysTold_0 5 rfl rfl)
theorem dX9_laysTold_6 : decode cX9_laysTold 6 = .ok (.getfield 150, 3) := dk_180 0 150 (dk_at dksX9_laysTold_0 6 rfl rfl)
theorem dX9_laysTold_9 : decode cX9_laysTold 9 = .ok (.iload_n 1, 1) := dk_27 (dk_at dksX9_laysTold_0 9 rfl rfl)
theorem dX9_laysTold_10 : decode cX9_laysTold 10 = .ok (.iaload, 1) := dk_46 (dk_at dksX9_laysTold_0 10 rfl rfl)
theorem dX9_laysTold_11 : decode cX9_laysTold 11 = .ok (.iastore, 1) := dk_79 (dk_at dksX9_laysTold_0 11 rfl rfl)
theorem dX9_laysTold_12 : decode cX9_laysTold 12 = .ok (.aload_n 0, 1) := dk_42 (dk_at dksX9_laysTold_0 12 rfl rfl)
theorem dX9_laysTold_13 : decode cX9_laysTold 13 = .ok (.getfield 153, 3) := dk_180 0 153 (dk_at dksX9_laysTold_0 13 rfl rfl)
theorem dX9_laysTold_16 : decode cX9_laysTold 16 = .ok (.iload_n 2, 1) := dk_28 (dk_at dksX9_laysTold_0 16 rfl rfl)
theorem dX9_laysTold_17 : decode cX9_laysTold 17 = .ok (.aload_n 0, 1) := dk_42 (dk_at dksX9_laysTold_0 17 rfl rfl)
theorem dX9_laysTold_18 : decode cX9_laysTold 18 = .ok (.getfield 153, 3) := dk_180 0 153 (dk_at dksX9_laysTold_0 18 rfl rfl)
theorem dX9_laysTold_21 : decode cX9_laysTold 21 = .ok (.iload_n 1, 1) := dk_27 (dk_at dksX9_laysTold_0 21 rfl rfl)
theorem dX9_laysTold_22 : decode cX9_laysTold 22 = .ok (.iaload, 1) := dk_46 (dk_at dksX9_laysTold_0 22 rfl rfl)
theorem dX9_laysTold_23 : decode cX9_laysTold 23 = .ok (.iastore, 1) := dk_79 (dk_at dksX9_laysTold_0 23 rfl rfl)
theorem dX9_laysTold_24 : decode cX9_laysTold 24 = .ok (.aload_n 0, 1) := dk_42 (dk_at dksX9_laysTold_1 0 rfl rfl)
theorem dX9_laysTold_25 : decode cX9_laysTold 25 = .ok (.getfield 156, 3) := dk_180 0 156 (dk_at dksX9_laysTold_1 1 rfl rfl)
theorem dX9_laysTold_28 : decode cX9_laysTold 28 = .ok (.iload_n 2, 1) := dk_28 (dk_at dksX9_laysTold_1 4 rfl rfl)
theorem dX9_laysTold_29 : decode cX9_laysTold 29 = .ok (.aload_n 0, 1) := dk_42 (dk_at dksX9_laysTold_1 5 rfl rfl)
theorem dX9_laysTold_30 : decode cX9_laysTold 30 = .ok (.getfield 156, 3) := dk_180 0 156 (dk_at dksX9_laysTold_1 6 rfl rfl)
theorem dX9_laysTold_33 : decode cX9_laysTold 33 = .ok (.iload_n 1, 1) := dk_27 (dk_at dksX9_laysTold_1 9 rfl rfl)
theorem dX9_laysTold_34 : decode cX9_laysTold 34 = .ok (.iaload, 1) := dk_46 (dk_at dksX9_laysTold_1 10 rfl rfl)
theorem dX9_laysTold_35 : decode cX9_laysTold 35 = .ok (.iastore, 1) := dk_79 (dk_at dksX9_laysTold_1 11 rfl rfl)
theorem dX9_laysTold_36 : decode cX9_laysTold 36 = .ok (.iconst 0, 1) := dk_3 (dk_at dksX9_laysTold_1 12 rfl rfl)
theorem dX9_laysTold_37 : decode cX9_laysTold 37 = .ok (.istore_n 3, 1) := dk_62 (dk_at dksX9_laysTold_1 13 rfl rfl)
theorem dX9_laysTold_38 : decode cX9_laysTold 38 = .ok (.iload_n 3, 1) := dk_29 (dk_at dksX9_laysTold_1 14 rfl rfl)
theorem dX9_laysTold_39 : decode cX9_laysTold 39 = .ok (.bipush 12, 2) := dk_16 12 (dk_at dksX9_laysTold_1 15 rfl rfl)
theorem dX9_laysTold_41 : decode cX9_laysTold 41 = .ok (.if_icmp .ge 75, 3) := dk_162 0 75 (dk_at dksX9_laysTold_1 17 rfl rfl)
theorem dX9_laysTold_44 : decode cX9_laysTold 44 = .ok (.aload_n 0, 1) := dk_42 (dk_at dksX9_laysTold_1 20 rfl rfl)
theorem dX9_laysTold_45 : decode cX9_laysTold 45 = .ok (.getfield 159, 3) := dk_180 0 159 (dk_at dksX9_laysTold_1 21 rfl rfl)
theorem dX9_laysTold_48 : decode cX9_laysTold 48 = .ok (.bipush 12, 2) := dk_16 12 (dk_at dksX9_laysTold_2 0 rfl rfl)
theorem dX9_laysTold_50 : decode cX9_laysTold 50 = .ok (.iload_n 2, 1) := dk_28 (dk_at dksX9_laysTold_2 2 rfl rfl)
theorem dX9_laysTold_51 : decode cX9_laysTold 51 = .ok (.imul, 1) := dk_104 (dk_at dksX9_laysTold_2 3 rfl rfl)
theorem dX9_laysTold_52 : decode cX9_laysTold 52 = .ok (.iload_n 3, 1) := dk_29 (dk_at dksX9_laysTold_2 4 rfl rfl)
theorem dX9_laysTold_53 : decode cX9_laysTold 53 = .ok (.iadd, 1) := dk_96 (dk_at dksX9_laysTold_2 5 rfl rfl)
theorem dX9_laysTold_54 : decode cX9_laysTold 54 = .ok (.aload_n 0, 1) := dk_42 (dk_at dksX9_laysTold_2 6 rfl rfl)
theorem dX9_laysTold_55 : decode cX9_laysTold 55 = .ok (.getfield 159, 3) := dk_180 0 159 (dk_at dksX9_laysTold_2 7 rfl rfl)
theorem dX9_laysTold_58 : decode cX9_laysTold 58 = .ok (.bipush 12, 2) := dk_16 12 (dk_at dksX9_laysTold_2 10 rfl rfl)
theorem dX9_laysTold_60 : decode cX9_laysTold 60 = .ok (.iload_n 1, 1) := dk_27 (dk_at dksX9_laysTold_2 12 rfl rfl)
theorem dX9_laysTold_61 : decode cX9_laysTold 61 = .ok (.imul, 1) := dk_104 (dk_at dksX9_laysTold_2 13 rfl rfl)
theorem dX9_laysTold_62 : decode cX9_laysTold 62 = .ok (.iload_n 3, 1) := dk_29 (dk_at dksX9_laysTold_2 14 rfl rfl)
theorem dX9_laysTold_63 : decode cX9_laysTold 63 = .ok (.iadd, 1) := dk_96 (dk_at dksX9_laysTold_2 15 rfl rfl)
theorem dX9_laysTold_64 : decode cX9_laysTold 64 = .ok (.iaload, 1) := dk_46 (dk_at dksX9_laysTold_2 16 rfl rfl)
theorem dX9_laysTold_65 : decode cX9_laysTold 65 = .ok (.iastore, 1) := dk_79 (dk_at dksX9_laysTold_2 17 rfl rfl)
theorem dX9_laysTold_66 : decode cX9_laysTold 66 = .ok (.aload_n 0, 1) := dk_42 (dk_at dksX9_laysTold_2 18 rfl rfl)
theorem dX9_laysTold_67 : decode cX9_laysTold 67 = .ok (.getfield 162, 3) := dk_180 0 162 (dk_at dksX9_laysTold_2 19 rfl rfl)
theorem dX9_laysTold_70 : decode cX9_laysTold 70 = .ok (.bipush 12, 2) := dk_16 12 (dk_at dksX9_laysTold_2 22 rfl rfl)
theorem dX9_laysTold_72 : decode cX9_laysTold 72 = .ok (.iload_n 2, 1) := dk_28 (dk_at dksX9_laysTold_3 0 rfl rfl)
theorem dX9_laysTold_73 : decode cX9_laysTold 73 = .ok (.imul, 1) := dk_104 (dk_at dksX9_laysTold_3 1 rfl rfl)
theorem dX9_laysTold_74 : decode cX9_laysTold 74 = .ok (.iload_n 3, 1) := dk_29 (dk_at dksX9_laysTold_3 2 rfl rfl)
theorem dX9_laysTold_75 : decode cX9_laysTold 75 = .ok (.iadd, 1) := dk_96 (dk_at dksX9_laysTold_3 3 rfl rfl)
theorem dX9_laysTold_76 : decode cX9_laysTold 76 = .ok (.aload_n 0, 1) := dk_42 (dk_at dksX9_laysTold_3 4 rfl rfl)
theorem dX9_laysTold_77 : decode cX9_laysTold 77 = .ok (.getfield 162, 3) := dk_180 0 162 (dk_at dksX9_laysTold_3 5 rfl rfl)
theorem dX9_laysTold_80 : decode cX9_laysTold 80 = .ok (.bipush 12, 2) := dk_16 12 (dk_at dksX9_laysTold_3 8 rfl rfl)
theorem dX9_laysTold_82 : decode cX9_laysTold 82 = .ok (.iload_n 1, 1) := dk_27 (dk_at dksX9_laysTold_3 10 rfl rfl)
theorem dX9_laysTold_83 : decode cX9_laysTold 83 = .ok (.imul, 1) := dk_104 (dk_at dksX9_laysTold_3 11 rfl rfl)
theorem dX9_laysTold_84 : decode cX9_laysTold 84 = .ok (.iload_n 3, 1) := dk_29 (dk_at dksX9_laysTold_3 12 rfl rfl)
theorem dX9_laysTold_85 : decode cX9_laysTold 85 = .ok (.iadd, 1) := dk_96 (dk_at dksX9_laysTold_3 13 rfl rfl)
theorem dX9_laysTold_86 : decode cX9_laysTold 86 = .ok (.iaload, 1) := dk_46 (dk_at dksX9_laysTold_3 14 rfl rfl)
theorem dX9_laysTold_87 : decode cX9_laysTold 87 = .ok (.iastore, 1) := dk_79 (dk_at dksX9_laysTold_3 15 rfl rfl)
theorem dX9_laysTold_88 : decode cX9_laysTold 88 = .ok (.aload_n 0, 1) := dk_42 (dk_at dksX9_laysTold_3 16 rfl rfl)
theorem dX9_laysTold_89 : decode cX9_laysTold 89 = .ok (.getfield 165, 3) := dk_180 0 165 (dk_at dksX9_laysTold_3 17 rfl rfl)
theorem dX9_laysTold_92 : decode cX9_laysTold 92 = .ok (.bipush 12, 2) := dk_16 12 (dk_at dksX9_laysTold_3 20 rfl rfl)
theorem dX9_laysTold_94 : decode cX9_laysTold 94 = .ok (.iload_n 2, 1) := dk_28 (dk_at dksX9_laysTold_3 22 rfl rfl)
theorem dX9_laysTold_95 : decode cX9_laysTold 95 = .ok (.imul, 1) := dk_104 (dk_at dksX9_laysTold_3 23 rfl rfl)
theorem dX9_laysTold_96 : decode cX9_laysTold 96 = .ok (.iload_n 3, 1) := dk_29 (dk_at dksX9_laysTold_4 0 rfl rfl)
theorem dX9_laysTold_97 : decode cX9_laysTold 97 = .ok (.iadd, 1) := dk_96 (dk_at dksX9_laysTold_4 1 rfl rfl)
theorem dX9_laysTold_98 : decode cX9_laysTold 98 = .ok (.aload_n 0, 1) := dk_42 (dk_at dksX9_laysTold_4 2 rfl rfl)
theorem dX9_laysTold_99 : decode cX9_laysTold 99 = .ok (.getfield 165, 3) := dk_180 0 165 (dk_at dksX9_laysTold_4 3 rfl rfl)
theorem dX9_laysTold_102 : decode cX9_laysTold 102 = .ok (.bipush 12, 2) := dk_16 12 (dk_at dksX9_laysTold_4 6 rfl rfl)
theorem dX9_laysTold_104 : decode cX9_laysTold 104 = .ok (.iload_n 1, 1) := dk_27 (dk_at dksX9_laysTold_4 8 rfl rfl)
theorem dX9_laysTold_105 : decode cX9_laysTold 105 = .ok (.imul, 1) := dk_104 (dk_at dksX9_laysTold_4 9 rfl rfl)
theorem dX9_laysTold_106 : decode cX9_laysTold 106 = .ok (.iload_n 3, 1) := dk_29 (dk_at dksX9_laysTold_4 10 rfl rfl)
theorem dX9_laysTold_107 : decode cX9_laysTold 107 = .ok (.iadd, 1) := dk_96 (dk_at dksX9_laysTold_4 11 rfl rfl)
theorem dX9_laysTold_108 : decode cX9_laysTold 108 = .ok (.baload, 1) := dk_51 (dk_at dksX9_laysTold_4 12 rfl rfl)
theorem dX9_laysTold_109 : decode cX9_laysTold 109 = .ok (.bastore, 1) := dk_84 (dk_at dksX9_laysTold_4 13 rfl rfl)
theorem dX9_laysTold_110 : decode cX9_laysTold 110 = .ok (.iinc 3 1, 3) := dk_132 3 1 (dk_at dksX9_laysTold_4 14 rfl rfl)
theorem dX9_laysTold_113 : decode cX9_laysTold 113 = .ok (.goto (-75), 3) := dk_167 255 181 (dk_at dksX9_laysTold_4 17 rfl rfl)
theorem dX9_laysTold_116 : decode cX9_laysTold 116 = .ok (.return_, 1) := dk_177 (dk_at dksX9_laysTold_4 20 rfl rfl)
abbrev cX9_count : ByteArray := prog_35_method_109_code
def yX9_count : MethodName := ⟨RX9, "count", "(I)I"⟩
def dkwX9_count_6 : List UInt8 := [160, 0, 10, 42, 180, 0, 218, 167, 0, 9, 42, 180, 0, 168, 6, 46, 172]
abbrev dktX9_count_6 : List UInt8 := dkwX9_count_6 ++ []
def dkwX9_count_5 : List UInt8 := [180, 0, 156, 3, 46, 172, 27, 16, 12, 160, 0, 10, 42, 180, 1, 209, 167, 0, 22, 27, 16, 13]
abbrev dktX9_count_5 : List UInt8 := dkwX9_count_5 ++ dktX9_count_6
def dkwX9_count_4 : List UInt8 := [167, 0, 27, 27, 16, 10, 160, 0, 15, 42, 180, 0, 150, 3, 46, 184, 2, 109, 167, 0, 9, 42]
abbrev dktX9_count_4 : List UInt8 := dkwX9_count_4 ++ dktX9_count_5
def dkwX9_count_3 : List UInt8 := [180, 0, 168, 7, 46, 172, 27, 16, 12, 162, 0, 43, 27, 16, 9, 160, 0, 12, 42, 180, 0, 138, 3, 46]
abbrev dktX9_count_3 : List UInt8 := dkwX9_count_3 ++ dktX9_count_4
def dkwX9_count_2 : List UInt8 := [184, 2, 109, 167, 0, 24, 27, 16, 7, 160, 0, 12, 42, 180, 0, 168, 5, 46, 167, 0, 9, 42]
abbrev dktX9_count_2 : List UInt8 := dkwX9_count_2 ++ dktX9_count_3
def dkwX9_count_1 : List UInt8 := [180, 0, 13, 27, 46, 172, 27, 16, 9, 162, 0, 43, 27, 16, 6, 160, 0, 15, 42, 180, 0, 168, 3, 46]
abbrev dktX9_count_1 : List UInt8 := dkwX9_count_1 ++ dktX9_count_2
def dkwX9_count_0 : List UInt8 := [42, 3, 181, 0, 212, 27, 3, 16, 14, 184, 1, 95, 154, 0, 5, 2, 172, 27, 16, 6, 162, 0, 10, 42]
abbrev dktX9_count_0 : List UInt8 := dkwX9_count_0 ++ dktX9_count_1
theorem dksX9_count_0 : cX9_count.data.toList.drop 0 = dktX9_count_0 := by decide +kernel
theorem dksX9_count_1 : cX9_count.data.toList.drop 24 = dktX9_count_1 := dk_seg dksX9_count_0 24 rfl rfl
theorem dksX9_count_2 : cX9_count.data.toList.drop 48 = dktX9_count_2 := dk_seg dksX9_count_1 24 rfl rfl
theorem dksX9_count_3 : cX9_count.data.toList.drop 70 = dktX9_count_3 := dk_seg dksX9_count_2 22 rfl rfl
theorem dksX9_count_4 : cX9_count.data.toList.drop 94 = dktX9_count_4 := dk_seg dksX9_count_3 24 rfl rfl
theorem dksX9_count_5 : cX9_count.data.toList.drop 116 = dktX9_count_5 := dk_seg dksX9_count_4 22 rfl rfl
theorem dksX9_count_6 : cX9_count.data.toList.drop 138 = dktX9_count_6 := dk_seg dksX9_count_5 22 rfl rfl
theorem dX9_count_0 : decode cX9_count 0 = .ok (.aload_n 0, 1) := dk_42 (dk_at dksX9_count_0 0 rfl rfl)
theorem dX9_count_1 : decode cX9_count 1 = .ok (.iconst 0, 1) := dk_3 (dk_at dksX9_count_0 1 rfl rfl)
theorem dX9_count_2 : decode cX9_count 2 = .ok (.putfield 212, 3) := dk_181 0 212 (dk_at dksX9_count_0 2 rfl rfl)
theorem dX9_count_5 : decode cX9_count 5 = .ok (.iload_n 1, 1) := dk_27 (dk_at dksX9_count_0 5 rfl rfl)
theorem dX9_count_6 : decode cX9_count 6 = .ok (.iconst 0, 1) := dk_3 (dk_at dksX9_count_0 6 rfl rfl)
theorem dX9_count_7 : decode cX9_count 7 = .ok (.bipush 14, 2) := dk_16 14 (dk_at dksX9_count_0 7 rfl rfl)
theorem dX9_count_9 : decode cX9_count 9 = .ok (.invokestatic 351, 3) := dk_184 1 95 (dk_at dksX9_count_0 9 rfl rfl)
theorem dX9_count_12 : decode cX9_count 12 = .ok (.ifCond .ne 5, 3) := dk_154 0 5 (dk_at dksX9_count_0 12 rfl rfl)
theorem dX9_count_15 : decode cX9_count 15 = .ok (.iconst (-1), 1) := dk_2 (dk_at dksX9_count_0 15 rfl rfl)
theorem dX9_count_16 : decode cX9_count 16 = .ok (.ireturn, 1) := dk_172 (dk_at dksX9_count_0 16 rfl rfl)
theorem dX9_count_17 : decode cX9_count 17 = .ok (.iload_n 1, 1) := dk_27 (dk_at dksX9_count_0 17 rfl rfl)
theorem dX9_count_18 : decode cX9_count 18 = .ok (.bipush 6, 2) := dk_16 6 (dk_at dksX9_count_0 18 rfl rfl)
theorem dX9_count_20 : decode cX9_count 20 = .ok (.if_icmp .ge 10, 3) := dk_162 0 10 (dk_at dksX9_count_0 20 rfl rfl)
theorem dX9_count_23 : decode cX9_count 23 = .ok (.aload_n 0, 1) := dk_42 (dk_at dksX9_count_0 23 rfl rfl)
theorem dX9_count_24 : decode cX9_count 24 = .ok (.getfield 13, 3) := dk_180 0 13 (dk_at dksX9_count_1 0 rfl rfl)
theorem dX9_count_27 : decode cX9_count 27 = .ok (.iload_n 1, 1) := dk_27 (dk_at dksX9_count_1 3 rfl rfl)
theorem dX9_count_28 : decode cX9_count 28 = .ok (.iaload, 1) := dk_46 (dk_at dksX9_count_1 4 rfl rfl)
theorem dX9_count_29 : decode cX9_count 29 = .ok (.ireturn, 1) := dk_172 (dk_at dksX9_count_1 5 rfl rfl)
theorem dX9_count_30 : decode cX9_count 30 = .ok (.iload_n 1, 1) := dk_27 (dk_at dksX9_count_1 6 rfl rfl)
theorem dX9_count_31 : decode cX9_count 31 = .ok (.bipush 9, 2) := dk_16 9 (dk_at dksX9_count_1 7 rfl rfl)
theorem dX9_count_33 : decode cX9_count 33 = .ok (.if_icmp .ge 43, 3) := dk_162 0 43 (dk_at dksX9_count_1 9 rfl rfl)
theorem dX9_count_36 : decode cX9_count 36 = .ok (.iload_n 1, 1) := dk_27 (dk_at dksX9_count_1 12 rfl rfl)
theorem dX9_count_37 : decode cX9_count 37 = .ok (.bipush 6, 2) := dk_16 6 (dk_at dksX9_count_1 13 rfl rfl)
theorem dX9_count_39 : decode cX9_count 39 = .ok (.if_icmp .ne 15, 3) := dk_160 0 15 (dk_at dksX9_count_1 15 rfl rfl)
theorem dX9_count_42 : decode cX9_count 42 = .ok (.aload_n 0, 1) := dk_42 (dk_at dksX9_count_1 18 rfl rfl)
theorem dX9_count_43 : decode cX9_count 43 = .ok (.getfield 168, 3) := dk_180 0 168 (dk_at dksX9_count_1 19 rfl rfl)
theorem dX9_count_46 : decode cX9_count 46 = .ok (.iconst 0, 1) := dk_3 (dk_at dksX9_count_1 22 rfl rfl)
theorem dX9_count_47 : decode cX9_count 47 = .ok (.iaload, 1) := dk_46 (dk_at dksX9_count_1 23 rfl rfl)
theorem dX9_count_48 : decode cX9_count 48 = .ok (.invokestatic 621, 3) := dk_184 2 109 (dk_at dksX9_count_2 0 rfl rfl)
theorem dX9_count_51 : decode cX9_count 51 = .ok (.goto 24, 3) := dk_167 0 24 (dk_at dksX9_count_2 3 rfl rfl)
theorem dX9_count_54 : decode cX9_count 54 = .ok (.iload_n 1, 1) := dk_27 (dk_at dksX9_count_2 6 rfl rfl)
theorem dX9_count_55 : decode cX9_count 55 = .ok (.bipush 7, 2) := dk_16 7 (dk_at dksX9_count_2 7 rfl rfl)
theorem dX9_count_57 : decode cX9_count 57 = .ok (.if_icmp .ne 12, 3) := dk_160 0 12 (dk_at dksX9_count_2 9 rfl rfl)
theorem dX9_count_60 : decode cX9_count 60 = .ok (.aload_n 0, 1) := dk_42 (dk_at dksX9_count_2 12 rfl rfl)
theorem dX9_count_61 : decode cX9_count 61 = .ok (.getfield 168, 3) := dk_180 0 168 (dk_at dksX9_count_2 13 rfl rfl)
theorem dX9_count_64 : decode cX9_count 64 = .ok (.iconst 2, 1) := dk_5 (dk_at dksX9_count_2 16 rfl rfl)
theorem dX9_count_65 : decode cX9_count 65 = .ok (.iaload, 1) := dk_46 (dk_at dksX9_count_2 17 rfl rfl)
theorem dX9_count_66 : decode cX9_count 66 = .ok (.goto 9, 3) := dk_167 0 9 (dk_at dksX9_count_2 18 rfl rfl)
theorem dX9_count_69 : decode cX9_count 69 = .ok (.aload_n 0, 1) := dk_42 (dk_at dksX9_count_2 21 rfl rfl)
theorem dX9_count_70 : decode cX9_count 70 = .ok (.getfield 168, 3) := dk_180 0 168 (dk_at dksX9_count_3 0 rfl rfl)
theorem dX9_count_73 : decode cX9_count 73 = .ok (.iconst 4, 1) := dk_7 (dk_at dksX9_count_3 3 rfl rfl)
theorem dX9_count_74 : decode cX9_count 74 = .ok (.iaload, 1) := dk_46 (dk_at dksX9_count_3 4 rfl rfl)
theorem dX9_count_75 : decode cX9_count 75 = .ok (.ireturn, 1) := dk_172 (dk_at dksX9_count_3 5 rfl rfl)
theorem dX9_count_76 : decode cX9_count 76 = .ok (.iload_n 1, 1) := dk_27 (dk_at dksX9_count_3 6 rfl rfl)
theorem dX9_count_77 : decode cX9_count 77 = .ok (.bipush 12, 2) := dk_16 12 (dk_at dksX9_count_3 7 rfl rfl)
theorem dX9_count_79 : decode cX9_count 79 = .ok (.if_icmp .ge 43, 3) := dk_162 0 43 (dk_at dksX9_count_3 9 rfl rfl)
theorem dX9_count_82 : decode cX9_count 82 = .ok (.iload_n 1, 1) := dk_27 (dk_at dksX9_count_3 12 rfl rfl)
theorem dX9_count_83 : decode cX9_count 83 = .ok (.bipush 9, 2) := dk_16 9 (dk_at dksX9_count_3 13 rfl rfl)
theorem dX9_count_85 : decode cX9_count 85 = .ok (.if_icmp .ne 12, 3) := dk_160 0 12 (dk_at dksX9_count_3 15 rfl rfl)
theorem dX9_count_88 : decode cX9_count 88 = .ok (.aload_n 0, 1) := dk_42 (dk_at dksX9_count_3 18 rfl rfl)
theorem dX9_count_89 : decode cX9_count 89 = .ok (.getfield 138, 3) := dk_180 0 138 (dk_at dksX9_count_3 19 rfl rfl)
theorem dX9_count_92 : decode cX9_count 92 = .ok (.iconst 0, 1) := dk_3 (dk_at dksX9_count_3 22 rfl rfl)
theorem dX9_count_93 : decode cX9_count 93 = .ok (.iaload, 1) := dk_46 (dk_at dksX9_count_3 23 rfl rfl)
theorem dX9_count_94 : decode cX9_count 94 = .ok (.goto 27, 3) := dk_167 0 27 (dk_at dksX9_count_4 0 rfl rfl)
theorem dX9_count_97 : decode cX9_count 97 = .ok (.iload_n 1, 1) := dk_27 (dk_at dksX9_count_4 3 rfl rfl)
theorem dX9_count_98 : decode cX9_count 98 = .ok (.bipush 10, 2) := dk_16 10 (dk_at dksX9_count_4 4 rfl rfl)
theorem dX9_count_100 : decode cX9_count 100 = .ok (.if_icmp .ne 15, 3) := dk_160 0 15 (dk_at dksX9_count_4 6 rfl rfl)
theorem dX9_count_103 : decode cX9_count 103 = .ok (.aload_n 0, 1) := dk_42 (dk_at dksX9_count_4 9 rfl rfl)
theorem dX9_count_104 : decode cX9_count 104 = .ok (.getfield 150, 3) := dk_180 0 150 (dk_at dksX9_count_4 10 rfl rfl)
theorem dX9_count_107 : decode cX9_count 107 = .ok (.iconst 0, 1) := dk_3 (dk_at dksX9_count_4 13 rfl rfl)
theorem dX9_count_108 : decode cX9_count 108 = .ok (.iaload, 1) := dk_46 (dk_at dksX9_count_4 14 rfl rfl)
theorem dX9_count_109 : decode cX9_count 109 = .ok (.invokestatic 621, 3) := dk_184 2 109 (dk_at dksX9_count_4 15 rfl rfl)
theorem dX9_count_112 : decode cX9_count 112 = .ok (.goto 9, 3) := dk_167 0 9 (dk_at dksX9_count_4 18 rfl rfl)
theorem dX9_count_115 : decode cX9_count 115 = .ok (.aload_n 0, 1) := dk_42 (dk_at dksX9_count_4 21 rfl rfl)
theorem dX9_count_116 : decode cX9_count 116 = .ok (.getfield 156, 3) := dk_180 0 156 (dk_at dksX9_count_5 0 rfl rfl)
theorem dX9_count_119 : decode cX9_count 119 = .ok (.iconst 0, 1) := dk_3 (dk_at dksX9_count_5 3 rfl rfl)
theorem dX9_count_120 : decode cX9_count 120 = .ok (.iaload, 1) := dk_46 (dk_at dksX9_count_5 4 rfl rfl)
theorem dX9_count_121 : decode cX9_count 121 = .ok (.ireturn, 1) := dk_172 (dk_at dksX9_count_5 5 rfl rfl)
theorem dX9_count_122 : decode cX9_count 122 = .ok (.iload_n 1, 1) := dk_27 (dk_at dksX9_count_5 6 rfl rfl)
theorem dX9_count_123 : decode cX9_count 123 = .ok (.bipush 12, 2) := dk_16 12 (dk_at dksX9_count_5 7 rfl rfl)
theorem dX9_count_125 : decode cX9_count 125 = .ok (.if_icmp .ne 10, 3) := dk_160 0 10 (dk_at dksX9_count_5 9 rfl rfl)
theorem dX9_count_128 : decode cX9_count 128 = .ok (.aload_n 0, 1) := dk_42 (dk_at dksX9_count_5 12 rfl rfl)
theorem dX9_count_129 : decode cX9_count 129 = .ok (.getfield 465, 3) := dk_180 1 209 (dk_at dksX9_count_5 13 rfl rfl)
theorem dX9_count_132 : decode cX9_count 132 = .ok (.goto 22, 3) := dk_167 0 22 (dk_at dksX9_count_5 16 rfl rfl)
theorem dX9_count_135 : decode cX9_count 135 = .ok (.iload_n 1, 1) := dk_27 (dk_at dksX9_count_5 19 rfl rfl)
theorem dX9_count_136 : decode cX9_count 136 = .ok (.bipush 13, 2) := dk_16 13 (dk_at dksX9_count_5 20 rfl rfl)
theorem dX9_count_138 : decode cX9_count 138 = .ok (.if_icmp .ne 10, 3) := dk_160 0 10 (dk_at dksX9_count_6 0 rfl rfl)
theorem dX9_count_141 : decode cX9_count 141 = .ok (.aload_n 0, 1) := dk_42 (dk_at dksX9_count_6 3 rfl rfl)
theorem dX9_count_142 : decode cX9_count 142 = .ok (.getfield 218, 3) := dk_180 0 218 (dk_at dksX9_count_6 4 rfl rfl)
theorem dX9_count_145 : decode cX9_count 145 = .ok (.goto 9, 3) := dk_167 0 9 (dk_at dksX9_count_6 7 rfl rfl)
theorem dX9_count_148 : decode cX9_count 148 = .ok (.aload_n 0, 1) := dk_42 (dk_at dksX9_count_6 10 rfl rfl)
theorem dX9_count_149 : decode cX9_count 149 = .ok (.getfield 168, 3) := dk_180 0 168 (dk_at dksX9_count_6 11 rfl rfl)
theorem dX9_count_152 : decode cX9_count 152 = .ok (.iconst 3, 1) := dk_6 (dk_at dksX9_count_6 14 rfl rfl)
theorem dX9_count_153 : decode cX9_count 153 = .ok (.iaload, 1) := dk_46 (dk_at dksX9_count_6 15 rfl rfl)
theorem dX9_count_154 : decode cX9_count 154 = .ok (.ireturn, 1) := dk_172 (dk_at dksX9_count_6 16 rfl rfl)
theorem q137 : (Jvm.Cond.initialized "NameOrchardModel") ∈ lw_all := lw_g (lw_at lw_m1 14 rfl) rfl
theorem q964 : (Jvm.Cond.selects "NameOrchardModel" ({ cls := "java/lang/Object", name := "getClass", desc := "()Ljava/lang/Class;" } : Jvm.MethodName) ({ cls := "java/lang/Object", name := "getClass", desc := "()Ljava/lang/Class;" } : Jvm.MethodName)) ∈ lw_all := lw_g (lw_at lw_m4 121 rfl) rfl
theorem q1853 : (Jvm.Cond.instantiable "NameOrchardModel" (87 : Nat)) ∈ lw_all := lw_g (lw_at lw_m8 50 rfl) rfl
theorem q1855 : (Jvm.Cond.instanceMethod ({ cls := "NameOrchardModel", name := "<init>", desc := "()V" } : Jvm.MethodName)) ∈ lw_all := lw_g (lw_at lw_m8 52 rfl) rfl
theorem q1856 : (Jvm.Cond.code ({ cls := "NameOrchardModel", name := "<init>", desc := "()V" } : Jvm.MethodName) prog_35_method_1_code (1 : Nat) (Option.none : Option Jvm.ClassFile.FieldType)) ∈ lw_all := lw_g (lw_at lw_m8 53 rfl) rfl
theorem q1857 : (Jvm.Cond.methodLink "NameOrchardModel" (1 : Nat) ({ cls := "java/lang/Object", name := "<init>", desc := "()V" } : Jvm.MethodName)) ∈ lw_all := lw_g (lw_at lw_m8 54 rfl) rfl
theorem q1858 : (Jvm.Cond.constant "NameOrchardModel" (195 : Nat) (59100 : Int32)) ∈ lw_all := lw_g (lw_at lw_m8 55 rfl) rfl
theorem q1859 : (Jvm.Cond.constant "NameOrchardModel" (199 : Nat) (32768 : Int32)) ∈ lw_all := lw_g (lw_at lw_m8 56 rfl) rfl
theorem q1860 : (Jvm.Cond.fieldLink "NameOrchardModel" (212 : Nat) "NameOrchardModel" "thrown" "I") ∈ lw_all := lw_g (lw_at lw_m8 57 rfl) rfl
theorem q1861 : (Jvm.Cond.fieldLink "NameOrchardModel" (218 : Nat) "NameOrchardModel" "taped" "I") ∈ lw_all := lw_g (lw_at lw_m8 58 rfl) rfl
theorem q1862 : (Jvm.Cond.fieldLink "NameOrchardModel" (7 : Nat) "NameOrchardModel" "tape" "[I") ∈ lw_all := lw_g (lw_at lw_m8 59 rfl) rfl
theorem q1863 : (Jvm.Cond.fieldLink "NameOrchardModel" (221 : Nat) "NameOrchardModel" "size" "I") ∈ lw_all := lw_g (lw_at lw_m8 60 rfl) rfl
theorem q1864 : (Jvm.Cond.fieldLink "NameOrchardModel" (224 : Nat) "NameOrchardModel" "place" "I") ∈ lw_all := lw_g (lw_at lw_m8 61 rfl) rfl
theorem q1865 : (Jvm.Cond.fieldLink "NameOrchardModel" (227 : Nat) "NameOrchardModel" "begin" "I") ∈ lw_all := lw_g (lw_at lw_m8 62 rfl) rfl
theorem q1866 : (Jvm.Cond.fieldLink "NameOrchardModel" (237 : Nat) "NameOrchardModel" "token" "I") ∈ lw_all := lw_g (lw_at lw_m8 63 rfl) rfl
theorem q1867 : (Jvm.Cond.fieldLink "NameOrchardModel" (230 : Nat) "NameOrchardModel" "word" "J") ∈ lw_all := lw_g (lw_at lw_m8 64 rfl) rfl
theorem q1868 : (Jvm.Cond.fieldLink "NameOrchardModel" (234 : Nat) "NameOrchardModel" "told" "I") ∈ lw_all := lw_g (lw_at lw_m8 65 rfl) rfl
theorem q1869 : (Jvm.Cond.fieldLink "NameOrchardModel" (248 : Nat) "NameOrchardModel" "wrong" "I") ∈ lw_all := lw_g (lw_at lw_m8 66 rfl) rfl
theorem q1870 : (Jvm.Cond.fieldLink "NameOrchardModel" (13 : Nat) "NameOrchardModel" "orchard" "[I") ∈ lw_all := lw_g (lw_at lw_m8 67 rfl) rfl
theorem q1871 : (Jvm.Cond.fieldLink "NameOrchardModel" (16 : Nat) "NameOrchardModel" "soundName" "[J") ∈ lw_all := lw_g (lw_at lw_m8 68 rfl) rfl
theorem q1872 : (Jvm.Cond.fieldLink "NameOrchardModel" (20 : Nat) "NameOrchardModel" "personName" "[J") ∈ lw_all := lw_g (lw_at lw_m8 69 rfl) rfl
theorem q1873 : (Jvm.Cond.fieldLink "NameOrchardModel" (23 : Nat) "NameOrchardModel" "soundTold" "[I") ∈ lw_all := lw_g (lw_at lw_m8 70 rfl) rfl
theorem q1874 : (Jvm.Cond.fieldLink "NameOrchardModel" (26 : Nat) "NameOrchardModel" "sort" "[I") ∈ lw_all := lw_g (lw_at lw_m8 71 rfl) rfl
theorem q1875 : (Jvm.Cond.fieldLink "NameOrchardModel" (29 : Nat) "NameOrchardModel" "place0" "[I") ∈ lw_all := lw_g (lw_at lw_m8 72 rfl) rfl
theorem q1876 : (Jvm.Cond.fieldLink "NameOrchardModel" (32 : Nat) "NameOrchardModel" "rowAt" "[I") ∈ lw_all := lw_g (lw_at lw_m8 73 rfl) rfl
theorem q1877 : (Jvm.Cond.fieldLink "NameOrchardModel" (35 : Nat) "NameOrchardModel" "ripe" "[I") ∈ lw_all := lw_g (lw_at lw_m8 74 rfl) rfl
theorem q1878 : (Jvm.Cond.fieldLink "NameOrchardModel" (38 : Nat) "NameOrchardModel" "worthTold" "[I") ∈ lw_all := lw_g (lw_at lw_m8 75 rfl) rfl
theorem q1879 : (Jvm.Cond.fieldLink "NameOrchardModel" (41 : Nat) "NameOrchardModel" "twin" "[I") ∈ lw_all := lw_g (lw_at lw_m8 76 rfl) rfl
theorem q1880 : (Jvm.Cond.fieldLink "NameOrchardModel" (44 : Nat) "NameOrchardModel" "lane" "[I") ∈ lw_all := lw_g (lw_at lw_m8 77 rfl) rfl
theorem q1881 : (Jvm.Cond.fieldLink "NameOrchardModel" (47 : Nat) "NameOrchardModel" "loud" "[I") ∈ lw_all := lw_g (lw_at lw_m8 78 rfl) rfl
theorem q1882 : (Jvm.Cond.fieldLink "NameOrchardModel" (50 : Nat) "NameOrchardModel" "mute" "[I") ∈ lw_all := lw_g (lw_at lw_m8 79 rfl) rfl
theorem q1883 : (Jvm.Cond.fieldLink "NameOrchardModel" (53 : Nat) "NameOrchardModel" "strangerOf" "[I") ∈ lw_all := lw_g (lw_at lw_m8 80 rfl) rfl
theorem q1884 : (Jvm.Cond.fieldLink "NameOrchardModel" (56 : Nat) "NameOrchardModel" "strangerBy" "[I") ∈ lw_all := lw_g (lw_at lw_m8 81 rfl) rfl
theorem q1885 : (Jvm.Cond.fieldLink "NameOrchardModel" (59 : Nat) "NameOrchardModel" "pageOf" "[I") ∈ lw_all := lw_g (lw_at lw_m8 82 rfl) rfl
theorem q1886 : (Jvm.Cond.fieldLink "NameOrchardModel" (62 : Nat) "NameOrchardModel" "pageMany" "[I") ∈ lw_all := lw_g (lw_at lw_m8 83 rfl) rfl
theorem q1887 : (Jvm.Cond.fieldLink "NameOrchardModel" (65 : Nat) "NameOrchardModel" "bannA" "[I") ∈ lw_all := lw_g (lw_at lw_m8 84 rfl) rfl
theorem q1888 : (Jvm.Cond.fieldLink "NameOrchardModel" (68 : Nat) "NameOrchardModel" "bannB" "[I") ∈ lw_all := lw_g (lw_at lw_m8 85 rfl) rfl
theorem q1889 : (Jvm.Cond.fieldLink "NameOrchardModel" (71 : Nat) "NameOrchardModel" "lineFrom" "[I") ∈ lw_all := lw_g (lw_at lw_m8 86 rfl) rfl
theorem q1890 : (Jvm.Cond.fieldLink "NameOrchardModel" (74 : Nat) "NameOrchardModel" "lineTo" "[I") ∈ lw_all := lw_g (lw_at lw_m8 87 rfl) rfl
theorem q1891 : (Jvm.Cond.fieldLink "NameOrchardModel" (77 : Nat) "NameOrchardModel" "codes" "[I") ∈ lw_all := lw_g (lw_at lw_m8 88 rfl) rfl
theorem q1892 : (Jvm.Cond.fieldLink "NameOrchardModel" (251 : Nat) "NameOrchardModel" "code" "I") ∈ lw_all := lw_g (lw_at lw_m8 89 rfl) rfl
theorem q1893 : (Jvm.Cond.fieldLink "NameOrchardModel" (254 : Nat) "NameOrchardModel" "lawLine" "I") ∈ lw_all := lw_g (lw_at lw_m8 90 rfl) rfl
theorem q1894 : (Jvm.Cond.fieldLink "NameOrchardModel" (80 : Nat) "NameOrchardModel" "opened" "[I") ∈ lw_all := lw_g (lw_at lw_m8 91 rfl) rfl
theorem q1895 : (Jvm.Cond.fieldLink "NameOrchardModel" (83 : Nat) "NameOrchardModel" "compared" "[Z") ∈ lw_all := lw_g (lw_at lw_m8 92 rfl) rfl
theorem q1896 : (Jvm.Cond.fieldLink "NameOrchardModel" (87 : Nat) "NameOrchardModel" "kept" "[I") ∈ lw_all := lw_g (lw_at lw_m8 93 rfl) rfl
theorem q1897 : (Jvm.Cond.fieldLink "NameOrchardModel" (90 : Nat) "NameOrchardModel" "keptBy" "[I") ∈ lw_all := lw_g (lw_at lw_m8 94 rfl) rfl
theorem q1898 : (Jvm.Cond.fieldLink "NameOrchardModel" (93 : Nat) "NameOrchardModel" "ahead" "[I") ∈ lw_all := lw_g (lw_at lw_m8 95 rfl) rfl
theorem q1899 : (Jvm.Cond.fieldLink "NameOrchardModel" (96 : Nat) "NameOrchardModel" "against" "[I") ∈ lw_all := lw_g (lw_at lw_m8 96 rfl) rfl
theorem q1900 : (Jvm.Cond.fieldLink "NameOrchardModel" (99 : Nat) "NameOrchardModel" "sum" "[I") ∈ lw_all := lw_g (lw_at lw_m8 97 rfl) rfl
theorem q1901 : (Jvm.Cond.fieldLink "NameOrchardModel" (102 : Nat) "NameOrchardModel" "sumBy" "[I") ∈ lw_all := lw_g (lw_at lw_m8 98 rfl) rfl
theorem q1902 : (Jvm.Cond.fieldLink "NameOrchardModel" (105 : Nat) "NameOrchardModel" "term" "[I") ∈ lw_all := lw_g (lw_at lw_m8 99 rfl) rfl
theorem q1903 : (Jvm.Cond.fieldLink "NameOrchardModel" (108 : Nat) "NameOrchardModel" "termBy" "[I") ∈ lw_all := lw_g (lw_at lw_m8 100 rfl) rfl
theorem q1904 : (Jvm.Cond.fieldLink "NameOrchardModel" (111 : Nat) "NameOrchardModel" "byNot" "[I") ∈ lw_all := lw_g (lw_at lw_m8 101 rfl) rfl
theorem q1905 : (Jvm.Cond.fieldLink "NameOrchardModel" (114 : Nat) "NameOrchardModel" "valueOf" "[I") ∈ lw_all := lw_g (lw_at lw_m8 102 rfl) rfl
theorem q1906 : (Jvm.Cond.fieldLink "NameOrchardModel" (355 : Nat) "NameOrchardModel" "given" "I") ∈ lw_all := lw_g (lw_at lw_m8 103 rfl) rfl
theorem q1907 : (Jvm.Cond.fieldLink "NameOrchardModel" (117 : Nat) "NameOrchardModel" "edits" "[I") ∈ lw_all := lw_g (lw_at lw_m8 104 rfl) rfl
theorem q1908 : (Jvm.Cond.fieldLink "NameOrchardModel" (120 : Nat) "NameOrchardModel" "startOf" "[I") ∈ lw_all := lw_g (lw_at lw_m8 105 rfl) rfl
theorem q1909 : (Jvm.Cond.fieldLink "NameOrchardModel" (123 : Nat) "NameOrchardModel" "rhymeOf" "[I") ∈ lw_all := lw_g (lw_at lw_m8 106 rfl) rfl
theorem q1910 : (Jvm.Cond.fieldLink "NameOrchardModel" (126 : Nat) "NameOrchardModel" "isNear" "[Z") ∈ lw_all := lw_g (lw_at lw_m8 107 rfl) rfl
theorem q1911 : (Jvm.Cond.fieldLink "NameOrchardModel" (129 : Nat) "NameOrchardModel" "lettersA" "[I") ∈ lw_all := lw_g (lw_at lw_m8 108 rfl) rfl
theorem q1912 : (Jvm.Cond.fieldLink "NameOrchardModel" (132 : Nat) "NameOrchardModel" "lettersB" "[I") ∈ lw_all := lw_g (lw_at lw_m8 109 rfl) rfl
theorem q1913 : (Jvm.Cond.fieldLink "NameOrchardModel" (135 : Nat) "NameOrchardModel" "changes" "[I") ∈ lw_all := lw_g (lw_at lw_m8 110 rfl) rfl
theorem q1914 : (Jvm.Cond.fieldLink "NameOrchardModel" (138 : Nat) "NameOrchardModel" "lines" "[I") ∈ lw_all := lw_g (lw_at lw_m8 111 rfl) rfl
theorem q1915 : (Jvm.Cond.fieldLink "NameOrchardModel" (141 : Nat) "NameOrchardModel" "lineWhat" "[I") ∈ lw_all := lw_g (lw_at lw_m8 112 rfl) rfl
theorem q1916 : (Jvm.Cond.fieldLink "NameOrchardModel" (144 : Nat) "NameOrchardModel" "lineWho" "[I") ∈ lw_all := lw_g (lw_at lw_m8 113 rfl) rfl
theorem q1917 : (Jvm.Cond.fieldLink "NameOrchardModel" (147 : Nat) "NameOrchardModel" "lineOf" "[I") ∈ lw_all := lw_g (lw_at lw_m8 114 rfl) rfl
theorem q1918 : (Jvm.Cond.fieldLink "NameOrchardModel" (150 : Nat) "NameOrchardModel" "liesKnown" "[I") ∈ lw_all := lw_g (lw_at lw_m8 115 rfl) rfl
theorem q1919 : (Jvm.Cond.fieldLink "NameOrchardModel" (153 : Nat) "NameOrchardModel" "liesThere" "[I") ∈ lw_all := lw_g (lw_at lw_m8 116 rfl) rfl
theorem q1920 : (Jvm.Cond.fieldLink "NameOrchardModel" (156 : Nat) "NameOrchardModel" "tolds" "[I") ∈ lw_all := lw_g (lw_at lw_m8 117 rfl) rfl
theorem q1921 : (Jvm.Cond.fieldLink "NameOrchardModel" (159 : Nat) "NameOrchardModel" "toldCall" "[I") ∈ lw_all := lw_g (lw_at lw_m8 118 rfl) rfl
theorem q1922 : (Jvm.Cond.fieldLink "NameOrchardModel" (162 : Nat) "NameOrchardModel" "toldSound" "[I") ∈ lw_all := lw_g (lw_at lw_m8 119 rfl) rfl
theorem q1923 : (Jvm.Cond.fieldLink "NameOrchardModel" (165 : Nat) "NameOrchardModel" "toldNear" "[Z") ∈ lw_all := lw_g (lw_at lw_m8 120 rfl) rfl
theorem q1924 : (Jvm.Cond.fieldLink "NameOrchardModel" (168 : Nat) "NameOrchardModel" "s" "[I") ∈ lw_all := lw_g (lw_at lw_m8 121 rfl) rfl
theorem q1925 : (Jvm.Cond.fieldLink "NameOrchardModel" (171 : Nat) "NameOrchardModel" "aside" "[I") ∈ lw_all := lw_g (lw_at lw_m8 122 rfl) rfl
theorem q1926 : (Jvm.Cond.fieldLink "NameOrchardModel" (174 : Nat) "NameOrchardModel" "marked" "[I") ∈ lw_all := lw_g (lw_at lw_m8 123 rfl) rfl
theorem q1927 : (Jvm.Cond.fieldLink "NameOrchardModel" (177 : Nat) "NameOrchardModel" "undone" "[I") ∈ lw_all := lw_g (lw_at lw_m8 124 rfl) rfl
theorem q1928 : (Jvm.Cond.fieldLink "NameOrchardModel" (180 : Nat) "NameOrchardModel" "isLaid" "[Z") ∈ lw_all := lw_g (lw_at lw_m8 125 rfl) rfl
theorem q1929 : (Jvm.Cond.fieldLink "NameOrchardModel" (465 : Nat) "NameOrchardModel" "done" "I") ∈ lw_all := lw_g (lw_at lw_m8 126 rfl) rfl
theorem q1930 : (Jvm.Cond.fieldLink "NameOrchardModel" (493 : Nat) "NameOrchardModel" "wholly" "I") ∈ lw_all := lw_g (lw_at lw_m8 127 rfl) rfl
theorem q1931 : (Jvm.Cond.fieldLink "NameOrchardModel" (496 : Nat) "NameOrchardModel" "echo" "I") ∈ lw_all := lw_g (lw_at lw_m8 128 rfl) rfl
theorem q1932 : (Jvm.Cond.fieldLink "NameOrchardModel" (508 : Nat) "NameOrchardModel" "looseThen" "I") ∈ lw_all := lw_g (lw_at lw_m8 129 rfl) rfl
theorem q1933 : (Jvm.Cond.fieldLink "NameOrchardModel" (547 : Nat) "NameOrchardModel" "isGreen" "Z") ∈ lw_all := lw_g (lw_at lw_m8 130 rfl) rfl
theorem q1934 : (Jvm.Cond.fieldLink "NameOrchardModel" (183 : Nat) "NameOrchardModel" "heardBy" "[I") ∈ lw_all := lw_g (lw_at lw_m8 131 rfl) rfl
theorem q1935 : (Jvm.Cond.fieldLink "NameOrchardModel" (186 : Nat) "NameOrchardModel" "halfBy" "[I") ∈ lw_all := lw_g (lw_at lw_m8 132 rfl) rfl
theorem q1936 : (Jvm.Cond.fieldLink "NameOrchardModel" (189 : Nat) "NameOrchardModel" "callAs" "[I") ∈ lw_all := lw_g (lw_at lw_m8 133 rfl) rfl
theorem q1937 : (Jvm.Cond.fieldLink "NameOrchardModel" (557 : Nat) "NameOrchardModel" "callMany" "I") ∈ lw_all := lw_g (lw_at lw_m8 134 rfl) rfl
theorem q1938 : (Jvm.Cond.fieldLink "NameOrchardModel" (192 : Nat) "NameOrchardModel" "valueIn" "[I") ∈ lw_all := lw_g (lw_at lw_m8 135 rfl) rfl
theorem q1939 : (Jvm.Cond.fieldLink "NameOrchardModel" (564 : Nat) "NameOrchardModel" "firstCall" "I") ∈ lw_all := lw_g (lw_at lw_m8 136 rfl) rfl
theorem q1940 : (Jvm.Cond.fieldLink "NameOrchardModel" (196 : Nat) "NameOrchardModel" "stateOf" "[I") ∈ lw_all := lw_g (lw_at lw_m8 137 rfl) rfl
theorem q1941 : (Jvm.Cond.fieldLink "NameOrchardModel" (200 : Nat) "NameOrchardModel" "met" "[I") ∈ lw_all := lw_g (lw_at lw_m8 138 rfl) rfl
theorem q1942 : (Jvm.Cond.fieldLink "NameOrchardModel" (203 : Nat) "NameOrchardModel" "fallIn" "[I") ∈ lw_all := lw_g (lw_at lw_m8 139 rfl) rfl
theorem q1943 : (Jvm.Cond.fieldLink "NameOrchardModel" (206 : Nat) "NameOrchardModel" "order" "[I") ∈ lw_all := lw_g (lw_at lw_m8 140 rfl) rfl
theorem q1944 : (Jvm.Cond.fieldLink "NameOrchardModel" (209 : Nat) "NameOrchardModel" "bestOrder" "[I") ∈ lw_all := lw_g (lw_at lw_m8 141 rfl) rfl
theorem q1945 : (Jvm.Cond.fieldLink "NameOrchardModel" (597 : Nat) "NameOrchardModel" "bestLost" "I") ∈ lw_all := lw_g (lw_at lw_m8 142 rfl) rfl
theorem q1946 : (Jvm.Cond.fieldLink "NameOrchardModel" (604 : Nat) "NameOrchardModel" "g" "J") ∈ lw_all := lw_g (lw_at lw_m8 143 rfl) rfl
theorem q1947 : (Jvm.Cond.lays "NameOrchardModel" "NameOrchardModel" "thrown" "I") ∈ lw_all := lw_g (lw_at lw_m8 144 rfl) rfl
theorem q1948 : (Jvm.Cond.soleField "NameOrchardModel" "thrown") ∈ lw_all := lw_g (lw_at lw_m8 145 rfl) rfl
theorem q1949 : (Jvm.Cond.lays "NameOrchardModel" "NameOrchardModel" "taped" "I") ∈ lw_all := lw_g (lw_at lw_m8 146 rfl) rfl
theorem q1950 : (Jvm.Cond.soleField "NameOrchardModel" "taped") ∈ lw_all := lw_g (lw_at lw_m8 147 rfl) rfl
theorem q1951 : (Jvm.Cond.laysFinal "NameOrchardModel" "NameOrchardModel" "tape" "[I") ∈ lw_all := lw_g (lw_at lw_m8 148 rfl) rfl
theorem q1952 : (Jvm.Cond.soleField "NameOrchardModel" "tape") ∈ lw_all := lw_g (lw_at lw_m8 149 rfl) rfl
theorem q1953 : (Jvm.Cond.lays "NameOrchardModel" "NameOrchardModel" "size" "I") ∈ lw_all := lw_g (lw_at lw_m8 150 rfl) rfl
theorem q1954 : (Jvm.Cond.soleField "NameOrchardModel" "size") ∈ lw_all := lw_g (lw_at lw_m8 151 rfl) rfl
theorem q1955 : (Jvm.Cond.lays "NameOrchardModel" "NameOrchardModel" "place" "I") ∈ lw_all := lw_g (lw_at lw_m8 152 rfl) rfl
theorem q1956 : (Jvm.Cond.soleField "NameOrchardModel" "place") ∈ lw_all := lw_g (lw_at lw_m8 153 rfl) rfl
theorem q1957 : (Jvm.Cond.lays "NameOrchardModel" "NameOrchardModel" "begin" "I") ∈ lw_all := lw_g (lw_at lw_m8 154 rfl) rfl
theorem q1958 : (Jvm.Cond.soleField "NameOrchardModel" "begin") ∈ lw_all := lw_g (lw_at lw_m8 155 rfl) rfl
theorem q1959 : (Jvm.Cond.lays "NameOrchardModel" "NameOrchardModel" "token" "I") ∈ lw_all := lw_g (lw_at lw_m8 156 rfl) rfl
theorem q1960 : (Jvm.Cond.soleField "NameOrchardModel" "token") ∈ lw_all := lw_g (lw_at lw_m8 157 rfl) rfl
theorem q1961 : (Jvm.Cond.lays "NameOrchardModel" "NameOrchardModel" "word" "J") ∈ lw_all := lw_g (lw_at lw_m8 158 rfl) rfl
theorem q1962 : (Jvm.Cond.soleField "NameOrchardModel" "word") ∈ lw_all := lw_g (lw_at lw_m8 159 rfl) rfl
theorem q1963 : (Jvm.Cond.lays "NameOrchardModel" "NameOrchardModel" "told" "I") ∈ lw_all := lw_g (lw_at lw_m8 160 rfl) rfl
theorem q1964 : (Jvm.Cond.soleField "NameOrchardModel" "told") ∈ lw_all := lw_g (lw_at lw_m8 161 rfl) rfl
theorem q1965 : (Jvm.Cond.lays "NameOrchardModel" "NameOrchardModel" "wrong" "I") ∈ lw_all := lw_g (lw_at lw_m8 162 rfl) rfl
theorem q1966 : (Jvm.Cond.soleField "NameOrchardModel" "wrong") ∈ lw_all := lw_g (lw_at lw_m8 163 rfl) rfl
theorem q1967 : (Jvm.Cond.laysFinal "NameOrchardModel" "NameOrchardModel" "orchard" "[I") ∈ lw_all := lw_g (lw_at lw_m8 164 rfl) rfl
theorem q1968 : (Jvm.Cond.soleField "NameOrchardModel" "orchard") ∈ lw_all := lw_g (lw_at lw_m8 165 rfl) rfl
theorem q1969 : (Jvm.Cond.laysFinal "NameOrchardModel" "NameOrchardModel" "soundName" "[J") ∈ lw_all := lw_g (lw_at lw_m8 166 rfl) rfl
theorem q1970 : (Jvm.Cond.soleField "NameOrchardModel" "soundName") ∈ lw_all := lw_g (lw_at lw_m8 167 rfl) rfl
theorem q1971 : (Jvm.Cond.laysFinal "NameOrchardModel" "NameOrchardModel" "personName" "[J") ∈ lw_all := lw_g (lw_at lw_m8 168 rfl) rfl
theorem q1972 : (Jvm.Cond.soleField "NameOrchardModel" "personName") ∈ lw_all := lw_g (lw_at lw_m8 169 rfl) rfl
theorem q1973 : (Jvm.Cond.laysFinal "NameOrchardModel" "NameOrchardModel" "soundTold" "[I") ∈ lw_all := lw_g (lw_at lw_m8 170 rfl) rfl
theorem q1974 : (Jvm.Cond.soleField "NameOrchardModel" "soundTold") ∈ lw_all := lw_g (lw_at lw_m8 171 rfl) rfl
theorem q1975 : (Jvm.Cond.laysFinal "NameOrchardModel" "NameOrchardModel" "sort" "[I") ∈ lw_all := lw_g (lw_at lw_m8 172 rfl) rfl
theorem q1976 : (Jvm.Cond.soleField "NameOrchardModel" "sort") ∈ lw_all := lw_g (lw_at lw_m8 173 rfl) rfl
theorem q1977 : (Jvm.Cond.laysFinal "NameOrchardModel" "NameOrchardModel" "place0" "[I") ∈ lw_all := lw_g (lw_at lw_m8 174 rfl) rfl
theorem q1978 : (Jvm.Cond.soleField "NameOrchardModel" "place0") ∈ lw_all := lw_g (lw_at lw_m8 175 rfl) rfl
theorem q1979 : (Jvm.Cond.laysFinal "NameOrchardModel" "NameOrchardModel" "rowAt" "[I") ∈ lw_all := lw_g (lw_at lw_m8 176 rfl) rfl
theorem q1980 : (Jvm.Cond.soleField "NameOrchardModel" "rowAt") ∈ lw_all := lw_g (lw_at lw_m8 177 rfl) rfl
theorem q1981 : (Jvm.Cond.laysFinal "NameOrchardModel" "NameOrchardModel" "ripe" "[I") ∈ lw_all := lw_g (lw_at lw_m8 178 rfl) rfl
theorem q1982 : (Jvm.Cond.soleField "NameOrchardModel" "ripe") ∈ lw_all := lw_g (lw_at lw_m8 179 rfl) rfl
theorem q1983 : (Jvm.Cond.laysFinal "NameOrchardModel" "NameOrchardModel" "worthTold" "[I") ∈ lw_all := lw_g (lw_at lw_m8 180 rfl) rfl
theorem q1984 : (Jvm.Cond.soleField "NameOrchardModel" "worthTold") ∈ lw_all := lw_g (lw_at lw_m8 181 rfl) rfl
theorem q1985 : (Jvm.Cond.laysFinal "NameOrchardModel" "NameOrchardModel" "twin" "[I") ∈ lw_all := lw_g (lw_at lw_m8 182 rfl) rfl
theorem q1986 : (Jvm.Cond.soleField "NameOrchardModel" "twin") ∈ lw_all := lw_g (lw_at lw_m8 183 rfl) rfl
theorem q1987 : (Jvm.Cond.laysFinal "NameOrchardModel" "NameOrchardModel" "lane" "[I") ∈ lw_all := lw_g (lw_at lw_m8 184 rfl) rfl
theorem q1988 : (Jvm.Cond.soleField "NameOrchardModel" "lane") ∈ lw_all := lw_g (lw_at lw_m8 185 rfl) rfl
theorem q1989 : (Jvm.Cond.laysFinal "NameOrchardModel" "NameOrchardModel" "loud" "[I") ∈ lw_all := lw_g (lw_at lw_m8 186 rfl) rfl
theorem q1990 : (Jvm.Cond.soleField "NameOrchardModel" "loud") ∈ lw_all := lw_g (lw_at lw_m8 187 rfl) rfl
theorem q1991 : (Jvm.Cond.laysFinal "NameOrchardModel" "NameOrchardModel" "mute" "[I") ∈ lw_all := lw_g (lw_at lw_m8 188 rfl) rfl
theorem q1992 : (Jvm.Cond.soleField "NameOrchardModel" "mute") ∈ lw_all := lw_g (lw_at lw_m8 189 rfl) rfl
theorem q1993 : (Jvm.Cond.laysFinal "NameOrchardModel" "NameOrchardModel" "strangerOf" "[I") ∈ lw_all := lw_g (lw_at lw_m8 190 rfl) rfl
theorem q1994 : (Jvm.Cond.soleField "NameOrchardModel" "strangerOf") ∈ lw_all := lw_g (lw_at lw_m8 191 rfl) rfl
theorem q1995 : (Jvm.Cond.laysFinal "NameOrchardModel" "NameOrchardModel" "strangerBy" "[I") ∈ lw_all := lw_g (lw_at lw_m8 192 rfl) rfl
theorem q1996 : (Jvm.Cond.soleField "NameOrchardModel" "strangerBy") ∈ lw_all := lw_g (lw_at lw_m8 193 rfl) rfl
theorem q1997 : (Jvm.Cond.laysFinal "NameOrchardModel" "NameOrchardModel" "pageOf" "[I") ∈ lw_all := lw_g (lw_at lw_m8 194 rfl) rfl
theorem q1998 : (Jvm.Cond.soleField "NameOrchardModel" "pageOf") ∈ lw_all := lw_g (lw_at lw_m8 195 rfl) rfl
theorem q1999 : (Jvm.Cond.laysFinal "NameOrchardModel" "NameOrchardModel" "pageMany" "[I") ∈ lw_all := lw_g (lw_at lw_m8 196 rfl) rfl
theorem q2000 : (Jvm.Cond.soleField "NameOrchardModel" "pageMany") ∈ lw_all := lw_g (lw_at lw_m8 197 rfl) rfl
theorem q2001 : (Jvm.Cond.laysFinal "NameOrchardModel" "NameOrchardModel" "bannA" "[I") ∈ lw_all := lw_g (lw_at lw_m8 198 rfl) rfl
theorem q2002 : (Jvm.Cond.soleField "NameOrchardModel" "bannA") ∈ lw_all := lw_g (lw_at lw_m8 199 rfl) rfl
theorem q2003 : (Jvm.Cond.laysFinal "NameOrchardModel" "NameOrchardModel" "bannB" "[I") ∈ lw_all := lw_g (lw_at lw_m8 200 rfl) rfl
theorem q2004 : (Jvm.Cond.soleField "NameOrchardModel" "bannB") ∈ lw_all := lw_g (lw_at lw_m8 201 rfl) rfl
theorem q2005 : (Jvm.Cond.laysFinal "NameOrchardModel" "NameOrchardModel" "lineFrom" "[I") ∈ lw_all := lw_g (lw_at lw_m8 202 rfl) rfl
theorem q2006 : (Jvm.Cond.soleField "NameOrchardModel" "lineFrom") ∈ lw_all := lw_g (lw_at lw_m8 203 rfl) rfl
theorem q2007 : (Jvm.Cond.laysFinal "NameOrchardModel" "NameOrchardModel" "lineTo" "[I") ∈ lw_all := lw_g (lw_at lw_m8 204 rfl) rfl
theorem q2008 : (Jvm.Cond.soleField "NameOrchardModel" "lineTo") ∈ lw_all := lw_g (lw_at lw_m8 205 rfl) rfl
theorem q2009 : (Jvm.Cond.laysFinal "NameOrchardModel" "NameOrchardModel" "codes" "[I") ∈ lw_all := lw_g (lw_at lw_m8 206 rfl) rfl
theorem q2010 : (Jvm.Cond.soleField "NameOrchardModel" "codes") ∈ lw_all := lw_g (lw_at lw_m8 207 rfl) rfl
theorem q2011 : (Jvm.Cond.lays "NameOrchardModel" "NameOrchardModel" "code" "I") ∈ lw_all := lw_g (lw_at lw_m8 208 rfl) rfl
theorem q2012 : (Jvm.Cond.soleField "NameOrchardModel" "code") ∈ lw_all := lw_g (lw_at lw_m8 209 rfl) rfl
theorem q2013 : (Jvm.Cond.lays "NameOrchardModel" "NameOrchardModel" "lawLine" "I") ∈ lw_all := lw_g (lw_at lw_m8 210 rfl) rfl
theorem q2014 : (Jvm.Cond.soleField "NameOrchardModel" "lawLine") ∈ lw_all := lw_g (lw_at lw_m8 211 rfl) rfl
theorem q2015 : (Jvm.Cond.laysFinal "NameOrchardModel" "NameOrchardModel" "opened" "[I") ∈ lw_all := lw_g (lw_at lw_m8 212 rfl) rfl
theorem q2016 : (Jvm.Cond.soleField "NameOrchardModel" "opened") ∈ lw_all := lw_g (lw_at lw_m8 213 rfl) rfl
theorem q2017 : (Jvm.Cond.laysFinal "NameOrchardModel" "NameOrchardModel" "compared" "[Z") ∈ lw_all := lw_g (lw_at lw_m8 214 rfl) rfl
theorem q2018 : (Jvm.Cond.soleField "NameOrchardModel" "compared") ∈ lw_all := lw_g (lw_at lw_m8 215 rfl) rfl
theorem q2019 : (Jvm.Cond.laysFinal "NameOrchardModel" "NameOrchardModel" "kept" "[I") ∈ lw_all := lw_g (lw_at lw_m8 216 rfl) rfl
theorem q2020 : (Jvm.Cond.soleField "NameOrchardModel" "kept") ∈ lw_all := lw_g (lw_at lw_m8 217 rfl) rfl
theorem q2021 : (Jvm.Cond.laysFinal "NameOrchardModel" "NameOrchardModel" "keptBy" "[I") ∈ lw_all := lw_g (lw_at lw_m8 218 rfl) rfl
theorem q2022 : (Jvm.Cond.soleField "NameOrchardModel" "keptBy") ∈ lw_all := lw_g (lw_at lw_m8 219 rfl) rfl
theorem q2023 : (Jvm.Cond.laysFinal "NameOrchardModel" "NameOrchardModel" "ahead" "[I") ∈ lw_all := lw_g (lw_at lw_m8 220 rfl) rfl
theorem q2024 : (Jvm.Cond.soleField "NameOrchardModel" "ahead") ∈ lw_all := lw_g (lw_at lw_m8 221 rfl) rfl
theorem q2025 : (Jvm.Cond.laysFinal "NameOrchardModel" "NameOrchardModel" "against" "[I") ∈ lw_all := lw_g (lw_at lw_m8 222 rfl) rfl
theorem q2026 : (Jvm.Cond.soleField "NameOrchardModel" "against") ∈ lw_all := lw_g (lw_at lw_m8 223 rfl) rfl
theorem q2027 : (Jvm.Cond.laysFinal "NameOrchardModel" "NameOrchardModel" "sum" "[I") ∈ lw_all := lw_g (lw_at lw_m8 224 rfl) rfl
theorem q2028 : (Jvm.Cond.soleField "NameOrchardModel" "sum") ∈ lw_all := lw_g (lw_at lw_m8 225 rfl) rfl
theorem q2029 : (Jvm.Cond.laysFinal "NameOrchardModel" "NameOrchardModel" "sumBy" "[I") ∈ lw_all := lw_g (lw_at lw_m8 226 rfl) rfl
theorem q2030 : (Jvm.Cond.soleField "NameOrchardModel" "sumBy") ∈ lw_all := lw_g (lw_at lw_m8 227 rfl) rfl
theorem q2031 : (Jvm.Cond.laysFinal "NameOrchardModel" "NameOrchardModel" "term" "[I") ∈ lw_all := lw_g (lw_at lw_m8 228 rfl) rfl
theorem q2032 : (Jvm.Cond.soleField "NameOrchardModel" "term") ∈ lw_all := lw_g (lw_at lw_m8 229 rfl) rfl
theorem q2033 : (Jvm.Cond.laysFinal "NameOrchardModel" "NameOrchardModel" "termBy" "[I") ∈ lw_all := lw_g (lw_at lw_m8 230 rfl) rfl
theorem q2034 : (Jvm.Cond.soleField "NameOrchardModel" "termBy") ∈ lw_all := lw_g (lw_at lw_m8 231 rfl) rfl
theorem q2035 : (Jvm.Cond.laysFinal "NameOrchardModel" "NameOrchardModel" "byNot" "[I") ∈ lw_all := lw_g (lw_at lw_m8 232 rfl) rfl
theorem q2036 : (Jvm.Cond.soleField "NameOrchardModel" "byNot") ∈ lw_all := lw_g (lw_at lw_m8 233 rfl) rfl
theorem q2037 : (Jvm.Cond.laysFinal "NameOrchardModel" "NameOrchardModel" "valueOf" "[I") ∈ lw_all := lw_g (lw_at lw_m8 234 rfl) rfl
theorem q2038 : (Jvm.Cond.soleField "NameOrchardModel" "valueOf") ∈ lw_all := lw_g (lw_at lw_m8 235 rfl) rfl
theorem q2039 : (Jvm.Cond.lays "NameOrchardModel" "NameOrchardModel" "given" "I") ∈ lw_all := lw_g (lw_at lw_m8 236 rfl) rfl
theorem q2040 : (Jvm.Cond.soleField "NameOrchardModel" "given") ∈ lw_all := lw_g (lw_at lw_m8 237 rfl) rfl
theorem q2041 : (Jvm.Cond.laysFinal "NameOrchardModel" "NameOrchardModel" "edits" "[I") ∈ lw_all := lw_g (lw_at lw_m8 238 rfl) rfl
theorem q2042 : (Jvm.Cond.soleField "NameOrchardModel" "edits") ∈ lw_all := lw_g (lw_at lw_m8 239 rfl) rfl
theorem q2043 : (Jvm.Cond.laysFinal "NameOrchardModel" "NameOrchardModel" "startOf" "[I") ∈ lw_all := lw_g (lw_at lw_m9 0 rfl) rfl
theorem q2044 : (Jvm.Cond.soleField "NameOrchardModel" "startOf") ∈ lw_all := lw_g (lw_at lw_m9 1 rfl) rfl
theorem q2045 : (Jvm.Cond.laysFinal "NameOrchardModel" "NameOrchardModel" "rhymeOf" "[I") ∈ lw_all := lw_g (lw_at lw_m9 2 rfl) rfl
theorem q2046 : (Jvm.Cond.soleField "NameOrchardModel" "rhymeOf") ∈ lw_all := lw_g (lw_at lw_m9 3 rfl) rfl
theorem q2047 : (Jvm.Cond.laysFinal "NameOrchardModel" "NameOrchardModel" "isNear" "[Z") ∈ lw_all := lw_g (lw_at lw_m9 4 rfl) rfl
theorem q2048 : (Jvm.Cond.soleField "NameOrchardModel" "isNear") ∈ lw_all := lw_g (lw_at lw_m9 5 rfl) rfl
theorem q2049 : (Jvm.Cond.laysFinal "NameOrchardModel" "NameOrchardModel" "lettersA" "[I") ∈ lw_all := lw_g (lw_at lw_m9 6 rfl) rfl
theorem q2050 : (Jvm.Cond.soleField "NameOrchardModel" "lettersA") ∈ lw_all := lw_g (lw_at lw_m9 7 rfl) rfl
theorem q2051 : (Jvm.Cond.laysFinal "NameOrchardModel" "NameOrchardModel" "lettersB" "[I") ∈ lw_all := lw_g (lw_at lw_m9 8 rfl) rfl
theorem q2052 : (Jvm.Cond.soleField "NameOrchardModel" "lettersB") ∈ lw_all := lw_g (lw_at lw_m9 9 rfl) rfl
theorem q2053 : (Jvm.Cond.laysFinal "NameOrchardModel" "NameOrchardModel" "changes" "[I") ∈ lw_all := lw_g (lw_at lw_m9 10 rfl) rfl
theorem q2054 : (Jvm.Cond.soleField "NameOrchardModel" "changes") ∈ lw_all := lw_g (lw_at lw_m9 11 rfl) rfl
theorem q2055 : (Jvm.Cond.laysFinal "NameOrchardModel" "NameOrchardModel" "lines" "[I") ∈ lw_all := lw_g (lw_at lw_m9 12 rfl) rfl
theorem q2056 : (Jvm.Cond.soleField "NameOrchardModel" "lines") ∈ lw_all := lw_g (lw_at lw_m9 13 rfl) rfl
theorem q2057 : (Jvm.Cond.laysFinal "NameOrchardModel" "NameOrchardModel" "lineWhat" "[I") ∈ lw_all := lw_g (lw_at lw_m9 14 rfl) rfl
theorem q2058 : (Jvm.Cond.soleField "NameOrchardModel" "lineWhat") ∈ lw_all := lw_g (lw_at lw_m9 15 rfl) rfl
theorem q2059 : (Jvm.Cond.laysFinal "NameOrchardModel" "NameOrchardModel" "lineWho" "[I") ∈ lw_all := lw_g (lw_at lw_m9 16 rfl) rfl
theorem q2060 : (Jvm.Cond.soleField "NameOrchardModel" "lineWho") ∈ lw_all := lw_g (lw_at lw_m9 17 rfl) rfl
theorem q2061 : (Jvm.Cond.laysFinal "NameOrchardModel" "NameOrchardModel" "lineOf" "[I") ∈ lw_all := lw_g (lw_at lw_m9 18 rfl) rfl
theorem q2062 : (Jvm.Cond.soleField "NameOrchardModel" "lineOf") ∈ lw_all := lw_g (lw_at lw_m9 19 rfl) rfl
theorem q2063 : (Jvm.Cond.laysFinal "NameOrchardModel" "NameOrchardModel" "liesKnown" "[I") ∈ lw_all := lw_g (lw_at lw_m9 20 rfl) rfl
theorem q2064 : (Jvm.Cond.soleField "NameOrchardModel" "liesKnown") ∈ lw_all := lw_g (lw_at lw_m9 21 rfl) rfl
theorem q2065 : (Jvm.Cond.laysFinal "NameOrchardModel" "NameOrchardModel" "liesThere" "[I") ∈ lw_all := lw_g (lw_at lw_m9 22 rfl) rfl
theorem q2066 : (Jvm.Cond.soleField "NameOrchardModel" "liesThere") ∈ lw_all := lw_g (lw_at lw_m9 23 rfl) rfl
theorem q2067 : (Jvm.Cond.laysFinal "NameOrchardModel" "NameOrchardModel" "tolds" "[I") ∈ lw_all := lw_g (lw_at lw_m9 24 rfl) rfl
theorem q2068 : (Jvm.Cond.soleField "NameOrchardModel" "tolds") ∈ lw_all := lw_g (lw_at lw_m9 25 rfl) rfl
theorem q2069 : (Jvm.Cond.laysFinal "NameOrchardModel" "NameOrchardModel" "toldCall" "[I") ∈ lw_all := lw_g (lw_at lw_m9 26 rfl) rfl
theorem q2070 : (Jvm.Cond.soleField "NameOrchardModel" "toldCall") ∈ lw_all := lw_g (lw_at lw_m9 27 rfl) rfl
theorem q2071 : (Jvm.Cond.laysFinal "NameOrchardModel" "NameOrchardModel" "toldSound" "[I") ∈ lw_all := lw_g (lw_at lw_m9 28 rfl) rfl
theorem q2072 : (Jvm.Cond.soleField "NameOrchardModel" "toldSound") ∈ lw_all := lw_g (lw_at lw_m9 29 rfl) rfl
theorem q2073 : (Jvm.Cond.laysFinal "NameOrchardModel" "NameOrchardModel" "toldNear" "[Z") ∈ lw_all := lw_g (lw_at lw_m9 30 rfl) rfl
theorem q2074 : (Jvm.Cond.soleField "NameOrchardModel" "toldNear") ∈ lw_all := lw_g (lw_at lw_m9 31 rfl) rfl
theorem q2075 : (Jvm.Cond.laysFinal "NameOrchardModel" "NameOrchardModel" "s" "[I") ∈ lw_all := lw_g (lw_at lw_m9 32 rfl) rfl
theorem q2076 : (Jvm.Cond.soleField "NameOrchardModel" "s") ∈ lw_all := lw_g (lw_at lw_m9 33 rfl) rfl
theorem q2077 : (Jvm.Cond.laysFinal "NameOrchardModel" "NameOrchardModel" "aside" "[I") ∈ lw_all := lw_g (lw_at lw_m9 34 rfl) rfl
theorem q2078 : (Jvm.Cond.soleField "NameOrchardModel" "aside") ∈ lw_all := lw_g (lw_at lw_m9 35 rfl) rfl
theorem q2079 : (Jvm.Cond.laysFinal "NameOrchardModel" "NameOrchardModel" "marked" "[I") ∈ lw_all := lw_g (lw_at lw_m9 36 rfl) rfl
theorem q2080 : (Jvm.Cond.soleField "NameOrchardModel" "marked") ∈ lw_all := lw_g (lw_at lw_m9 37 rfl) rfl
theorem q2081 : (Jvm.Cond.laysFinal "NameOrchardModel" "NameOrchardModel" "undone" "[I") ∈ lw_all := lw_g (lw_at lw_m9 38 rfl) rfl
theorem q2082 : (Jvm.Cond.soleField "NameOrchardModel" "undone") ∈ lw_all := lw_g (lw_at lw_m9 39 rfl) rfl
theorem q2083 : (Jvm.Cond.laysFinal "NameOrchardModel" "NameOrchardModel" "isLaid" "[Z") ∈ lw_all := lw_g (lw_at lw_m9 40 rfl) rfl
theorem q2084 : (Jvm.Cond.soleField "NameOrchardModel" "isLaid") ∈ lw_all := lw_g (lw_at lw_m9 41 rfl) rfl
theorem q2085 : (Jvm.Cond.lays "NameOrchardModel" "NameOrchardModel" "done" "I") ∈ lw_all := lw_g (lw_at lw_m9 42 rfl) rfl
theorem q2086 : (Jvm.Cond.soleField "NameOrchardModel" "done") ∈ lw_all := lw_g (lw_at lw_m9 43 rfl) rfl
theorem q2087 : (Jvm.Cond.lays "NameOrchardModel" "NameOrchardModel" "wholly" "I") ∈ lw_all := lw_g (lw_at lw_m9 44 rfl) rfl
theorem q2088 : (Jvm.Cond.soleField "NameOrchardModel" "wholly") ∈ lw_all := lw_g (lw_at lw_m9 45 rfl) rfl
theorem q2089 : (Jvm.Cond.lays "NameOrchardModel" "NameOrchardModel" "echo" "I") ∈ lw_all := lw_g (lw_at lw_m9 46 rfl) rfl
theorem q2090 : (Jvm.Cond.soleField "NameOrchardModel" "echo") ∈ lw_all := lw_g (lw_at lw_m9 47 rfl) rfl
theorem q2091 : (Jvm.Cond.lays "NameOrchardModel" "NameOrchardModel" "looseThen" "I") ∈ lw_all := lw_g (lw_at lw_m9 48 rfl) rfl
theorem q2092 : (Jvm.Cond.soleField "NameOrchardModel" "looseThen") ∈ lw_all := lw_g (lw_at lw_m9 49 rfl) rfl
theorem q2093 : (Jvm.Cond.lays "NameOrchardModel" "NameOrchardModel" "isGreen" "Z") ∈ lw_all := lw_g (lw_at lw_m9 50 rfl) rfl
theorem q2094 : (Jvm.Cond.soleField "NameOrchardModel" "isGreen") ∈ lw_all := lw_g (lw_at lw_m9 51 rfl) rfl
theorem q2095 : (Jvm.Cond.laysFinal "NameOrchardModel" "NameOrchardModel" "heardBy" "[I") ∈ lw_all := lw_g (lw_at lw_m9 52 rfl) rfl
theorem q2096 : (Jvm.Cond.soleField "NameOrchardModel" "heardBy") ∈ lw_all := lw_g (lw_at lw_m9 53 rfl) rfl
theorem q2097 : (Jvm.Cond.laysFinal "NameOrchardModel" "NameOrchardModel" "halfBy" "[I") ∈ lw_all := lw_g (lw_at lw_m9 54 rfl) rfl
theorem q2098 : (Jvm.Cond.soleField "NameOrchardModel" "halfBy") ∈ lw_all := lw_g (lw_at lw_m9 55 rfl) rfl
theorem q2099 : (Jvm.Cond.laysFinal "NameOrchardModel" "NameOrchardModel" "callAs" "[I") ∈ lw_all := lw_g (lw_at lw_m9 56 rfl) rfl
theorem q2100 : (Jvm.Cond.soleField "NameOrchardModel" "callAs") ∈ lw_all := lw_g (lw_at lw_m9 57 rfl) rfl
theorem q2101 : (Jvm.Cond.lays "NameOrchardModel" "NameOrchardModel" "callMany" "I") ∈ lw_all := lw_g (lw_at lw_m9 58 rfl) rfl
theorem q2102 : (Jvm.Cond.soleField "NameOrchardModel" "callMany") ∈ lw_all := lw_g (lw_at lw_m9 59 rfl) rfl
theorem q2103 : (Jvm.Cond.laysFinal "NameOrchardModel" "NameOrchardModel" "valueIn" "[I") ∈ lw_all := lw_g (lw_at lw_m9 60 rfl) rfl
theorem q2104 : (Jvm.Cond.soleField "NameOrchardModel" "valueIn") ∈ lw_all := lw_g (lw_at lw_m9 61 rfl) rfl
theorem q2105 : (Jvm.Cond.lays "NameOrchardModel" "NameOrchardModel" "firstCall" "I") ∈ lw_all := lw_g (lw_at lw_m9 62 rfl) rfl
theorem q2106 : (Jvm.Cond.soleField "NameOrchardModel" "firstCall") ∈ lw_all := lw_g (lw_at lw_m9 63 rfl) rfl
theorem q2107 : (Jvm.Cond.laysFinal "NameOrchardModel" "NameOrchardModel" "stateOf" "[I") ∈ lw_all := lw_g (lw_at lw_m9 64 rfl) rfl
theorem q2108 : (Jvm.Cond.soleField "NameOrchardModel" "stateOf") ∈ lw_all := lw_g (lw_at lw_m9 65 rfl) rfl
theorem q2109 : (Jvm.Cond.laysFinal "NameOrchardModel" "NameOrchardModel" "met" "[I") ∈ lw_all := lw_g (lw_at lw_m9 66 rfl) rfl
theorem q2110 : (Jvm.Cond.soleField "NameOrchardModel" "met") ∈ lw_all := lw_g (lw_at lw_m9 67 rfl) rfl
theorem q2111 : (Jvm.Cond.laysFinal "NameOrchardModel" "NameOrchardModel" "fallIn" "[I") ∈ lw_all := lw_g (lw_at lw_m9 68 rfl) rfl
theorem q2112 : (Jvm.Cond.soleField "NameOrchardModel" "fallIn") ∈ lw_all := lw_g (lw_at lw_m9 69 rfl) rfl
theorem q2113 : (Jvm.Cond.laysFinal "NameOrchardModel" "NameOrchardModel" "order" "[I") ∈ lw_all := lw_g (lw_at lw_m9 70 rfl) rfl
theorem q2114 : (Jvm.Cond.soleField "NameOrchardModel" "order") ∈ lw_all := lw_g (lw_at lw_m9 71 rfl) rfl
theorem q2115 : (Jvm.Cond.laysFinal "NameOrchardModel" "NameOrchardModel" "bestOrder" "[I") ∈ lw_all := lw_g (lw_at lw_m9 72 rfl) rfl
theorem q2116 : (Jvm.Cond.soleField "NameOrchardModel" "bestOrder") ∈ lw_all := lw_g (lw_at lw_m9 73 rfl) rfl
theorem q2117 : (Jvm.Cond.lays "NameOrchardModel" "NameOrchardModel" "bestLost" "I") ∈ lw_all := lw_g (lw_at lw_m9 74 rfl) rfl
theorem q2118 : (Jvm.Cond.soleField "NameOrchardModel" "bestLost") ∈ lw_all := lw_g (lw_at lw_m9 75 rfl) rfl
theorem q2119 : (Jvm.Cond.lays "NameOrchardModel" "NameOrchardModel" "g" "J") ∈ lw_all := lw_g (lw_at lw_m9 76 rfl) rfl
theorem q2120 : (Jvm.Cond.soleField "NameOrchardModel" "g") ∈ lw_all := lw_g (lw_at lw_m9 77 rfl) rfl
theorem q2121 : (Jvm.Cond.superclass "NameOrchardModel" "java/lang/Object") ∈ lw_all := lw_g (lw_at lw_m9 78 rfl) rfl
theorem q2123 : (Jvm.Cond.instanceMethod ({ cls := "NameOrchardModel", name := "thrown", desc := "()I" } : Jvm.MethodName)) ∈ lw_all := lw_g (lw_at lw_m9 80 rfl) rfl
theorem q2124 : (Jvm.Cond.selects "NameOrchardModel" ({ cls := "NameOrchardModel", name := "thrown", desc := "()I" } : Jvm.MethodName) ({ cls := "NameOrchardModel", name := "thrown", desc := "()I" } : Jvm.MethodName)) ∈ lw_all := lw_g (lw_at lw_m9 81 rfl) rfl
theorem q2125 : (Jvm.Cond.code ({ cls := "NameOrchardModel", name := "thrown", desc := "()I" } : Jvm.MethodName) prog_35_method_2_code (1 : Nat) (Option.some Jvm.ClassFile.FieldType.int)) ∈ lw_all := lw_g (lw_at lw_m9 82 rfl) rfl
theorem q2127 : (Jvm.Cond.instanceMethod ({ cls := "NameOrchardModel", name := "feed", desc := "(JJJ)I" } : Jvm.MethodName)) ∈ lw_all := lw_g (lw_at lw_m9 84 rfl) rfl
theorem q2128 : (Jvm.Cond.selects "NameOrchardModel" ({ cls := "NameOrchardModel", name := "feed", desc := "(JJJ)I" } : Jvm.MethodName) ({ cls := "NameOrchardModel", name := "feed", desc := "(JJJ)I" } : Jvm.MethodName)) ∈ lw_all := lw_g (lw_at lw_m9 85 rfl) rfl
theorem q2129 : (Jvm.Cond.code ({ cls := "NameOrchardModel", name := "feed", desc := "(JJJ)I" } : Jvm.MethodName) prog_35_method_7_code (11 : Nat) (Option.some Jvm.ClassFile.FieldType.int)) ∈ lw_all := lw_g (lw_at lw_m9 86 rfl) rfl
theorem q2130 : (Jvm.Cond.constantLong "NameOrchardModel" (216 : Nat) (255 : Int64)) ∈ lw_all := lw_g (lw_at lw_m9 87 rfl) rfl
theorem q2132 : (Jvm.Cond.instanceMethod ({ cls := "NameOrchardModel", name := "orchard", desc := "()I" } : Jvm.MethodName)) ∈ lw_all := lw_g (lw_at lw_m9 89 rfl) rfl
theorem q2133 : (Jvm.Cond.selects "NameOrchardModel" ({ cls := "NameOrchardModel", name := "orchard", desc := "()I" } : Jvm.MethodName) ({ cls := "NameOrchardModel", name := "orchard", desc := "()I" } : Jvm.MethodName)) ∈ lw_all := lw_g (lw_at lw_m9 90 rfl) rfl
theorem q2134 : (Jvm.Cond.code ({ cls := "NameOrchardModel", name := "orchard", desc := "()I" } : Jvm.MethodName) prog_35_method_54_code (2 : Nat) (Option.some Jvm.ClassFile.FieldType.int)) ∈ lw_all := lw_g (lw_at lw_m9 91 rfl) rfl
theorem q2135 : (Jvm.Cond.methodLink "NameOrchardModel" (456 : Nat) ({ cls := "NameOrchardModel", name := "readsAll", desc := "()Z" } : Jvm.MethodName)) ∈ lw_all := lw_g (lw_at lw_m9 92 rfl) rfl
theorem q2136 : (Jvm.Cond.privateMethod ({ cls := "NameOrchardModel", name := "readsAll", desc := "()Z" } : Jvm.MethodName)) ∈ lw_tbl := lw_at lw_m9 93 rfl
theorem q2137 : (Jvm.Cond.instanceMethod ({ cls := "NameOrchardModel", name := "readsAll", desc := "()Z" } : Jvm.MethodName)) ∈ lw_all := lw_g (lw_at lw_m9 94 rfl) rfl
theorem q2138 : (Jvm.Cond.code ({ cls := "NameOrchardModel", name := "readsAll", desc := "()Z" } : Jvm.MethodName) prog_35_method_42_code (2 : Nat) (Option.some Jvm.ClassFile.FieldType.boolean)) ∈ lw_all := lw_g (lw_at lw_m9 95 rfl) rfl
theorem q2139 : (Jvm.Cond.methodLink "NameOrchardModel" (404 : Nat) ({ cls := "NameOrchardModel", name := "starts", desc := "()V" } : Jvm.MethodName)) ∈ lw_all := lw_g (lw_at lw_m9 96 rfl) rfl
theorem q2140 : (Jvm.Cond.privateMethod ({ cls := "NameOrchardModel", name := "starts", desc := "()V" } : Jvm.MethodName)) ∈ lw_tbl := lw_at lw_m9 97 rfl
theorem q2141 : (Jvm.Cond.instanceMethod ({ cls := "NameOrchardModel", name := "starts", desc := "()V" } : Jvm.MethodName)) ∈ lw_all := lw_g (lw_at lw_m9 98 rfl) rfl
theorem q2142 : (Jvm.Cond.code ({ cls := "NameOrchardModel", name := "starts", desc := "()V" } : Jvm.MethodName) prog_35_method_41_code (1 : Nat) (Option.none : Option Jvm.ClassFile.FieldType)) ∈ lw_all := lw_g (lw_at lw_m9 99 rfl) rfl
theorem q2143 : (Jvm.Cond.methodLink "NameOrchardModel" (290 : Nat) ({ cls := "NameOrchardModel", name := "nextToken", desc := "()V" } : Jvm.MethodName)) ∈ lw_all := lw_g (lw_at lw_m9 100 rfl) rfl
theorem q2144 : (Jvm.Cond.privateMethod ({ cls := "NameOrchardModel", name := "nextToken", desc := "()V" } : Jvm.MethodName)) ∈ lw_tbl := lw_at lw_m9 101 rfl
theorem q2145 : (Jvm.Cond.instanceMethod ({ cls := "NameOrchardModel", name := "nextToken", desc := "()V" } : Jvm.MethodName)) ∈ lw_all := lw_g (lw_at lw_m9 102 rfl) rfl
theorem q2146 : (Jvm.Cond.code ({ cls := "NameOrchardModel", name := "nextToken", desc := "()V" } : Jvm.MethodName) prog_35_method_9_code (2 : Nat) (Option.none : Option Jvm.ClassFile.FieldType)) ∈ lw_all := lw_g (lw_at lw_m9 103 rfl) rfl
theorem q2147 : (Jvm.Cond.methodLink "NameOrchardModel" (240 : Nat) ({ cls := "NameOrchardModel", name := "signAt", desc := "(I)I" } : Jvm.MethodName)) ∈ lw_all := lw_g (lw_at lw_m9 104 rfl) rfl
theorem q2148 : (Jvm.Cond.privateMethod ({ cls := "NameOrchardModel", name := "signAt", desc := "(I)I" } : Jvm.MethodName)) ∈ lw_tbl := lw_at lw_m9 105 rfl
theorem q2149 : (Jvm.Cond.instanceMethod ({ cls := "NameOrchardModel", name := "signAt", desc := "(I)I" } : Jvm.MethodName)) ∈ lw_all := lw_g (lw_at lw_m9 106 rfl) rfl
theorem q2150 : (Jvm.Cond.code ({ cls := "NameOrchardModel", name := "signAt", desc := "(I)I" } : Jvm.MethodName) prog_35_method_8_code (2 : Nat) (Option.some Jvm.ClassFile.FieldType.int)) ∈ lw_all := lw_g (lw_at lw_m9 107 rfl) rfl
theorem q2151 : (Jvm.Cond.constantLong "NameOrchardModel" (244 : Nat) (27 : Int64)) ∈ lw_all := lw_g (lw_at lw_m9 108 rfl) rfl
theorem q2152 : (Jvm.Cond.constantLong "NameOrchardModel" (246 : Nat) (96 : Int64)) ∈ lw_all := lw_g (lw_at lw_m9 109 rfl) rfl
theorem q2153 : (Jvm.Cond.constantLong "NameOrchardModel" (306 : Nat) (858362 : Int64)) ∈ lw_all := lw_g (lw_at lw_m9 110 rfl) rfl
theorem q2154 : (Jvm.Cond.methodLink "NameOrchardModel" (275 : Nat) ({ cls := "NameOrchardModel", name := "isWord", desc := "(J)Z" } : Jvm.MethodName)) ∈ lw_all := lw_g (lw_at lw_m9 111 rfl) rfl
theorem q2155 : (Jvm.Cond.privateMethod ({ cls := "NameOrchardModel", name := "isWord", desc := "(J)Z" } : Jvm.MethodName)) ∈ lw_tbl := lw_at lw_m9 112 rfl
theorem q2156 : (Jvm.Cond.instanceMethod ({ cls := "NameOrchardModel", name := "isWord", desc := "(J)Z" } : Jvm.MethodName)) ∈ lw_all := lw_g (lw_at lw_m9 113 rfl) rfl
theorem q2157 : (Jvm.Cond.code ({ cls := "NameOrchardModel", name := "isWord", desc := "(J)Z" } : Jvm.MethodName) prog_35_method_10_code (3 : Nat) (Option.some Jvm.ClassFile.FieldType.boolean)) ∈ lw_all := lw_g (lw_at lw_m9 114 rfl) rfl
theorem q2158 : (Jvm.Cond.methodLink "NameOrchardModel" (407 : Nat) ({ cls := "NameOrchardModel", name := "readsApple", desc := "()Z" } : Jvm.MethodName)) ∈ lw_all := lw_g (lw_at lw_m9 115 rfl) rfl
theorem q2159 : (Jvm.Cond.privateMethod ({ cls := "NameOrchardModel", name := "readsApple", desc := "()Z" } : Jvm.MethodName)) ∈ lw_tbl := lw_at lw_m9 116 rfl
theorem q2160 : (Jvm.Cond.instanceMethod ({ cls := "NameOrchardModel", name := "readsApple", desc := "()Z" } : Jvm.MethodName)) ∈ lw_all := lw_g (lw_at lw_m9 117 rfl) rfl
theorem q2161 : (Jvm.Cond.code ({ cls := "NameOrchardModel", name := "readsApple", desc := "()Z" } : Jvm.MethodName) prog_35_method_32_code (4 : Nat) (Option.some Jvm.ClassFile.FieldType.boolean)) ∈ lw_all := lw_g (lw_at lw_m9 118 rfl) rfl
theorem q2162 : (Jvm.Cond.methodLink "NameOrchardModel" (283 : Nat) ({ cls := "NameOrchardModel", name := "fails", desc := "(I)Z" } : Jvm.MethodName)) ∈ lw_all := lw_g (lw_at lw_m9 119 rfl) rfl
theorem q2163 : (Jvm.Cond.privateMethod ({ cls := "NameOrchardModel", name := "fails", desc := "(I)Z" } : Jvm.MethodName)) ∈ lw_tbl := lw_at lw_m9 120 rfl
theorem q2164 : (Jvm.Cond.instanceMethod ({ cls := "NameOrchardModel", name := "fails", desc := "(I)Z" } : Jvm.MethodName)) ∈ lw_all := lw_g (lw_at lw_m9 121 rfl) rfl
theorem q2165 : (Jvm.Cond.code ({ cls := "NameOrchardModel", name := "fails", desc := "(I)Z" } : Jvm.MethodName) prog_35_method_12_code (2 : Nat) (Option.some Jvm.ClassFile.FieldType.boolean)) ∈ lw_all := lw_g (lw_at lw_m9 122 rfl) rfl
theorem q2166 : (Jvm.Cond.methodLink "NameOrchardModel" (375 : Nat) ({ cls := "NameOrchardModel", name := "isNew", desc := "()Z" } : Jvm.MethodName)) ∈ lw_all := lw_g (lw_at lw_m9 123 rfl) rfl
theorem q2167 : (Jvm.Cond.privateMethod ({ cls := "NameOrchardModel", name := "isNew", desc := "()Z" } : Jvm.MethodName)) ∈ lw_tbl := lw_at lw_m9 124 rfl
theorem q2168 : (Jvm.Cond.instanceMethod ({ cls := "NameOrchardModel", name := "isNew", desc := "()Z" } : Jvm.MethodName)) ∈ lw_all := lw_g (lw_at lw_m9 125 rfl) rfl
theorem q2169 : (Jvm.Cond.code ({ cls := "NameOrchardModel", name := "isNew", desc := "()Z" } : Jvm.MethodName) prog_35_method_28_code (1 : Nat) (Option.some Jvm.ClassFile.FieldType.boolean)) ∈ lw_all := lw_g (lw_at lw_m9 126 rfl) rfl
theorem q2170 : (Jvm.Cond.methodLink "NameOrchardModel" (365 : Nat) ({ cls := "NameOrchardModel", name := "isKept", desc := "()Z" } : Jvm.MethodName)) ∈ lw_all := lw_g (lw_at lw_m9 127 rfl) rfl
theorem q2171 : (Jvm.Cond.privateMethod ({ cls := "NameOrchardModel", name := "isKept", desc := "()Z" } : Jvm.MethodName)) ∈ lw_tbl := lw_at lw_m9 128 rfl
theorem q2172 : (Jvm.Cond.instanceMethod ({ cls := "NameOrchardModel", name := "isKept", desc := "()Z" } : Jvm.MethodName)) ∈ lw_all := lw_g (lw_at lw_m9 129 rfl) rfl
theorem q2173 : (Jvm.Cond.code ({ cls := "NameOrchardModel", name := "isKept", desc := "()Z" } : Jvm.MethodName) prog_35_method_20_code (1 : Nat) (Option.some Jvm.ClassFile.FieldType.boolean)) ∈ lw_all := lw_g (lw_at lw_m9 130 rfl) rfl
theorem q2174 : (Jvm.Cond.constantLong "NameOrchardModel" (308 : Nat) (47 : Int64)) ∈ lw_all := lw_g (lw_at lw_m9 131 rfl) rfl
theorem q2175 : (Jvm.Cond.constantLong "NameOrchardModel" (310 : Nat) (361292 : Int64)) ∈ lw_all := lw_g (lw_at lw_m9 132 rfl) rfl
theorem q2176 : (Jvm.Cond.constantLong "NameOrchardModel" (312 : Nat) (12532058 : Int64)) ∈ lw_all := lw_g (lw_at lw_m9 133 rfl) rfl
theorem q2177 : (Jvm.Cond.constantLong "NameOrchardModel" (314 : Nat) (410684 : Int64)) ∈ lw_all := lw_g (lw_at lw_m9 134 rfl) rfl
theorem q2178 : (Jvm.Cond.constantLong "NameOrchardModel" (316 : Nat) (8371260 : Int64)) ∈ lw_all := lw_g (lw_at lw_m9 135 rfl) rfl
theorem q2179 : (Jvm.Cond.constantLong "NameOrchardModel" (318 : Nat) (232608281 : Int64)) ∈ lw_all := lw_g (lw_at lw_m9 136 rfl) rfl
theorem q2180 : (Jvm.Cond.constantLong "NameOrchardModel" (320 : Nat) (237308 : Int64)) ∈ lw_all := lw_g (lw_at lw_m9 137 rfl) rfl
theorem q2181 : (Jvm.Cond.constantLong "NameOrchardModel" (322 : Nat) (247702 : Int64)) ∈ lw_all := lw_g (lw_at lw_m9 138 rfl) rfl
theorem q2182 : (Jvm.Cond.constantLong "NameOrchardModel" (324 : Nat) (206754213222 : Int64)) ∈ lw_all := lw_g (lw_at lw_m9 139 rfl) rfl
theorem q2183 : (Jvm.Cond.constantLong "NameOrchardModel" (326 : Nat) (315851 : Int64)) ∈ lw_all := lw_g (lw_at lw_m9 140 rfl) rfl
theorem q2184 : (Jvm.Cond.constantLong "NameOrchardModel" (328 : Nat) (40487 : Int64)) ∈ lw_all := lw_g (lw_at lw_m9 141 rfl) rfl
theorem q2185 : (Jvm.Cond.constantLong "NameOrchardModel" (330 : Nat) (279252 : Int64)) ∈ lw_all := lw_g (lw_at lw_m9 142 rfl) rfl
theorem q2186 : (Jvm.Cond.constantLong "NameOrchardModel" (332 : Nat) (11720705 : Int64)) ∈ lw_all := lw_g (lw_at lw_m9 143 rfl) rfl
theorem q2187 : (Jvm.Cond.constantLong "NameOrchardModel" (334 : Nat) (60114 : Int64)) ∈ lw_all := lw_g (lw_at lw_m9 144 rfl) rfl
theorem q2188 : (Jvm.Cond.constantLong "NameOrchardModel" (336 : Nat) (321581 : Int64)) ∈ lw_all := lw_g (lw_at lw_m9 145 rfl) rfl
theorem q2189 : (Jvm.Cond.constantLong "NameOrchardModel" (338 : Nat) (2968 : Int64)) ∈ lw_all := lw_g (lw_at lw_m9 146 rfl) rfl
theorem q2190 : (Jvm.Cond.constantLong "NameOrchardModel" (340 : Nat) (8740238 : Int64)) ∈ lw_all := lw_g (lw_at lw_m9 147 rfl) rfl
theorem q2191 : (Jvm.Cond.constantLong "NameOrchardModel" (342 : Nat) (774244 : Int64)) ∈ lw_all := lw_g (lw_at lw_m9 148 rfl) rfl
theorem q2192 : (Jvm.Cond.constantLong "NameOrchardModel" (344 : Nat) (12330827 : Int64)) ∈ lw_all := lw_g (lw_at lw_m9 149 rfl) rfl
theorem q2193 : (Jvm.Cond.constantLong "NameOrchardModel" (346 : Nat) (82410 : Int64)) ∈ lw_all := lw_g (lw_at lw_m9 150 rfl) rfl
theorem q2194 : (Jvm.Cond.constantLong "NameOrchardModel" (273 : Nat) (10631 : Int64)) ∈ lw_all := lw_g (lw_at lw_m9 151 rfl) rfl
theorem q2195 : (Jvm.Cond.constantLong "NameOrchardModel" (293 : Nat) (1111 : Int64)) ∈ lw_all := lw_g (lw_at lw_m9 152 rfl) rfl
theorem q2196 : (Jvm.Cond.constantLong "NameOrchardModel" (295 : Nat) (423 : Int64)) ∈ lw_all := lw_g (lw_at lw_m9 153 rfl) rfl
theorem q2197 : (Jvm.Cond.methodLink "NameOrchardModel" (348 : Nat) ({ cls := "NameOrchardModel", name := "soundNamed", desc := "(I)I" } : Jvm.MethodName)) ∈ lw_all := lw_g (lw_at lw_m9 154 rfl) rfl
theorem q2198 : (Jvm.Cond.privateMethod ({ cls := "NameOrchardModel", name := "soundNamed", desc := "(I)I" } : Jvm.MethodName)) ∈ lw_tbl := lw_at lw_m9 155 rfl
theorem q2199 : (Jvm.Cond.instanceMethod ({ cls := "NameOrchardModel", name := "soundNamed", desc := "(I)I" } : Jvm.MethodName)) ∈ lw_all := lw_g (lw_at lw_m9 156 rfl) rfl
theorem q2200 : (Jvm.Cond.code ({ cls := "NameOrchardModel", name := "soundNamed", desc := "(I)I" } : Jvm.MethodName) prog_35_method_21_code (3 : Nat) (Option.some Jvm.ClassFile.FieldType.int)) ∈ lw_all := lw_g (lw_at lw_m9 157 rfl) rfl
theorem q2201 : (Jvm.Cond.methodLink "NameOrchardModel" (369 : Nat) ({ cls := "NameOrchardModel", name := "personNamed", desc := "(I)I" } : Jvm.MethodName)) ∈ lw_all := lw_g (lw_at lw_m9 158 rfl) rfl
theorem q2202 : (Jvm.Cond.privateMethod ({ cls := "NameOrchardModel", name := "personNamed", desc := "(I)I" } : Jvm.MethodName)) ∈ lw_tbl := lw_at lw_m9 159 rfl
theorem q2203 : (Jvm.Cond.instanceMethod ({ cls := "NameOrchardModel", name := "personNamed", desc := "(I)I" } : Jvm.MethodName)) ∈ lw_all := lw_g (lw_at lw_m9 160 rfl) rfl
theorem q2204 : (Jvm.Cond.code ({ cls := "NameOrchardModel", name := "personNamed", desc := "(I)I" } : Jvm.MethodName) prog_35_method_22_code (3 : Nat) (Option.some Jvm.ClassFile.FieldType.int)) ∈ lw_all := lw_g (lw_at lw_m9 161 rfl) rfl
theorem q2205 : (Jvm.Cond.methodLink "NameOrchardModel" (378 : Nat) ({ cls := "NameOrchardModel", name := "needsBoth", desc := "(JII)Z" } : Jvm.MethodName)) ∈ lw_all := lw_g (lw_at lw_m9 162 rfl) rfl
theorem q2206 : (Jvm.Cond.privateMethod ({ cls := "NameOrchardModel", name := "needsBoth", desc := "(JII)Z" } : Jvm.MethodName)) ∈ lw_tbl := lw_at lw_m9 163 rfl
theorem q2207 : (Jvm.Cond.instanceMethod ({ cls := "NameOrchardModel", name := "needsBoth", desc := "(JII)Z" } : Jvm.MethodName)) ∈ lw_all := lw_g (lw_at lw_m9 164 rfl) rfl
theorem q2208 : (Jvm.Cond.code ({ cls := "NameOrchardModel", name := "needsBoth", desc := "(JII)Z" } : Jvm.MethodName) prog_35_method_26_code (5 : Nat) (Option.some Jvm.ClassFile.FieldType.boolean)) ∈ lw_all := lw_g (lw_at lw_m9 165 rfl) rfl
theorem q2209 : (Jvm.Cond.methodLink "NameOrchardModel" (358 : Nat) ({ cls := "NameOrchardModel", name := "needsWord", desc := "(J)Z" } : Jvm.MethodName)) ∈ lw_all := lw_g (lw_at lw_m9 166 rfl) rfl
theorem q2210 : (Jvm.Cond.privateMethod ({ cls := "NameOrchardModel", name := "needsWord", desc := "(J)Z" } : Jvm.MethodName)) ∈ lw_tbl := lw_at lw_m9 167 rfl
theorem q2211 : (Jvm.Cond.instanceMethod ({ cls := "NameOrchardModel", name := "needsWord", desc := "(J)Z" } : Jvm.MethodName)) ∈ lw_all := lw_g (lw_at lw_m9 168 rfl) rfl
theorem q2212 : (Jvm.Cond.code ({ cls := "NameOrchardModel", name := "needsWord", desc := "(J)Z" } : Jvm.MethodName) prog_35_method_25_code (3 : Nat) (Option.some Jvm.ClassFile.FieldType.boolean)) ∈ lw_all := lw_g (lw_at lw_m9 169 rfl) rfl
theorem q2213 : (Jvm.Cond.methodLink "NameOrchardModel" (361 : Nat) ({ cls := "NameOrchardModel", name := "needsNumber", desc := "(II)Z" } : Jvm.MethodName)) ∈ lw_all := lw_g (lw_at lw_m9 170 rfl) rfl
theorem q2214 : (Jvm.Cond.privateMethod ({ cls := "NameOrchardModel", name := "needsNumber", desc := "(II)Z" } : Jvm.MethodName)) ∈ lw_tbl := lw_at lw_m9 171 rfl
theorem q2215 : (Jvm.Cond.instanceMethod ({ cls := "NameOrchardModel", name := "needsNumber", desc := "(II)Z" } : Jvm.MethodName)) ∈ lw_all := lw_g (lw_at lw_m9 172 rfl) rfl
theorem q2216 : (Jvm.Cond.code ({ cls := "NameOrchardModel", name := "needsNumber", desc := "(II)Z" } : Jvm.MethodName) prog_35_method_24_code (3 : Nat) (Option.some Jvm.ClassFile.FieldType.boolean)) ∈ lw_all := lw_g (lw_at lw_m9 173 rfl) rfl
theorem q2217 : (Jvm.Cond.methodLink "NameOrchardModel" (351 : Nat) ({ cls := "NameOrchardModel", name := "within", desc := "(III)Z" } : Jvm.MethodName)) ∈ lw_all := lw_g (lw_at lw_m9 174 rfl) rfl
theorem q2218 : (Jvm.Cond.static ({ cls := "NameOrchardModel", name := "within", desc := "(III)Z" } : Jvm.MethodName)) ∈ lw_all := lw_g (lw_at lw_m9 175 rfl) rfl
theorem q2219 : (Jvm.Cond.code ({ cls := "NameOrchardModel", name := "within", desc := "(III)Z" } : Jvm.MethodName) prog_35_method_3_code (3 : Nat) (Option.some Jvm.ClassFile.FieldType.boolean)) ∈ lw_all := lw_g (lw_at lw_m9 176 rfl) rfl
theorem q2220 : (Jvm.Cond.methodLink "NameOrchardModel" (382 : Nat) ({ cls := "NameOrchardModel", name := "takesSound", desc := "(J)V" } : Jvm.MethodName)) ∈ lw_all := lw_g (lw_at lw_m9 177 rfl) rfl
theorem q2221 : (Jvm.Cond.privateMethod ({ cls := "NameOrchardModel", name := "takesSound", desc := "(J)V" } : Jvm.MethodName)) ∈ lw_tbl := lw_at lw_m9 178 rfl
theorem q2222 : (Jvm.Cond.instanceMethod ({ cls := "NameOrchardModel", name := "takesSound", desc := "(J)V" } : Jvm.MethodName)) ∈ lw_all := lw_g (lw_at lw_m9 179 rfl) rfl
theorem q2223 : (Jvm.Cond.code ({ cls := "NameOrchardModel", name := "takesSound", desc := "(J)V" } : Jvm.MethodName) prog_35_method_31_code (3 : Nat) (Option.none : Option Jvm.ClassFile.FieldType)) ∈ lw_all := lw_g (lw_at lw_m9 180 rfl) rfl
theorem q2224 : (Jvm.Cond.methodLink "NameOrchardModel" (386 : Nat) ({ cls := "NameOrchardModel", name := "closes", desc := "()Z" } : Jvm.MethodName)) ∈ lw_all := lw_g (lw_at lw_m9 181 rfl) rfl
theorem q2225 : (Jvm.Cond.privateMethod ({ cls := "NameOrchardModel", name := "closes", desc := "()Z" } : Jvm.MethodName)) ∈ lw_tbl := lw_at lw_m9 182 rfl
theorem q2226 : (Jvm.Cond.instanceMethod ({ cls := "NameOrchardModel", name := "closes", desc := "()Z" } : Jvm.MethodName)) ∈ lw_all := lw_g (lw_at lw_m9 183 rfl) rfl
theorem q2227 : (Jvm.Cond.code ({ cls := "NameOrchardModel", name := "closes", desc := "()Z" } : Jvm.MethodName) prog_35_method_27_code (1 : Nat) (Option.some Jvm.ClassFile.FieldType.boolean)) ∈ lw_all := lw_g (lw_at lw_m9 184 rfl) rfl
theorem q2228 : (Jvm.Cond.methodLink "NameOrchardModel" (279 : Nat) ({ cls := "NameOrchardModel", name := "isSign", desc := "(I)Z" } : Jvm.MethodName)) ∈ lw_all := lw_g (lw_at lw_m9 185 rfl) rfl
theorem q2229 : (Jvm.Cond.privateMethod ({ cls := "NameOrchardModel", name := "isSign", desc := "(I)Z" } : Jvm.MethodName)) ∈ lw_tbl := lw_at lw_m9 186 rfl
theorem q2230 : (Jvm.Cond.instanceMethod ({ cls := "NameOrchardModel", name := "isSign", desc := "(I)Z" } : Jvm.MethodName)) ∈ lw_all := lw_g (lw_at lw_m9 187 rfl) rfl
theorem q2231 : (Jvm.Cond.code ({ cls := "NameOrchardModel", name := "isSign", desc := "(I)Z" } : Jvm.MethodName) prog_35_method_11_code (2 : Nat) (Option.some Jvm.ClassFile.FieldType.boolean)) ∈ lw_all := lw_g (lw_at lw_m9 188 rfl) rfl
theorem q2232 : (Jvm.Cond.methodLink "NameOrchardModel" (410 : Nat) ({ cls := "NameOrchardModel", name := "readsTwin", desc := "()Z" } : Jvm.MethodName)) ∈ lw_all := lw_g (lw_at lw_m9 189 rfl) rfl
theorem q2233 : (Jvm.Cond.privateMethod ({ cls := "NameOrchardModel", name := "readsTwin", desc := "()Z" } : Jvm.MethodName)) ∈ lw_tbl := lw_at lw_m9 190 rfl
theorem q2234 : (Jvm.Cond.instanceMethod ({ cls := "NameOrchardModel", name := "readsTwin", desc := "()Z" } : Jvm.MethodName)) ∈ lw_all := lw_g (lw_at lw_m9 191 rfl) rfl
theorem q2235 : (Jvm.Cond.code ({ cls := "NameOrchardModel", name := "readsTwin", desc := "()Z" } : Jvm.MethodName) prog_35_method_33_code (3 : Nat) (Option.some Jvm.ClassFile.FieldType.boolean)) ∈ lw_all := lw_g (lw_at lw_m9 192 rfl) rfl
theorem q2236 : (Jvm.Cond.methodLink "NameOrchardModel" (389 : Nat) ({ cls := "NameOrchardModel", name := "needsApple", desc := "(I)Z" } : Jvm.MethodName)) ∈ lw_all := lw_g (lw_at lw_m9 193 rfl) rfl
theorem q2237 : (Jvm.Cond.privateMethod ({ cls := "NameOrchardModel", name := "needsApple", desc := "(I)Z" } : Jvm.MethodName)) ∈ lw_tbl := lw_at lw_m9 194 rfl
theorem q2238 : (Jvm.Cond.instanceMethod ({ cls := "NameOrchardModel", name := "needsApple", desc := "(I)Z" } : Jvm.MethodName)) ∈ lw_all := lw_g (lw_at lw_m9 195 rfl) rfl
theorem q2239 : (Jvm.Cond.code ({ cls := "NameOrchardModel", name := "needsApple", desc := "(I)Z" } : Jvm.MethodName) prog_35_method_30_code (2 : Nat) (Option.some Jvm.ClassFile.FieldType.boolean)) ∈ lw_all := lw_g (lw_at lw_m9 196 rfl) rfl
theorem q2240 : (Jvm.Cond.methodLink "NameOrchardModel" (372 : Nat) ({ cls := "NameOrchardModel", name := "appleNamed", desc := "(I)I" } : Jvm.MethodName)) ∈ lw_all := lw_g (lw_at lw_m9 197 rfl) rfl
theorem q2241 : (Jvm.Cond.privateMethod ({ cls := "NameOrchardModel", name := "appleNamed", desc := "(I)I" } : Jvm.MethodName)) ∈ lw_tbl := lw_at lw_m9 198 rfl
theorem q2242 : (Jvm.Cond.instanceMethod ({ cls := "NameOrchardModel", name := "appleNamed", desc := "(I)I" } : Jvm.MethodName)) ∈ lw_all := lw_g (lw_at lw_m9 199 rfl) rfl
theorem q2243 : (Jvm.Cond.code ({ cls := "NameOrchardModel", name := "appleNamed", desc := "(I)I" } : Jvm.MethodName) prog_35_method_23_code (4 : Nat) (Option.some Jvm.ClassFile.FieldType.int)) ∈ lw_all := lw_g (lw_at lw_m9 200 rfl) rfl
theorem q2244 : (Jvm.Cond.methodLink "NameOrchardModel" (413 : Nat) ({ cls := "NameOrchardModel", name := "readsOther", desc := "()Z" } : Jvm.MethodName)) ∈ lw_all := lw_g (lw_at lw_m9 201 rfl) rfl
theorem q2245 : (Jvm.Cond.privateMethod ({ cls := "NameOrchardModel", name := "readsOther", desc := "()Z" } : Jvm.MethodName)) ∈ lw_tbl := lw_at lw_m9 202 rfl
theorem q2246 : (Jvm.Cond.instanceMethod ({ cls := "NameOrchardModel", name := "readsOther", desc := "()Z" } : Jvm.MethodName)) ∈ lw_all := lw_g (lw_at lw_m9 203 rfl) rfl
theorem q2247 : (Jvm.Cond.code ({ cls := "NameOrchardModel", name := "readsOther", desc := "()Z" } : Jvm.MethodName) prog_35_method_34_code (1 : Nat) (Option.some Jvm.ClassFile.FieldType.boolean)) ∈ lw_all := lw_g (lw_at lw_m9 204 rfl) rfl
theorem q2248 : (Jvm.Cond.methodLink "NameOrchardModel" (416 : Nat) ({ cls := "NameOrchardModel", name := "readsPerson", desc := "()Z" } : Jvm.MethodName)) ∈ lw_all := lw_g (lw_at lw_m9 205 rfl) rfl
theorem q2249 : (Jvm.Cond.privateMethod ({ cls := "NameOrchardModel", name := "readsPerson", desc := "()Z" } : Jvm.MethodName)) ∈ lw_tbl := lw_at lw_m9 206 rfl
theorem q2250 : (Jvm.Cond.instanceMethod ({ cls := "NameOrchardModel", name := "readsPerson", desc := "()Z" } : Jvm.MethodName)) ∈ lw_all := lw_g (lw_at lw_m9 207 rfl) rfl
theorem q2251 : (Jvm.Cond.code ({ cls := "NameOrchardModel", name := "readsPerson", desc := "()Z" } : Jvm.MethodName) prog_35_method_36_code (4 : Nat) (Option.some Jvm.ClassFile.FieldType.boolean)) ∈ lw_all := lw_g (lw_at lw_m9 208 rfl) rfl
theorem q2252 : (Jvm.Cond.methodLink "NameOrchardModel" (394 : Nat) ({ cls := "NameOrchardModel", name := "needsSound", desc := "(I)Z" } : Jvm.MethodName)) ∈ lw_all := lw_g (lw_at lw_m9 209 rfl) rfl
theorem q2253 : (Jvm.Cond.privateMethod ({ cls := "NameOrchardModel", name := "needsSound", desc := "(I)Z" } : Jvm.MethodName)) ∈ lw_tbl := lw_at lw_m9 210 rfl
theorem q2254 : (Jvm.Cond.instanceMethod ({ cls := "NameOrchardModel", name := "needsSound", desc := "(I)Z" } : Jvm.MethodName)) ∈ lw_all := lw_g (lw_at lw_m9 211 rfl) rfl
theorem q2255 : (Jvm.Cond.code ({ cls := "NameOrchardModel", name := "needsSound", desc := "(I)Z" } : Jvm.MethodName) prog_35_method_29_code (2 : Nat) (Option.some Jvm.ClassFile.FieldType.boolean)) ∈ lw_all := lw_g (lw_at lw_m9 212 rfl) rfl
theorem q2256 : (Jvm.Cond.methodLink "NameOrchardModel" (397 : Nat) ({ cls := "NameOrchardModel", name := "firstLetter", desc := "(J)I" } : Jvm.MethodName)) ∈ lw_all := lw_g (lw_at lw_m9 213 rfl) rfl
theorem q2257 : (Jvm.Cond.static ({ cls := "NameOrchardModel", name := "firstLetter", desc := "(J)I" } : Jvm.MethodName)) ∈ lw_all := lw_g (lw_at lw_m9 214 rfl) rfl
theorem q2258 : (Jvm.Cond.code ({ cls := "NameOrchardModel", name := "firstLetter", desc := "(J)I" } : Jvm.MethodName) prog_35_method_35_code (4 : Nat) (Option.some Jvm.ClassFile.FieldType.int)) ∈ lw_all := lw_g (lw_at lw_m9 215 rfl) rfl
theorem q2259 : (Jvm.Cond.constantLong "NameOrchardModel" (392 : Nat) (26 : Int64)) ∈ lw_all := lw_g (lw_at lw_m9 216 rfl) rfl
theorem q2260 : (Jvm.Cond.methodLink "NameOrchardModel" (419 : Nat) ({ cls := "NameOrchardModel", name := "readsStranger", desc := "()Z" } : Jvm.MethodName)) ∈ lw_all := lw_g (lw_at lw_m9 217 rfl) rfl
theorem q2261 : (Jvm.Cond.privateMethod ({ cls := "NameOrchardModel", name := "readsStranger", desc := "()Z" } : Jvm.MethodName)) ∈ lw_tbl := lw_at lw_m9 218 rfl
theorem q2262 : (Jvm.Cond.instanceMethod ({ cls := "NameOrchardModel", name := "readsStranger", desc := "()Z" } : Jvm.MethodName)) ∈ lw_all := lw_g (lw_at lw_m9 219 rfl) rfl
theorem q2263 : (Jvm.Cond.code ({ cls := "NameOrchardModel", name := "readsStranger", desc := "()Z" } : Jvm.MethodName) prog_35_method_37_code (3 : Nat) (Option.some Jvm.ClassFile.FieldType.boolean)) ∈ lw_all := lw_g (lw_at lw_m9 220 rfl) rfl
theorem q2264 : (Jvm.Cond.methodLink "NameOrchardModel" (422 : Nat) ({ cls := "NameOrchardModel", name := "readsPage", desc := "()Z" } : Jvm.MethodName)) ∈ lw_all := lw_g (lw_at lw_m9 221 rfl) rfl
theorem q2265 : (Jvm.Cond.privateMethod ({ cls := "NameOrchardModel", name := "readsPage", desc := "()Z" } : Jvm.MethodName)) ∈ lw_tbl := lw_at lw_m9 222 rfl
theorem q2266 : (Jvm.Cond.instanceMethod ({ cls := "NameOrchardModel", name := "readsPage", desc := "()Z" } : Jvm.MethodName)) ∈ lw_all := lw_g (lw_at lw_m9 223 rfl) rfl
theorem q2267 : (Jvm.Cond.code ({ cls := "NameOrchardModel", name := "readsPage", desc := "()Z" } : Jvm.MethodName) prog_35_method_38_code (3 : Nat) (Option.some Jvm.ClassFile.FieldType.boolean)) ∈ lw_all := lw_g (lw_at lw_m9 224 rfl) rfl
theorem q2268 : (Jvm.Cond.methodLink "NameOrchardModel" (425 : Nat) ({ cls := "NameOrchardModel", name := "readsBann", desc := "()Z" } : Jvm.MethodName)) ∈ lw_all := lw_g (lw_at lw_m9 225 rfl) rfl
theorem q2269 : (Jvm.Cond.privateMethod ({ cls := "NameOrchardModel", name := "readsBann", desc := "()Z" } : Jvm.MethodName)) ∈ lw_tbl := lw_at lw_m9 226 rfl
theorem q2270 : (Jvm.Cond.instanceMethod ({ cls := "NameOrchardModel", name := "readsBann", desc := "()Z" } : Jvm.MethodName)) ∈ lw_all := lw_g (lw_at lw_m9 227 rfl) rfl
theorem q2271 : (Jvm.Cond.code ({ cls := "NameOrchardModel", name := "readsBann", desc := "()Z" } : Jvm.MethodName) prog_35_method_39_code (2 : Nat) (Option.some Jvm.ClassFile.FieldType.boolean)) ∈ lw_all := lw_g (lw_at lw_m9 228 rfl) rfl
theorem q2272 : (Jvm.Cond.methodLink "NameOrchardModel" (428 : Nat) ({ cls := "NameOrchardModel", name := "readsLaw", desc := "(I)Z" } : Jvm.MethodName)) ∈ lw_all := lw_g (lw_at lw_m9 229 rfl) rfl
theorem q2273 : (Jvm.Cond.privateMethod ({ cls := "NameOrchardModel", name := "readsLaw", desc := "(I)Z" } : Jvm.MethodName)) ∈ lw_tbl := lw_at lw_m9 230 rfl
theorem q2274 : (Jvm.Cond.instanceMethod ({ cls := "NameOrchardModel", name := "readsLaw", desc := "(I)Z" } : Jvm.MethodName)) ∈ lw_all := lw_g (lw_at lw_m9 231 rfl) rfl
theorem q2275 : (Jvm.Cond.code ({ cls := "NameOrchardModel", name := "readsLaw", desc := "(I)Z" } : Jvm.MethodName) prog_35_method_40_code (2 : Nat) (Option.some Jvm.ClassFile.FieldType.boolean)) ∈ lw_all := lw_g (lw_at lw_m9 232 rfl) rfl
theorem q2276 : (Jvm.Cond.methodLink "NameOrchardModel" (401 : Nat) ({ cls := "NameOrchardModel", name := "reads", desc := "()Z" } : Jvm.MethodName)) ∈ lw_all := lw_g (lw_at lw_m9 233 rfl) rfl
theorem q2277 : (Jvm.Cond.privateMethod ({ cls := "NameOrchardModel", name := "reads", desc := "()Z" } : Jvm.MethodName)) ∈ lw_tbl := lw_at lw_m9 234 rfl
theorem q2278 : (Jvm.Cond.instanceMethod ({ cls := "NameOrchardModel", name := "reads", desc := "()Z" } : Jvm.MethodName)) ∈ lw_all := lw_g (lw_at lw_m9 235 rfl) rfl
theorem q2279 : (Jvm.Cond.code ({ cls := "NameOrchardModel", name := "reads", desc := "()Z" } : Jvm.MethodName) prog_35_method_15_code (6 : Nat) (Option.some Jvm.ClassFile.FieldType.boolean)) ∈ lw_all := lw_g (lw_at lw_m9 236 rfl) rfl
theorem q2280 : (Jvm.Cond.methodLink "NameOrchardModel" (269 : Nat) ({ cls := "NameOrchardModel", name := "fact", desc := "()I" } : Jvm.MethodName)) ∈ lw_all := lw_g (lw_at lw_m9 237 rfl) rfl
theorem q2281 : (Jvm.Cond.privateMethod ({ cls := "NameOrchardModel", name := "fact", desc := "()I" } : Jvm.MethodName)) ∈ lw_tbl := lw_at lw_m9 238 rfl
theorem q2282 : (Jvm.Cond.instanceMethod ({ cls := "NameOrchardModel", name := "fact", desc := "()I" } : Jvm.MethodName)) ∈ lw_all := lw_g (lw_at lw_m9 239 rfl) rfl
theorem q2283 : (Jvm.Cond.code ({ cls := "NameOrchardModel", name := "fact", desc := "()I" } : Jvm.MethodName) prog_35_method_14_code (1 : Nat) (Option.some Jvm.ClassFile.FieldType.int)) ∈ lw_all := lw_g (lw_at lw_m10 0 rfl) rfl
theorem q2284 : (Jvm.Cond.constantLong "NameOrchardModel" (257 : Nat) (40613 : Int64)) ∈ lw_all := lw_g (lw_at lw_m10 1 rfl) rfl
theorem q2285 : (Jvm.Cond.constantLong "NameOrchardModel" (259 : Nat) (923 : Int64)) ∈ lw_all := lw_g (lw_at lw_m10 2 rfl) rfl
theorem q2286 : (Jvm.Cond.constantLong "NameOrchardModel" (261 : Nat) (2743057 : Int64)) ∈ lw_all := lw_g (lw_at lw_m10 3 rfl) rfl
theorem q2287 : (Jvm.Cond.constantLong "NameOrchardModel" (263 : Nat) (10492274 : Int64)) ∈ lw_all := lw_g (lw_at lw_m10 4 rfl) rfl
theorem q2288 : (Jvm.Cond.constantLong "NameOrchardModel" (265 : Nat) (9741983 : Int64)) ∈ lw_all := lw_g (lw_at lw_m10 5 rfl) rfl
theorem q2289 : (Jvm.Cond.constantLong "NameOrchardModel" (267 : Nat) (381245 : Int64)) ∈ lw_all := lw_g (lw_at lw_m10 6 rfl) rfl
theorem q2290 : (Jvm.Cond.methodLink "NameOrchardModel" (286 : Nat) ({ cls := "NameOrchardModel", name := "puts", desc := "(I)V" } : Jvm.MethodName)) ∈ lw_all := lw_g (lw_at lw_m10 7 rfl) rfl
theorem q2291 : (Jvm.Cond.privateMethod ({ cls := "NameOrchardModel", name := "puts", desc := "(I)V" } : Jvm.MethodName)) ∈ lw_tbl := lw_at lw_m10 8 rfl
theorem q2292 : (Jvm.Cond.instanceMethod ({ cls := "NameOrchardModel", name := "puts", desc := "(I)V" } : Jvm.MethodName)) ∈ lw_all := lw_g (lw_at lw_m10 9 rfl) rfl
theorem q2293 : (Jvm.Cond.code ({ cls := "NameOrchardModel", name := "puts", desc := "(I)V" } : Jvm.MethodName) prog_35_method_13_code (2 : Nat) (Option.none : Option Jvm.ClassFile.FieldType)) ∈ lw_all := lw_g (lw_at lw_m10 10 rfl) rfl
theorem q2294 : (Jvm.Cond.methodLink "NameOrchardModel" (459 : Nat) ({ cls := "NameOrchardModel", name := "lays", desc := "()V" } : Jvm.MethodName)) ∈ lw_all := lw_g (lw_at lw_m10 11 rfl) rfl
theorem q2295 : (Jvm.Cond.privateMethod ({ cls := "NameOrchardModel", name := "lays", desc := "()V" } : Jvm.MethodName)) ∈ lw_tbl := lw_at lw_m10 12 rfl
theorem q2296 : (Jvm.Cond.instanceMethod ({ cls := "NameOrchardModel", name := "lays", desc := "()V" } : Jvm.MethodName)) ∈ lw_all := lw_g (lw_at lw_m10 13 rfl) rfl
theorem q2297 : (Jvm.Cond.code ({ cls := "NameOrchardModel", name := "lays", desc := "()V" } : Jvm.MethodName) prog_35_method_45_code (3 : Nat) (Option.none : Option Jvm.ClassFile.FieldType)) ∈ lw_all := lw_g (lw_at lw_m10 14 rfl) rfl
theorem q2298 : (Jvm.Cond.methodLink "NameOrchardModel" (431 : Nat) ({ cls := "NameOrchardModel", name := "moves", desc := "([II)V" } : Jvm.MethodName)) ∈ lw_all := lw_g (lw_at lw_m10 15 rfl) rfl
theorem q2299 : (Jvm.Cond.static ({ cls := "NameOrchardModel", name := "moves", desc := "([II)V" } : Jvm.MethodName)) ∈ lw_all := lw_g (lw_at lw_m10 16 rfl) rfl
theorem q2300 : (Jvm.Cond.code ({ cls := "NameOrchardModel", name := "moves", desc := "([II)V" } : Jvm.MethodName) prog_35_method_43_code (3 : Nat) (Option.none : Option Jvm.ClassFile.FieldType)) ∈ lw_all := lw_g (lw_at lw_m10 17 rfl) rfl
theorem q2301 : (Jvm.Cond.methodLink "NameOrchardModel" (435 : Nat) ({ cls := "NameOrchardModel", name := "movesNames", desc := "([JI)V" } : Jvm.MethodName)) ∈ lw_all := lw_g (lw_at lw_m10 18 rfl) rfl
theorem q2302 : (Jvm.Cond.static ({ cls := "NameOrchardModel", name := "movesNames", desc := "([JI)V" } : Jvm.MethodName)) ∈ lw_all := lw_g (lw_at lw_m10 19 rfl) rfl
theorem q2303 : (Jvm.Cond.code ({ cls := "NameOrchardModel", name := "movesNames", desc := "([JI)V" } : Jvm.MethodName) prog_35_method_44_code (3 : Nat) (Option.none : Option Jvm.ClassFile.FieldType)) ∈ lw_all := lw_g (lw_at lw_m10 20 rfl) rfl
theorem q2304 : (Jvm.Cond.methodLink "NameOrchardModel" (439 : Nat) ({ cls := "NameOrchardModel", name := "compares", desc := "(II)V" } : Jvm.MethodName)) ∈ lw_all := lw_g (lw_at lw_m10 21 rfl) rfl
theorem q2305 : (Jvm.Cond.privateMethod ({ cls := "NameOrchardModel", name := "compares", desc := "(II)V" } : Jvm.MethodName)) ∈ lw_tbl := lw_at lw_m10 22 rfl
theorem q2306 : (Jvm.Cond.instanceMethod ({ cls := "NameOrchardModel", name := "compares", desc := "(II)V" } : Jvm.MethodName)) ∈ lw_all := lw_g (lw_at lw_m10 23 rfl) rfl
theorem q2307 : (Jvm.Cond.code ({ cls := "NameOrchardModel", name := "compares", desc := "(II)V" } : Jvm.MethodName) prog_35_method_47_code (9 : Nat) (Option.none : Option Jvm.ClassFile.FieldType)) ∈ lw_all := lw_g (lw_at lw_m10 24 rfl) rfl
theorem q2308 : (Jvm.Cond.methodLink "NameOrchardModel" (443 : Nat) ({ cls := "NameOrchardModel", name := "spells", desc := "(J[I)I" } : Jvm.MethodName)) ∈ lw_all := lw_g (lw_at lw_m10 25 rfl) rfl
theorem q2309 : (Jvm.Cond.static ({ cls := "NameOrchardModel", name := "spells", desc := "(J[I)I" } : Jvm.MethodName)) ∈ lw_all := lw_g (lw_at lw_m10 26 rfl) rfl
theorem q2310 : (Jvm.Cond.code ({ cls := "NameOrchardModel", name := "spells", desc := "(J[I)I" } : Jvm.MethodName) prog_35_method_46_code (7 : Nat) (Option.some Jvm.ClassFile.FieldType.int)) ∈ lw_all := lw_g (lw_at lw_m10 27 rfl) rfl
theorem q2311 : (Jvm.Cond.methodLink "NameOrchardModel" (447 : Nat) ({ cls := "java/lang/Math", name := "min", desc := "(II)I" } : Jvm.MethodName)) ∈ lw_all := lw_g (lw_at lw_m10 28 rfl) rfl
theorem q2312 : (Jvm.Cond.methodLink "NameOrchardModel" (453 : Nat) ({ cls := "NameOrchardModel", name := "worked", desc := "(I)I" } : Jvm.MethodName)) ∈ lw_all := lw_g (lw_at lw_m10 29 rfl) rfl
theorem q2313 : (Jvm.Cond.privateMethod ({ cls := "NameOrchardModel", name := "worked", desc := "(I)I" } : Jvm.MethodName)) ∈ lw_tbl := lw_at lw_m10 30 rfl
theorem q2314 : (Jvm.Cond.instanceMethod ({ cls := "NameOrchardModel", name := "worked", desc := "(I)I" } : Jvm.MethodName)) ∈ lw_all := lw_g (lw_at lw_m10 31 rfl) rfl
theorem q2315 : (Jvm.Cond.code ({ cls := "NameOrchardModel", name := "worked", desc := "(I)I" } : Jvm.MethodName) prog_35_method_19_code (6 : Nat) (Option.some Jvm.ClassFile.FieldType.int)) ∈ lw_all := lw_g (lw_at lw_m10 32 rfl) rfl
theorem q2316 : (Jvm.Cond.methodLink "NameOrchardModel" (300 : Nat) ({ cls := "NameOrchardModel", name := "opens", desc := "(I)V" } : Jvm.MethodName)) ∈ lw_all := lw_g (lw_at lw_m10 33 rfl) rfl
theorem q2317 : (Jvm.Cond.privateMethod ({ cls := "NameOrchardModel", name := "opens", desc := "(I)V" } : Jvm.MethodName)) ∈ lw_tbl := lw_at lw_m10 34 rfl
theorem q2318 : (Jvm.Cond.instanceMethod ({ cls := "NameOrchardModel", name := "opens", desc := "(I)V" } : Jvm.MethodName)) ∈ lw_all := lw_g (lw_at lw_m10 35 rfl) rfl
theorem q2319 : (Jvm.Cond.code ({ cls := "NameOrchardModel", name := "opens", desc := "(I)V" } : Jvm.MethodName) prog_35_method_16_code (2 : Nat) (Option.none : Option Jvm.ClassFile.FieldType)) ∈ lw_all := lw_g (lw_at lw_m10 36 rfl) rfl
theorem q2320 : (Jvm.Cond.methodLink "NameOrchardModel" (297 : Nat) ({ cls := "NameOrchardModel", name := "sums", desc := "(I)V" } : Jvm.MethodName)) ∈ lw_all := lw_g (lw_at lw_m10 37 rfl) rfl
theorem q2321 : (Jvm.Cond.privateMethod ({ cls := "NameOrchardModel", name := "sums", desc := "(I)V" } : Jvm.MethodName)) ∈ lw_tbl := lw_at lw_m10 38 rfl
theorem q2322 : (Jvm.Cond.instanceMethod ({ cls := "NameOrchardModel", name := "sums", desc := "(I)V" } : Jvm.MethodName)) ∈ lw_all := lw_g (lw_at lw_m10 39 rfl) rfl
theorem q2323 : (Jvm.Cond.code ({ cls := "NameOrchardModel", name := "sums", desc := "(I)V" } : Jvm.MethodName) prog_35_method_17_code (2 : Nat) (Option.none : Option Jvm.ClassFile.FieldType)) ∈ lw_all := lw_g (lw_at lw_m10 40 rfl) rfl
theorem q2324 : (Jvm.Cond.methodLink "NameOrchardModel" (303 : Nat) ({ cls := "NameOrchardModel", name := "tests", desc := "(I)V" } : Jvm.MethodName)) ∈ lw_all := lw_g (lw_at lw_m10 41 rfl) rfl
theorem q2325 : (Jvm.Cond.privateMethod ({ cls := "NameOrchardModel", name := "tests", desc := "(I)V" } : Jvm.MethodName)) ∈ lw_tbl := lw_at lw_m10 42 rfl
theorem q2326 : (Jvm.Cond.instanceMethod ({ cls := "NameOrchardModel", name := "tests", desc := "(I)V" } : Jvm.MethodName)) ∈ lw_all := lw_g (lw_at lw_m10 43 rfl) rfl
theorem q2327 : (Jvm.Cond.code ({ cls := "NameOrchardModel", name := "tests", desc := "(I)V" } : Jvm.MethodName) prog_35_method_18_code (3 : Nat) (Option.none : Option Jvm.ClassFile.FieldType)) ∈ lw_all := lw_g (lw_at lw_m10 44 rfl) rfl
theorem q2328 : (Jvm.Cond.methodLink "NameOrchardModel" (462 : Nat) ({ cls := "NameOrchardModel", name := "fresh", desc := "()V" } : Jvm.MethodName)) ∈ lw_all := lw_g (lw_at lw_m10 45 rfl) rfl
theorem q2329 : (Jvm.Cond.privateMethod ({ cls := "NameOrchardModel", name := "fresh", desc := "()V" } : Jvm.MethodName)) ∈ lw_tbl := lw_at lw_m10 46 rfl
theorem q2330 : (Jvm.Cond.instanceMethod ({ cls := "NameOrchardModel", name := "fresh", desc := "()V" } : Jvm.MethodName)) ∈ lw_all := lw_g (lw_at lw_m10 47 rfl) rfl
theorem q2331 : (Jvm.Cond.code ({ cls := "NameOrchardModel", name := "fresh", desc := "()V" } : Jvm.MethodName) prog_35_method_53_code (2 : Nat) (Option.none : Option Jvm.ClassFile.FieldType)) ∈ lw_all := lw_g (lw_at lw_m10 48 rfl) rfl
theorem q2333 : (Jvm.Cond.instanceMethod ({ cls := "NameOrchardModel", name := "days", desc := "()I" } : Jvm.MethodName)) ∈ lw_all := lw_g (lw_at lw_m10 50 rfl) rfl
theorem q2334 : (Jvm.Cond.selects "NameOrchardModel" ({ cls := "NameOrchardModel", name := "days", desc := "()I" } : Jvm.MethodName) ({ cls := "NameOrchardModel", name := "days", desc := "()I" } : Jvm.MethodName)) ∈ lw_all := lw_g (lw_at lw_m10 51 rfl) rfl
theorem q2335 : (Jvm.Cond.code ({ cls := "NameOrchardModel", name := "days", desc := "()I" } : Jvm.MethodName) prog_35_method_55_code (1 : Nat) (Option.some Jvm.ClassFile.FieldType.int)) ∈ lw_all := lw_g (lw_at lw_m10 52 rfl) rfl
theorem q2336 : (Jvm.Cond.methodLink "NameOrchardModel" (468 : Nat) ({ cls := "NameOrchardModel", name := "readsLine", desc := "()Z" } : Jvm.MethodName)) ∈ lw_all := lw_g (lw_at lw_m10 53 rfl) rfl
theorem q2337 : (Jvm.Cond.privateMethod ({ cls := "NameOrchardModel", name := "readsLine", desc := "()Z" } : Jvm.MethodName)) ∈ lw_tbl := lw_at lw_m10 54 rfl
theorem q2338 : (Jvm.Cond.instanceMethod ({ cls := "NameOrchardModel", name := "readsLine", desc := "()Z" } : Jvm.MethodName)) ∈ lw_all := lw_g (lw_at lw_m10 55 rfl) rfl
theorem q2339 : (Jvm.Cond.code ({ cls := "NameOrchardModel", name := "readsLine", desc := "()Z" } : Jvm.MethodName) prog_35_method_50_code (3 : Nat) (Option.some Jvm.ClassFile.FieldType.boolean)) ∈ lw_all := lw_g (lw_at lw_m10 56 rfl) rfl
theorem q2340 : (Jvm.Cond.methodLink "NameOrchardModel" (471 : Nat) ({ cls := "NameOrchardModel", name := "laysLines", desc := "(II)V" } : Jvm.MethodName)) ∈ lw_all := lw_g (lw_at lw_m10 57 rfl) rfl
theorem q2341 : (Jvm.Cond.privateMethod ({ cls := "NameOrchardModel", name := "laysLines", desc := "(II)V" } : Jvm.MethodName)) ∈ lw_tbl := lw_at lw_m10 58 rfl
theorem q2342 : (Jvm.Cond.instanceMethod ({ cls := "NameOrchardModel", name := "laysLines", desc := "(II)V" } : Jvm.MethodName)) ∈ lw_all := lw_g (lw_at lw_m10 59 rfl) rfl
theorem q2343 : (Jvm.Cond.code ({ cls := "NameOrchardModel", name := "laysLines", desc := "(II)V" } : Jvm.MethodName) prog_35_method_51_code (4 : Nat) (Option.none : Option Jvm.ClassFile.FieldType)) ∈ lw_all := lw_g (lw_at lw_m10 60 rfl) rfl
theorem q2345 : (Jvm.Cond.instanceMethod ({ cls := "NameOrchardModel", name := "apple", desc := "(II)I" } : Jvm.MethodName)) ∈ lw_all := lw_g (lw_at lw_m10 62 rfl) rfl
theorem q2346 : (Jvm.Cond.selects "NameOrchardModel" ({ cls := "NameOrchardModel", name := "apple", desc := "(II)I" } : Jvm.MethodName) ({ cls := "NameOrchardModel", name := "apple", desc := "(II)I" } : Jvm.MethodName)) ∈ lw_all := lw_g (lw_at lw_m10 63 rfl) rfl
theorem q2347 : (Jvm.Cond.code ({ cls := "NameOrchardModel", name := "apple", desc := "(II)I" } : Jvm.MethodName) prog_35_method_61_code (3 : Nat) (Option.some Jvm.ClassFile.FieldType.int)) ∈ lw_all := lw_g (lw_at lw_m10 64 rfl) rfl
theorem q2348 : (Jvm.Cond.methodLink "NameOrchardModel" (478 : Nat) ({ cls := "NameOrchardModel", name := "isApple", desc := "(I)Z" } : Jvm.MethodName)) ∈ lw_all := lw_g (lw_at lw_m10 65 rfl) rfl
theorem q2349 : (Jvm.Cond.privateMethod ({ cls := "NameOrchardModel", name := "isApple", desc := "(I)Z" } : Jvm.MethodName)) ∈ lw_tbl := lw_at lw_m10 66 rfl
theorem q2350 : (Jvm.Cond.instanceMethod ({ cls := "NameOrchardModel", name := "isApple", desc := "(I)Z" } : Jvm.MethodName)) ∈ lw_all := lw_g (lw_at lw_m10 67 rfl) rfl
theorem q2351 : (Jvm.Cond.code ({ cls := "NameOrchardModel", name := "isApple", desc := "(I)Z" } : Jvm.MethodName) prog_35_method_56_code (2 : Nat) (Option.some Jvm.ClassFile.FieldType.boolean)) ∈ lw_all := lw_g (lw_at lw_m10 68 rfl) rfl
theorem q2352 : (Jvm.Cond.methodLink "NameOrchardModel" (481 : Nat) ({ cls := "NameOrchardModel", name := "valueOn", desc := "(II)I" } : Jvm.MethodName)) ∈ lw_all := lw_g (lw_at lw_m10 69 rfl) rfl
theorem q2353 : (Jvm.Cond.privateMethod ({ cls := "NameOrchardModel", name := "valueOn", desc := "(II)I" } : Jvm.MethodName)) ∈ lw_tbl := lw_at lw_m10 70 rfl
theorem q2354 : (Jvm.Cond.instanceMethod ({ cls := "NameOrchardModel", name := "valueOn", desc := "(II)I" } : Jvm.MethodName)) ∈ lw_all := lw_g (lw_at lw_m10 71 rfl) rfl
theorem q2355 : (Jvm.Cond.code ({ cls := "NameOrchardModel", name := "valueOn", desc := "(II)I" } : Jvm.MethodName) prog_35_method_60_code (4 : Nat) (Option.some Jvm.ClassFile.FieldType.int)) ∈ lw_all := lw_g (lw_at lw_m10 72 rfl) rfl
theorem q2356 : (Jvm.Cond.methodLink "NameOrchardModel" (474 : Nat) ({ cls := "NameOrchardModel", name := "between", desc := "(III)I" } : Jvm.MethodName)) ∈ lw_all := lw_g (lw_at lw_m10 73 rfl) rfl
theorem q2357 : (Jvm.Cond.static ({ cls := "NameOrchardModel", name := "between", desc := "(III)I" } : Jvm.MethodName)) ∈ lw_all := lw_g (lw_at lw_m10 74 rfl) rfl
theorem q2358 : (Jvm.Cond.code ({ cls := "NameOrchardModel", name := "between", desc := "(III)I" } : Jvm.MethodName) prog_35_method_4_code (3 : Nat) (Option.some Jvm.ClassFile.FieldType.int)) ∈ lw_all := lw_g (lw_at lw_m10 75 rfl) rfl
theorem q2360 : (Jvm.Cond.instanceMethod ({ cls := "NameOrchardModel", name := "near", desc := "(III)I" } : Jvm.MethodName)) ∈ lw_all := lw_g (lw_at lw_m10 77 rfl) rfl
theorem q2361 : (Jvm.Cond.selects "NameOrchardModel" ({ cls := "NameOrchardModel", name := "near", desc := "(III)I" } : Jvm.MethodName) ({ cls := "NameOrchardModel", name := "near", desc := "(III)I" } : Jvm.MethodName)) ∈ lw_all := lw_g (lw_at lw_m10 78 rfl) rfl
theorem q2362 : (Jvm.Cond.code ({ cls := "NameOrchardModel", name := "near", desc := "(III)I" } : Jvm.MethodName) prog_35_method_62_code (5 : Nat) (Option.some Jvm.ClassFile.FieldType.int)) ∈ lw_all := lw_g (lw_at lw_m10 79 rfl) rfl
theorem q2363 : (Jvm.Cond.methodLink "NameOrchardModel" (484 : Nat) ({ cls := "NameOrchardModel", name := "isSound", desc := "(I)Z" } : Jvm.MethodName)) ∈ lw_all := lw_g (lw_at lw_m10 80 rfl) rfl
theorem q2364 : (Jvm.Cond.privateMethod ({ cls := "NameOrchardModel", name := "isSound", desc := "(I)Z" } : Jvm.MethodName)) ∈ lw_tbl := lw_at lw_m10 81 rfl
theorem q2365 : (Jvm.Cond.instanceMethod ({ cls := "NameOrchardModel", name := "isSound", desc := "(I)Z" } : Jvm.MethodName)) ∈ lw_all := lw_g (lw_at lw_m10 82 rfl) rfl
theorem q2366 : (Jvm.Cond.code ({ cls := "NameOrchardModel", name := "isSound", desc := "(I)Z" } : Jvm.MethodName) prog_35_method_57_code (2 : Nat) (Option.some Jvm.ClassFile.FieldType.boolean)) ∈ lw_all := lw_g (lw_at lw_m10 83 rfl) rfl
theorem q2368 : (Jvm.Cond.instanceMethod ({ cls := "NameOrchardModel", name := "says", desc := "(II)I" } : Jvm.MethodName)) ∈ lw_all := lw_g (lw_at lw_m10 85 rfl) rfl
theorem q2369 : (Jvm.Cond.selects "NameOrchardModel" ({ cls := "NameOrchardModel", name := "says", desc := "(II)I" } : Jvm.MethodName) ({ cls := "NameOrchardModel", name := "says", desc := "(II)I" } : Jvm.MethodName)) ∈ lw_all := lw_g (lw_at lw_m10 86 rfl) rfl
theorem q2370 : (Jvm.Cond.code ({ cls := "NameOrchardModel", name := "says", desc := "(II)I" } : Jvm.MethodName) prog_35_method_63_code (3 : Nat) (Option.some Jvm.ClassFile.FieldType.int)) ∈ lw_all := lw_g (lw_at lw_m10 87 rfl) rfl
theorem q2371 : (Jvm.Cond.methodLink "NameOrchardModel" (487 : Nat) ({ cls := "NameOrchardModel", name := "isPerson", desc := "(I)Z" } : Jvm.MethodName)) ∈ lw_all := lw_g (lw_at lw_m10 88 rfl) rfl
theorem q2372 : (Jvm.Cond.privateMethod ({ cls := "NameOrchardModel", name := "isPerson", desc := "(I)Z" } : Jvm.MethodName)) ∈ lw_tbl := lw_at lw_m10 89 rfl
theorem q2373 : (Jvm.Cond.instanceMethod ({ cls := "NameOrchardModel", name := "isPerson", desc := "(I)Z" } : Jvm.MethodName)) ∈ lw_all := lw_g (lw_at lw_m10 90 rfl) rfl
theorem q2374 : (Jvm.Cond.code ({ cls := "NameOrchardModel", name := "isPerson", desc := "(I)Z" } : Jvm.MethodName) prog_35_method_58_code (2 : Nat) (Option.some Jvm.ClassFile.FieldType.boolean)) ∈ lw_all := lw_g (lw_at lw_m10 91 rfl) rfl
theorem q2375 : (Jvm.Cond.methodLink "NameOrchardModel" (490 : Nat) ({ cls := "NameOrchardModel", name := "isSaid", desc := "(II)Z" } : Jvm.MethodName)) ∈ lw_all := lw_g (lw_at lw_m10 92 rfl) rfl
theorem q2376 : (Jvm.Cond.privateMethod ({ cls := "NameOrchardModel", name := "isSaid", desc := "(II)Z" } : Jvm.MethodName)) ∈ lw_tbl := lw_at lw_m10 93 rfl
theorem q2377 : (Jvm.Cond.instanceMethod ({ cls := "NameOrchardModel", name := "isSaid", desc := "(II)Z" } : Jvm.MethodName)) ∈ lw_all := lw_g (lw_at lw_m10 94 rfl) rfl
theorem q2378 : (Jvm.Cond.code ({ cls := "NameOrchardModel", name := "isSaid", desc := "(II)Z" } : Jvm.MethodName) prog_35_method_48_code (5 : Nat) (Option.some Jvm.ClassFile.FieldType.boolean)) ∈ lw_all := lw_g (lw_at lw_m10 95 rfl) rfl
theorem q2380 : (Jvm.Cond.instanceMethod ({ cls := "NameOrchardModel", name := "falls", desc := "(II)I" } : Jvm.MethodName)) ∈ lw_all := lw_g (lw_at lw_m10 97 rfl) rfl
theorem q2381 : (Jvm.Cond.selects "NameOrchardModel" ({ cls := "NameOrchardModel", name := "falls", desc := "(II)I" } : Jvm.MethodName) ({ cls := "NameOrchardModel", name := "falls", desc := "(II)I" } : Jvm.MethodName)) ∈ lw_all := lw_g (lw_at lw_m10 98 rfl) rfl
theorem q2382 : (Jvm.Cond.code ({ cls := "NameOrchardModel", name := "falls", desc := "(II)I" } : Jvm.MethodName) prog_35_method_70_code (3 : Nat) (Option.some Jvm.ClassFile.FieldType.int)) ∈ lw_all := lw_g (lw_at lw_m10 99 rfl) rfl
theorem q2383 : (Jvm.Cond.methodLink "NameOrchardModel" (511 : Nat) ({ cls := "NameOrchardModel", name := "hears", desc := "(III)V" } : Jvm.MethodName)) ∈ lw_all := lw_g (lw_at lw_m10 100 rfl) rfl
theorem q2384 : (Jvm.Cond.privateMethod ({ cls := "NameOrchardModel", name := "hears", desc := "(III)V" } : Jvm.MethodName)) ∈ lw_tbl := lw_at lw_m10 101 rfl
theorem q2385 : (Jvm.Cond.instanceMethod ({ cls := "NameOrchardModel", name := "hears", desc := "(III)V" } : Jvm.MethodName)) ∈ lw_all := lw_g (lw_at lw_m10 102 rfl) rfl
theorem q2386 : (Jvm.Cond.code ({ cls := "NameOrchardModel", name := "hears", desc := "(III)V" } : Jvm.MethodName) prog_35_method_65_code (6 : Nat) (Option.none : Option Jvm.ClassFile.FieldType)) ∈ lw_all := lw_g (lw_at lw_m10 103 rfl) rfl
theorem q2387 : (Jvm.Cond.methodLink "NameOrchardModel" (499 : Nat) ({ cls := "NameOrchardModel", name := "soundsLike", desc := "(II)Z" } : Jvm.MethodName)) ∈ lw_all := lw_g (lw_at lw_m10 104 rfl) rfl
theorem q2388 : (Jvm.Cond.privateMethod ({ cls := "NameOrchardModel", name := "soundsLike", desc := "(II)Z" } : Jvm.MethodName)) ∈ lw_tbl := lw_at lw_m10 105 rfl
theorem q2389 : (Jvm.Cond.instanceMethod ({ cls := "NameOrchardModel", name := "soundsLike", desc := "(II)Z" } : Jvm.MethodName)) ∈ lw_all := lw_g (lw_at lw_m10 106 rfl) rfl
theorem q2390 : (Jvm.Cond.code ({ cls := "NameOrchardModel", name := "soundsLike", desc := "(II)Z" } : Jvm.MethodName) prog_35_method_64_code (3 : Nat) (Option.some Jvm.ClassFile.FieldType.boolean)) ∈ lw_all := lw_g (lw_at lw_m10 107 rfl) rfl
theorem q2391 : (Jvm.Cond.methodLink "NameOrchardModel" (502 : Nat) ({ cls := "NameOrchardModel", name := "away", desc := "(II)I" } : Jvm.MethodName)) ∈ lw_all := lw_g (lw_at lw_m10 108 rfl) rfl
theorem q2392 : (Jvm.Cond.static ({ cls := "NameOrchardModel", name := "away", desc := "(II)I" } : Jvm.MethodName)) ∈ lw_all := lw_g (lw_at lw_m10 109 rfl) rfl
theorem q2393 : (Jvm.Cond.code ({ cls := "NameOrchardModel", name := "away", desc := "(II)I" } : Jvm.MethodName) prog_35_method_5_code (2 : Nat) (Option.some Jvm.ClassFile.FieldType.int)) ∈ lw_all := lw_g (lw_at lw_m10 110 rfl) rfl
theorem q2394 : (Jvm.Cond.methodLink "NameOrchardModel" (515 : Nat) ({ cls := "NameOrchardModel", name := "fallsBy", desc := "(IIII)I" } : Jvm.MethodName)) ∈ lw_all := lw_g (lw_at lw_m10 111 rfl) rfl
theorem q2395 : (Jvm.Cond.privateMethod ({ cls := "NameOrchardModel", name := "fallsBy", desc := "(IIII)I" } : Jvm.MethodName)) ∈ lw_tbl := lw_at lw_m10 112 rfl
theorem q2396 : (Jvm.Cond.instanceMethod ({ cls := "NameOrchardModel", name := "fallsBy", desc := "(IIII)I" } : Jvm.MethodName)) ∈ lw_all := lw_g (lw_at lw_m10 113 rfl) rfl
theorem q2397 : (Jvm.Cond.code ({ cls := "NameOrchardModel", name := "fallsBy", desc := "(IIII)I" } : Jvm.MethodName) prog_35_method_67_code (9 : Nat) (Option.some Jvm.ClassFile.FieldType.int)) ∈ lw_all := lw_g (lw_at lw_m10 114 rfl) rfl
theorem q2398 : (Jvm.Cond.methodLink "NameOrchardModel" (505 : Nat) ({ cls := "NameOrchardModel", name := "welsh", desc := "()I" } : Jvm.MethodName)) ∈ lw_all := lw_g (lw_at lw_m10 115 rfl) rfl
theorem q2399 : (Jvm.Cond.privateMethod ({ cls := "NameOrchardModel", name := "welsh", desc := "()I" } : Jvm.MethodName)) ∈ lw_tbl := lw_at lw_m10 116 rfl
theorem q2400 : (Jvm.Cond.instanceMethod ({ cls := "NameOrchardModel", name := "welsh", desc := "()I" } : Jvm.MethodName)) ∈ lw_all := lw_g (lw_at lw_m10 117 rfl) rfl
theorem q2401 : (Jvm.Cond.code ({ cls := "NameOrchardModel", name := "welsh", desc := "()I" } : Jvm.MethodName) prog_35_method_66_code (3 : Nat) (Option.some Jvm.ClassFile.FieldType.int)) ∈ lw_all := lw_g (lw_at lw_m10 118 rfl) rfl
theorem q2403 : (Jvm.Cond.instanceMethod ({ cls := "NameOrchardModel", name := "call", desc := "(II)I" } : Jvm.MethodName)) ∈ lw_all := lw_g (lw_at lw_m10 120 rfl) rfl
theorem q2404 : (Jvm.Cond.selects "NameOrchardModel" ({ cls := "NameOrchardModel", name := "call", desc := "(II)I" } : Jvm.MethodName) ({ cls := "NameOrchardModel", name := "call", desc := "(II)I" } : Jvm.MethodName)) ∈ lw_all := lw_g (lw_at lw_m10 121 rfl) rfl
theorem q2405 : (Jvm.Cond.code ({ cls := "NameOrchardModel", name := "call", desc := "(II)I" } : Jvm.MethodName) prog_35_method_72_code (3 : Nat) (Option.some Jvm.ClassFile.FieldType.int)) ∈ lw_all := lw_g (lw_at lw_m10 122 rfl) rfl
theorem q2406 : (Jvm.Cond.methodLink "NameOrchardModel" (526 : Nat) ({ cls := "NameOrchardModel", name := "keeps", desc := "()V" } : Jvm.MethodName)) ∈ lw_all := lw_g (lw_at lw_m10 123 rfl) rfl
theorem q2407 : (Jvm.Cond.privateMethod ({ cls := "NameOrchardModel", name := "keeps", desc := "()V" } : Jvm.MethodName)) ∈ lw_tbl := lw_at lw_m10 124 rfl
theorem q2408 : (Jvm.Cond.instanceMethod ({ cls := "NameOrchardModel", name := "keeps", desc := "()V" } : Jvm.MethodName)) ∈ lw_all := lw_g (lw_at lw_m10 125 rfl) rfl
theorem q2409 : (Jvm.Cond.code ({ cls := "NameOrchardModel", name := "keeps", desc := "()V" } : Jvm.MethodName) prog_35_method_71_code (2 : Nat) (Option.none : Option Jvm.ClassFile.FieldType)) ∈ lw_all := lw_g (lw_at lw_m10 126 rfl) rfl
theorem q2410 : (Jvm.Cond.methodLink "NameOrchardModel" (522 : Nat) ({ cls := "NameOrchardModel", name := "copies", desc := "([II[II)V" } : Jvm.MethodName)) ∈ lw_all := lw_g (lw_at lw_m10 127 rfl) rfl
theorem q2411 : (Jvm.Cond.static ({ cls := "NameOrchardModel", name := "copies", desc := "([II[II)V" } : Jvm.MethodName)) ∈ lw_all := lw_g (lw_at lw_m10 128 rfl) rfl
theorem q2412 : (Jvm.Cond.code ({ cls := "NameOrchardModel", name := "copies", desc := "([II[II)V" } : Jvm.MethodName) prog_35_method_49_code (5 : Nat) (Option.none : Option Jvm.ClassFile.FieldType)) ∈ lw_all := lw_g (lw_at lw_m10 129 rfl) rfl
theorem q2413 : (Jvm.Cond.methodLink "NameOrchardModel" (529 : Nat) ({ cls := "NameOrchardModel", name := "calls", desc := "(III)I" } : Jvm.MethodName)) ∈ lw_all := lw_g (lw_at lw_m10 130 rfl) rfl
theorem q2414 : (Jvm.Cond.privateMethod ({ cls := "NameOrchardModel", name := "calls", desc := "(III)I" } : Jvm.MethodName)) ∈ lw_tbl := lw_at lw_m10 131 rfl
theorem q2415 : (Jvm.Cond.instanceMethod ({ cls := "NameOrchardModel", name := "calls", desc := "(III)I" } : Jvm.MethodName)) ∈ lw_all := lw_g (lw_at lw_m10 132 rfl) rfl
theorem q2416 : (Jvm.Cond.code ({ cls := "NameOrchardModel", name := "calls", desc := "(III)I" } : Jvm.MethodName) prog_35_method_69_code (5 : Nat) (Option.some Jvm.ClassFile.FieldType.int)) ∈ lw_all := lw_g (lw_at lw_m10 133 rfl) rfl
theorem q2417 : (Jvm.Cond.methodLink "NameOrchardModel" (519 : Nat) ({ cls := "NameOrchardModel", name := "worthOf", desc := "(II)I" } : Jvm.MethodName)) ∈ lw_all := lw_g (lw_at lw_m10 134 rfl) rfl
theorem q2418 : (Jvm.Cond.privateMethod ({ cls := "NameOrchardModel", name := "worthOf", desc := "(II)I" } : Jvm.MethodName)) ∈ lw_tbl := lw_at lw_m10 135 rfl
theorem q2419 : (Jvm.Cond.instanceMethod ({ cls := "NameOrchardModel", name := "worthOf", desc := "(II)I" } : Jvm.MethodName)) ∈ lw_all := lw_g (lw_at lw_m10 136 rfl) rfl
theorem q2420 : (Jvm.Cond.code ({ cls := "NameOrchardModel", name := "worthOf", desc := "(II)I" } : Jvm.MethodName) prog_35_method_68_code (5 : Nat) (Option.some Jvm.ClassFile.FieldType.int)) ∈ lw_all := lw_g (lw_at lw_m10 137 rfl) rfl
theorem q2422 : (Jvm.Cond.instanceMethod ({ cls := "NameOrchardModel", name := "pick", desc := "(I)I" } : Jvm.MethodName)) ∈ lw_all := lw_g (lw_at lw_m10 139 rfl) rfl
theorem q2423 : (Jvm.Cond.selects "NameOrchardModel" ({ cls := "NameOrchardModel", name := "pick", desc := "(I)I" } : Jvm.MethodName) ({ cls := "NameOrchardModel", name := "pick", desc := "(I)I" } : Jvm.MethodName)) ∈ lw_all := lw_g (lw_at lw_m10 140 rfl) rfl
theorem q2424 : (Jvm.Cond.code ({ cls := "NameOrchardModel", name := "pick", desc := "(I)I" } : Jvm.MethodName) prog_35_method_75_code (2 : Nat) (Option.some Jvm.ClassFile.FieldType.int)) ∈ lw_all := lw_g (lw_at lw_m10 141 rfl) rfl
theorem q2425 : (Jvm.Cond.methodLink "NameOrchardModel" (535 : Nat) ({ cls := "NameOrchardModel", name := "canPick", desc := "(I)Z" } : Jvm.MethodName)) ∈ lw_all := lw_g (lw_at lw_m10 142 rfl) rfl
theorem q2426 : (Jvm.Cond.privateMethod ({ cls := "NameOrchardModel", name := "canPick", desc := "(I)Z" } : Jvm.MethodName)) ∈ lw_tbl := lw_at lw_m10 143 rfl
theorem q2427 : (Jvm.Cond.instanceMethod ({ cls := "NameOrchardModel", name := "canPick", desc := "(I)Z" } : Jvm.MethodName)) ∈ lw_all := lw_g (lw_at lw_m10 144 rfl) rfl
theorem q2428 : (Jvm.Cond.code ({ cls := "NameOrchardModel", name := "canPick", desc := "(I)Z" } : Jvm.MethodName) prog_35_method_73_code (2 : Nat) (Option.some Jvm.ClassFile.FieldType.boolean)) ∈ lw_all := lw_g (lw_at lw_m10 145 rfl) rfl
theorem q2429 : (Jvm.Cond.methodLink "NameOrchardModel" (532 : Nat) ({ cls := "NameOrchardModel", name := "hangs", desc := "(I)Z" } : Jvm.MethodName)) ∈ lw_all := lw_g (lw_at lw_m10 146 rfl) rfl
theorem q2430 : (Jvm.Cond.privateMethod ({ cls := "NameOrchardModel", name := "hangs", desc := "(I)Z" } : Jvm.MethodName)) ∈ lw_tbl := lw_at lw_m10 147 rfl
theorem q2431 : (Jvm.Cond.instanceMethod ({ cls := "NameOrchardModel", name := "hangs", desc := "(I)Z" } : Jvm.MethodName)) ∈ lw_all := lw_g (lw_at lw_m10 148 rfl) rfl
theorem q2432 : (Jvm.Cond.code ({ cls := "NameOrchardModel", name := "hangs", desc := "(I)Z" } : Jvm.MethodName) prog_35_method_59_code (2 : Nat) (Option.some Jvm.ClassFile.FieldType.boolean)) ∈ lw_all := lw_g (lw_at lw_m10 149 rfl) rfl
theorem q2433 : (Jvm.Cond.methodLink "NameOrchardModel" (538 : Nat) ({ cls := "NameOrchardModel", name := "picks", desc := "(I)I" } : Jvm.MethodName)) ∈ lw_all := lw_g (lw_at lw_m10 150 rfl) rfl
theorem q2434 : (Jvm.Cond.privateMethod ({ cls := "NameOrchardModel", name := "picks", desc := "(I)I" } : Jvm.MethodName)) ∈ lw_tbl := lw_at lw_m10 151 rfl
theorem q2435 : (Jvm.Cond.instanceMethod ({ cls := "NameOrchardModel", name := "picks", desc := "(I)I" } : Jvm.MethodName)) ∈ lw_all := lw_g (lw_at lw_m10 152 rfl) rfl
theorem q2436 : (Jvm.Cond.code ({ cls := "NameOrchardModel", name := "picks", desc := "(I)I" } : Jvm.MethodName) prog_35_method_74_code (3 : Nat) (Option.some Jvm.ClassFile.FieldType.int)) ∈ lw_all := lw_g (lw_at lw_m10 153 rfl) rfl
theorem q2438 : (Jvm.Cond.instanceMethod ({ cls := "NameOrchardModel", name := "christen", desc := "(II)Z" } : Jvm.MethodName)) ∈ lw_all := lw_g (lw_at lw_m10 155 rfl) rfl
theorem q2439 : (Jvm.Cond.selects "NameOrchardModel" ({ cls := "NameOrchardModel", name := "christen", desc := "(II)Z" } : Jvm.MethodName) ({ cls := "NameOrchardModel", name := "christen", desc := "(II)Z" } : Jvm.MethodName)) ∈ lw_all := lw_g (lw_at lw_m10 156 rfl) rfl
theorem q2440 : (Jvm.Cond.code ({ cls := "NameOrchardModel", name := "christen", desc := "(II)Z" } : Jvm.MethodName) prog_35_method_77_code (3 : Nat) (Option.some Jvm.ClassFile.FieldType.boolean)) ∈ lw_all := lw_g (lw_at lw_m10 157 rfl) rfl
theorem q2441 : (Jvm.Cond.methodLink "NameOrchardModel" (541 : Nat) ({ cls := "NameOrchardModel", name := "isFree", desc := "(II)Z" } : Jvm.MethodName)) ∈ lw_all := lw_g (lw_at lw_m10 158 rfl) rfl
theorem q2442 : (Jvm.Cond.privateMethod ({ cls := "NameOrchardModel", name := "isFree", desc := "(II)Z" } : Jvm.MethodName)) ∈ lw_tbl := lw_at lw_m10 159 rfl
theorem q2443 : (Jvm.Cond.instanceMethod ({ cls := "NameOrchardModel", name := "isFree", desc := "(II)Z" } : Jvm.MethodName)) ∈ lw_all := lw_g (lw_at lw_m10 160 rfl) rfl
theorem q2444 : (Jvm.Cond.code ({ cls := "NameOrchardModel", name := "isFree", desc := "(II)Z" } : Jvm.MethodName) prog_35_method_76_code (4 : Nat) (Option.some Jvm.ClassFile.FieldType.boolean)) ∈ lw_all := lw_g (lw_at lw_m10 161 rfl) rfl
theorem q2446 : (Jvm.Cond.instanceMethod ({ cls := "NameOrchardModel", name := "pass", desc := "(I)I" } : Jvm.MethodName)) ∈ lw_all := lw_g (lw_at lw_m10 163 rfl) rfl
theorem q2447 : (Jvm.Cond.selects "NameOrchardModel" ({ cls := "NameOrchardModel", name := "pass", desc := "(I)I" } : Jvm.MethodName) ({ cls := "NameOrchardModel", name := "pass", desc := "(I)I" } : Jvm.MethodName)) ∈ lw_all := lw_g (lw_at lw_m10 164 rfl) rfl
theorem q2448 : (Jvm.Cond.code ({ cls := "NameOrchardModel", name := "pass", desc := "(I)I" } : Jvm.MethodName) prog_35_method_79_code (3 : Nat) (Option.some Jvm.ClassFile.FieldType.int)) ∈ lw_all := lw_g (lw_at lw_m10 165 rfl) rfl
theorem q2449 : (Jvm.Cond.methodLink "NameOrchardModel" (544 : Nat) ({ cls := "NameOrchardModel", name := "passes", desc := "()V" } : Jvm.MethodName)) ∈ lw_all := lw_g (lw_at lw_m10 166 rfl) rfl
theorem q2450 : (Jvm.Cond.privateMethod ({ cls := "NameOrchardModel", name := "passes", desc := "()V" } : Jvm.MethodName)) ∈ lw_tbl := lw_at lw_m10 167 rfl
theorem q2451 : (Jvm.Cond.instanceMethod ({ cls := "NameOrchardModel", name := "passes", desc := "()V" } : Jvm.MethodName)) ∈ lw_all := lw_g (lw_at lw_m10 168 rfl) rfl
theorem q2452 : (Jvm.Cond.code ({ cls := "NameOrchardModel", name := "passes", desc := "()V" } : Jvm.MethodName) prog_35_method_78_code (1 : Nat) (Option.none : Option Jvm.ClassFile.FieldType)) ∈ lw_all := lw_g (lw_at lw_m10 169 rfl) rfl
theorem q2454 : (Jvm.Cond.instanceMethod ({ cls := "NameOrchardModel", name := "undo", desc := "()Z" } : Jvm.MethodName)) ∈ lw_all := lw_g (lw_at lw_m10 171 rfl) rfl
theorem q2455 : (Jvm.Cond.selects "NameOrchardModel" ({ cls := "NameOrchardModel", name := "undo", desc := "()Z" } : Jvm.MethodName) ({ cls := "NameOrchardModel", name := "undo", desc := "()Z" } : Jvm.MethodName)) ∈ lw_all := lw_g (lw_at lw_m10 172 rfl) rfl
theorem q2456 : (Jvm.Cond.code ({ cls := "NameOrchardModel", name := "undo", desc := "()Z" } : Jvm.MethodName) prog_35_method_80_code (1 : Nat) (Option.some Jvm.ClassFile.FieldType.boolean)) ∈ lw_all := lw_g (lw_at lw_m10 173 rfl) rfl
theorem q2458 : (Jvm.Cond.instanceMethod ({ cls := "NameOrchardModel", name := "judged", desc := "(I)I" } : Jvm.MethodName)) ∈ lw_all := lw_g (lw_at lw_m10 175 rfl) rfl
theorem q2459 : (Jvm.Cond.selects "NameOrchardModel" ({ cls := "NameOrchardModel", name := "judged", desc := "(I)I" } : Jvm.MethodName) ({ cls := "NameOrchardModel", name := "judged", desc := "(I)I" } : Jvm.MethodName)) ∈ lw_all := lw_g (lw_at lw_m10 176 rfl) rfl
theorem q2460 : (Jvm.Cond.code ({ cls := "NameOrchardModel", name := "judged", desc := "(I)I" } : Jvm.MethodName) prog_35_method_83_code (5 : Nat) (Option.some Jvm.ClassFile.FieldType.int)) ∈ lw_all := lw_g (lw_at lw_m10 177 rfl) rfl
theorem q2461 : (Jvm.Cond.methodLink "NameOrchardModel" (554 : Nat) ({ cls := "NameOrchardModel", name := "goes", desc := "(I)Z" } : Jvm.MethodName)) ∈ lw_all := lw_g (lw_at lw_m10 178 rfl) rfl
theorem q2462 : (Jvm.Cond.privateMethod ({ cls := "NameOrchardModel", name := "goes", desc := "(I)Z" } : Jvm.MethodName)) ∈ lw_tbl := lw_at lw_m10 179 rfl
theorem q2463 : (Jvm.Cond.instanceMethod ({ cls := "NameOrchardModel", name := "goes", desc := "(I)Z" } : Jvm.MethodName)) ∈ lw_all := lw_g (lw_at lw_m10 180 rfl) rfl
theorem q2464 : (Jvm.Cond.code ({ cls := "NameOrchardModel", name := "goes", desc := "(I)Z" } : Jvm.MethodName) prog_35_method_82_code (2 : Nat) (Option.some Jvm.ClassFile.FieldType.boolean)) ∈ lw_all := lw_g (lw_at lw_m10 181 rfl) rfl
theorem q2465 : (Jvm.Cond.methodLink "NameOrchardModel" (551 : Nat) ({ cls := "NameOrchardModel", name := "greenOf", desc := "(I)I" } : Jvm.MethodName)) ∈ lw_all := lw_g (lw_at lw_m10 182 rfl) rfl
theorem q2466 : (Jvm.Cond.privateMethod ({ cls := "NameOrchardModel", name := "greenOf", desc := "(I)I" } : Jvm.MethodName)) ∈ lw_tbl := lw_at lw_m10 183 rfl
theorem q2467 : (Jvm.Cond.instanceMethod ({ cls := "NameOrchardModel", name := "greenOf", desc := "(I)I" } : Jvm.MethodName)) ∈ lw_all := lw_g (lw_at lw_m10 184 rfl) rfl
theorem q2468 : (Jvm.Cond.code ({ cls := "NameOrchardModel", name := "greenOf", desc := "(I)I" } : Jvm.MethodName) prog_35_method_81_code (4 : Nat) (Option.some Jvm.ClassFile.FieldType.int)) ∈ lw_all := lw_g (lw_at lw_m10 185 rfl) rfl
theorem q2470 : (Jvm.Cond.instanceMethod ({ cls := "NameOrchardModel", name := "crop", desc := "(II)I" } : Jvm.MethodName)) ∈ lw_all := lw_g (lw_at lw_m10 187 rfl) rfl
theorem q2471 : (Jvm.Cond.selects "NameOrchardModel" ({ cls := "NameOrchardModel", name := "crop", desc := "(II)I" } : Jvm.MethodName) ({ cls := "NameOrchardModel", name := "crop", desc := "(II)I" } : Jvm.MethodName)) ∈ lw_all := lw_g (lw_at lw_m10 188 rfl) rfl
theorem q2472 : (Jvm.Cond.code ({ cls := "NameOrchardModel", name := "crop", desc := "(II)I" } : Jvm.MethodName) prog_35_method_87_code (4 : Nat) (Option.some Jvm.ClassFile.FieldType.int)) ∈ lw_all := lw_g (lw_at lw_m10 189 rfl) rfl
theorem q2473 : (Jvm.Cond.methodLink "NameOrchardModel" (570 : Nat) ({ cls := "NameOrchardModel", name := "laysCalls", desc := "()V" } : Jvm.MethodName)) ∈ lw_all := lw_g (lw_at lw_m10 190 rfl) rfl
theorem q2474 : (Jvm.Cond.privateMethod ({ cls := "NameOrchardModel", name := "laysCalls", desc := "()V" } : Jvm.MethodName)) ∈ lw_tbl := lw_at lw_m10 191 rfl
theorem q2475 : (Jvm.Cond.instanceMethod ({ cls := "NameOrchardModel", name := "laysCalls", desc := "()V" } : Jvm.MethodName)) ∈ lw_all := lw_g (lw_at lw_m10 192 rfl) rfl
theorem q2476 : (Jvm.Cond.code ({ cls := "NameOrchardModel", name := "laysCalls", desc := "()V" } : Jvm.MethodName) prog_35_method_84_code (3 : Nat) (Option.none : Option Jvm.ClassFile.FieldType)) ∈ lw_all := lw_g (lw_at lw_m10 193 rfl) rfl
theorem q2477 : (Jvm.Cond.methodLink "NameOrchardModel" (560 : Nat) ({ cls := "NameOrchardModel", name := "cropOf", desc := "(IIIIZ)I" } : Jvm.MethodName)) ∈ lw_all := lw_g (lw_at lw_m10 194 rfl) rfl
theorem q2478 : (Jvm.Cond.privateMethod ({ cls := "NameOrchardModel", name := "cropOf", desc := "(IIIIZ)I" } : Jvm.MethodName)) ∈ lw_tbl := lw_at lw_m10 195 rfl
theorem q2479 : (Jvm.Cond.instanceMethod ({ cls := "NameOrchardModel", name := "cropOf", desc := "(IIIIZ)I" } : Jvm.MethodName)) ∈ lw_all := lw_g (lw_at lw_m10 196 rfl) rfl
theorem q2480 : (Jvm.Cond.code ({ cls := "NameOrchardModel", name := "cropOf", desc := "(IIIIZ)I" } : Jvm.MethodName) prog_35_method_86_code (10 : Nat) (Option.some Jvm.ClassFile.FieldType.int)) ∈ lw_all := lw_g (lw_at lw_m10 197 rfl) rfl
theorem q2481 : (Jvm.Cond.methodLink "NameOrchardModel" (567 : Nat) ({ cls := "NameOrchardModel", name := "cropWorth", desc := "(II)I" } : Jvm.MethodName)) ∈ lw_all := lw_g (lw_at lw_m10 198 rfl) rfl
theorem q2482 : (Jvm.Cond.privateMethod ({ cls := "NameOrchardModel", name := "cropWorth", desc := "(II)I" } : Jvm.MethodName)) ∈ lw_tbl := lw_at lw_m10 199 rfl
theorem q2483 : (Jvm.Cond.instanceMethod ({ cls := "NameOrchardModel", name := "cropWorth", desc := "(II)I" } : Jvm.MethodName)) ∈ lw_all := lw_g (lw_at lw_m10 200 rfl) rfl
theorem q2484 : (Jvm.Cond.code ({ cls := "NameOrchardModel", name := "cropWorth", desc := "(II)I" } : Jvm.MethodName) prog_35_method_85_code (5 : Nat) (Option.some Jvm.ClassFile.FieldType.int)) ∈ lw_all := lw_g (lw_at lw_m10 201 rfl) rfl
theorem q2486 : (Jvm.Cond.instanceMethod ({ cls := "NameOrchardModel", name := "fetch", desc := "()I" } : Jvm.MethodName)) ∈ lw_all := lw_g (lw_at lw_m10 203 rfl) rfl
theorem q2487 : (Jvm.Cond.selects "NameOrchardModel" ({ cls := "NameOrchardModel", name := "fetch", desc := "()I" } : Jvm.MethodName) ({ cls := "NameOrchardModel", name := "fetch", desc := "()I" } : Jvm.MethodName)) ∈ lw_all := lw_g (lw_at lw_m10 204 rfl) rfl
theorem q2488 : (Jvm.Cond.code ({ cls := "NameOrchardModel", name := "fetch", desc := "()I" } : Jvm.MethodName) prog_35_method_90_code (11 : Nat) (Option.some Jvm.ClassFile.FieldType.int)) ∈ lw_all := lw_g (lw_at lw_m10 205 rfl) rfl
theorem q2489 : (Jvm.Cond.methodLink "NameOrchardModel" (573 : Nat) ({ cls := "NameOrchardModel", name := "deaf", desc := "()I" } : Jvm.MethodName)) ∈ lw_all := lw_g (lw_at lw_m10 206 rfl) rfl
theorem q2490 : (Jvm.Cond.privateMethod ({ cls := "NameOrchardModel", name := "deaf", desc := "()I" } : Jvm.MethodName)) ∈ lw_tbl := lw_at lw_m10 207 rfl
theorem q2491 : (Jvm.Cond.instanceMethod ({ cls := "NameOrchardModel", name := "deaf", desc := "()I" } : Jvm.MethodName)) ∈ lw_all := lw_g (lw_at lw_m10 208 rfl) rfl
theorem q2492 : (Jvm.Cond.code ({ cls := "NameOrchardModel", name := "deaf", desc := "()I" } : Jvm.MethodName) prog_35_method_89_code (3 : Nat) (Option.some Jvm.ClassFile.FieldType.int)) ∈ lw_all := lw_g (lw_at lw_m10 209 rfl) rfl
theorem q2493 : (Jvm.Cond.methodLink "NameOrchardModel" (576 : Nat) ({ cls := "NameOrchardModel", name := "meets", desc := "(I)Z" } : Jvm.MethodName)) ∈ lw_all := lw_g (lw_at lw_m10 210 rfl) rfl
theorem q2494 : (Jvm.Cond.privateMethod ({ cls := "NameOrchardModel", name := "meets", desc := "(I)Z" } : Jvm.MethodName)) ∈ lw_tbl := lw_at lw_m10 211 rfl
theorem q2495 : (Jvm.Cond.instanceMethod ({ cls := "NameOrchardModel", name := "meets", desc := "(I)Z" } : Jvm.MethodName)) ∈ lw_all := lw_g (lw_at lw_m10 212 rfl) rfl
theorem q2496 : (Jvm.Cond.code ({ cls := "NameOrchardModel", name := "meets", desc := "(I)Z" } : Jvm.MethodName) prog_35_method_88_code (2 : Nat) (Option.some Jvm.ClassFile.FieldType.boolean)) ∈ lw_all := lw_g (lw_at lw_m10 213 rfl) rfl
theorem q2498 : (Jvm.Cond.instanceMethod ({ cls := "NameOrchardModel", name := "lies", desc := "(IZ)Z" } : Jvm.MethodName)) ∈ lw_all := lw_g (lw_at lw_m10 215 rfl) rfl
theorem q2499 : (Jvm.Cond.selects "NameOrchardModel" ({ cls := "NameOrchardModel", name := "lies", desc := "(IZ)Z" } : Jvm.MethodName) ({ cls := "NameOrchardModel", name := "lies", desc := "(IZ)Z" } : Jvm.MethodName)) ∈ lw_all := lw_g (lw_at lw_m10 216 rfl) rfl
theorem q2500 : (Jvm.Cond.code ({ cls := "NameOrchardModel", name := "lies", desc := "(IZ)Z" } : Jvm.MethodName) prog_35_method_91_code (3 : Nat) (Option.some Jvm.ClassFile.FieldType.boolean)) ∈ lw_all := lw_g (lw_at lw_m10 217 rfl) rfl
theorem q2502 : (Jvm.Cond.instanceMethod ({ cls := "NameOrchardModel", name := "called", desc := "(I)I" } : Jvm.MethodName)) ∈ lw_all := lw_g (lw_at lw_m10 219 rfl) rfl
theorem q2503 : (Jvm.Cond.selects "NameOrchardModel" ({ cls := "NameOrchardModel", name := "called", desc := "(I)I" } : Jvm.MethodName) ({ cls := "NameOrchardModel", name := "called", desc := "(I)I" } : Jvm.MethodName)) ∈ lw_all := lw_g (lw_at lw_m10 220 rfl) rfl
theorem q2504 : (Jvm.Cond.code ({ cls := "NameOrchardModel", name := "called", desc := "(I)I" } : Jvm.MethodName) prog_35_method_92_code (9 : Nat) (Option.some Jvm.ClassFile.FieldType.int)) ∈ lw_all := lw_g (lw_at lw_m10 221 rfl) rfl
theorem q2506 : (Jvm.Cond.instanceMethod ({ cls := "NameOrchardModel", name := "tell", desc := "(IIZ)Z" } : Jvm.MethodName)) ∈ lw_all := lw_g (lw_at lw_m10 223 rfl) rfl
theorem q2507 : (Jvm.Cond.selects "NameOrchardModel" ({ cls := "NameOrchardModel", name := "tell", desc := "(IIZ)Z" } : Jvm.MethodName) ({ cls := "NameOrchardModel", name := "tell", desc := "(IIZ)Z" } : Jvm.MethodName)) ∈ lw_all := lw_g (lw_at lw_m10 224 rfl) rfl
theorem q2508 : (Jvm.Cond.code ({ cls := "NameOrchardModel", name := "tell", desc := "(IIZ)Z" } : Jvm.MethodName) prog_35_method_93_code (4 : Nat) (Option.some Jvm.ClassFile.FieldType.boolean)) ∈ lw_all := lw_g (lw_at lw_m10 225 rfl) rfl
theorem q2510 : (Jvm.Cond.instanceMethod ({ cls := "NameOrchardModel", name := "laws", desc := "(I)I" } : Jvm.MethodName)) ∈ lw_all := lw_g (lw_at lw_m10 227 rfl) rfl
theorem q2511 : (Jvm.Cond.selects "NameOrchardModel" ({ cls := "NameOrchardModel", name := "laws", desc := "(I)I" } : Jvm.MethodName) ({ cls := "NameOrchardModel", name := "laws", desc := "(I)I" } : Jvm.MethodName)) ∈ lw_all := lw_g (lw_at lw_m10 228 rfl) rfl
theorem q2512 : (Jvm.Cond.code ({ cls := "NameOrchardModel", name := "laws", desc := "(I)I" } : Jvm.MethodName) prog_35_method_95_code (7 : Nat) (Option.some Jvm.ClassFile.FieldType.int)) ∈ lw_all := lw_g (lw_at lw_m10 229 rfl) rfl
theorem q2513 : (Jvm.Cond.methodLink "NameOrchardModel" (579 : Nat) ({ cls := "NameOrchardModel", name := "isLaw", desc := "(II)Z" } : Jvm.MethodName)) ∈ lw_all := lw_g (lw_at lw_m10 230 rfl) rfl
theorem q2514 : (Jvm.Cond.privateMethod ({ cls := "NameOrchardModel", name := "isLaw", desc := "(II)Z" } : Jvm.MethodName)) ∈ lw_tbl := lw_at lw_m10 231 rfl
theorem q2515 : (Jvm.Cond.instanceMethod ({ cls := "NameOrchardModel", name := "isLaw", desc := "(II)Z" } : Jvm.MethodName)) ∈ lw_all := lw_g (lw_at lw_m10 232 rfl) rfl
theorem q2516 : (Jvm.Cond.code ({ cls := "NameOrchardModel", name := "isLaw", desc := "(II)Z" } : Jvm.MethodName) prog_35_method_94_code (5 : Nat) (Option.some Jvm.ClassFile.FieldType.boolean)) ∈ lw_all := lw_g (lw_at lw_m10 233 rfl) rfl
theorem q2518 : (Jvm.Cond.instanceMethod ({ cls := "NameOrchardModel", name := "loss", desc := "(I)I" } : Jvm.MethodName)) ∈ lw_all := lw_g (lw_at lw_m10 235 rfl) rfl
theorem q2519 : (Jvm.Cond.selects "NameOrchardModel" ({ cls := "NameOrchardModel", name := "loss", desc := "(I)I" } : Jvm.MethodName) ({ cls := "NameOrchardModel", name := "loss", desc := "(I)I" } : Jvm.MethodName)) ∈ lw_all := lw_g (lw_at lw_m10 236 rfl) rfl
theorem q2520 : (Jvm.Cond.code ({ cls := "NameOrchardModel", name := "loss", desc := "(I)I" } : Jvm.MethodName) prog_35_method_97_code (2 : Nat) (Option.some Jvm.ClassFile.FieldType.int)) ∈ lw_all := lw_g (lw_at lw_m10 237 rfl) rfl
theorem q2521 : (Jvm.Cond.methodLink "NameOrchardModel" (585 : Nat) ({ cls := "NameOrchardModel", name := "lossOf", desc := "(I)I" } : Jvm.MethodName)) ∈ lw_all := lw_g (lw_at lw_m10 238 rfl) rfl
theorem q2522 : (Jvm.Cond.privateMethod ({ cls := "NameOrchardModel", name := "lossOf", desc := "(I)I" } : Jvm.MethodName)) ∈ lw_tbl := lw_at lw_m10 239 rfl
theorem q2523 : (Jvm.Cond.instanceMethod ({ cls := "NameOrchardModel", name := "lossOf", desc := "(I)I" } : Jvm.MethodName)) ∈ lw_all := lw_g (lw_at lw_m11 0 rfl) rfl
theorem q2524 : (Jvm.Cond.code ({ cls := "NameOrchardModel", name := "lossOf", desc := "(I)I" } : Jvm.MethodName) prog_35_method_96_code (7 : Nat) (Option.some Jvm.ClassFile.FieldType.int)) ∈ lw_all := lw_g (lw_at lw_m11 1 rfl) rfl
theorem q2525 : (Jvm.Cond.constant "NameOrchardModel" (582 : Nat) (1000000 : Int32)) ∈ lw_all := lw_g (lw_at lw_m11 2 rfl) rfl
theorem q2526 : (Jvm.Cond.constantLong "NameOrchardModel" (583 : Nat) (1000 : Int64)) ∈ lw_all := lw_g (lw_at lw_m11 3 rfl) rfl
theorem q2528 : (Jvm.Cond.instanceMethod ({ cls := "NameOrchardModel", name := "best", desc := "(II)I" } : Jvm.MethodName)) ∈ lw_all := lw_g (lw_at lw_m11 5 rfl) rfl
theorem q2529 : (Jvm.Cond.selects "NameOrchardModel" ({ cls := "NameOrchardModel", name := "best", desc := "(II)I" } : Jvm.MethodName) ({ cls := "NameOrchardModel", name := "best", desc := "(II)I" } : Jvm.MethodName)) ∈ lw_all := lw_g (lw_at lw_m11 6 rfl) rfl
theorem q2530 : (Jvm.Cond.code ({ cls := "NameOrchardModel", name := "best", desc := "(II)I" } : Jvm.MethodName) prog_35_method_98_code (8 : Nat) (Option.some Jvm.ClassFile.FieldType.int)) ∈ lw_all := lw_g (lw_at lw_m11 7 rfl) rfl
theorem q2532 : (Jvm.Cond.instanceMethod ({ cls := "NameOrchardModel", name := "thief", desc := "(III)I" } : Jvm.MethodName)) ∈ lw_all := lw_g (lw_at lw_m11 9 rfl) rfl
theorem q2533 : (Jvm.Cond.selects "NameOrchardModel" ({ cls := "NameOrchardModel", name := "thief", desc := "(III)I" } : Jvm.MethodName) ({ cls := "NameOrchardModel", name := "thief", desc := "(III)I" } : Jvm.MethodName)) ∈ lw_all := lw_g (lw_at lw_m11 10 rfl) rfl
theorem q2534 : (Jvm.Cond.code ({ cls := "NameOrchardModel", name := "thief", desc := "(III)I" } : Jvm.MethodName) prog_35_method_101_code (4 : Nat) (Option.some Jvm.ClassFile.FieldType.int)) ∈ lw_all := lw_g (lw_at lw_m11 11 rfl) rfl
theorem q2535 : (Jvm.Cond.methodLink "NameOrchardModel" (588 : Nat) ({ cls := "NameOrchardModel", name := "isVoice", desc := "(II)Z" } : Jvm.MethodName)) ∈ lw_all := lw_g (lw_at lw_m11 12 rfl) rfl
theorem q2536 : (Jvm.Cond.static ({ cls := "NameOrchardModel", name := "isVoice", desc := "(II)Z" } : Jvm.MethodName)) ∈ lw_all := lw_g (lw_at lw_m11 13 rfl) rfl
theorem q2537 : (Jvm.Cond.code ({ cls := "NameOrchardModel", name := "isVoice", desc := "(II)Z" } : Jvm.MethodName) prog_35_method_100_code (2 : Nat) (Option.some Jvm.ClassFile.FieldType.boolean)) ∈ lw_all := lw_g (lw_at lw_m11 14 rfl) rfl
theorem q2538 : (Jvm.Cond.methodLink "NameOrchardModel" (591 : Nat) ({ cls := "NameOrchardModel", name := "thiefOf", desc := "(III)I" } : Jvm.MethodName)) ∈ lw_all := lw_g (lw_at lw_m11 15 rfl) rfl
theorem q2539 : (Jvm.Cond.privateMethod ({ cls := "NameOrchardModel", name := "thiefOf", desc := "(III)I" } : Jvm.MethodName)) ∈ lw_tbl := lw_at lw_m11 16 rfl
theorem q2540 : (Jvm.Cond.instanceMethod ({ cls := "NameOrchardModel", name := "thiefOf", desc := "(III)I" } : Jvm.MethodName)) ∈ lw_all := lw_g (lw_at lw_m11 17 rfl) rfl
theorem q2541 : (Jvm.Cond.code ({ cls := "NameOrchardModel", name := "thiefOf", desc := "(III)I" } : Jvm.MethodName) prog_35_method_99_code (10 : Nat) (Option.some Jvm.ClassFile.FieldType.int)) ∈ lw_all := lw_g (lw_at lw_m11 18 rfl) rfl
theorem q2543 : (Jvm.Cond.instanceMethod ({ cls := "NameOrchardModel", name := "hide", desc := "(II)I" } : Jvm.MethodName)) ∈ lw_all := lw_g (lw_at lw_m11 20 rfl) rfl
theorem q2544 : (Jvm.Cond.selects "NameOrchardModel" ({ cls := "NameOrchardModel", name := "hide", desc := "(II)I" } : Jvm.MethodName) ({ cls := "NameOrchardModel", name := "hide", desc := "(II)I" } : Jvm.MethodName)) ∈ lw_all := lw_g (lw_at lw_m11 21 rfl) rfl
theorem q2545 : (Jvm.Cond.code ({ cls := "NameOrchardModel", name := "hide", desc := "(II)I" } : Jvm.MethodName) prog_35_method_102_code (8 : Nat) (Option.some Jvm.ClassFile.FieldType.int)) ∈ lw_all := lw_g (lw_at lw_m11 22 rfl) rfl
theorem q2546 : (Jvm.Cond.methodLink "NameOrchardModel" (594 : Nat) ({ cls := "java/lang/Math", name := "max", desc := "(II)I" } : Jvm.MethodName)) ∈ lw_all := lw_g (lw_at lw_m11 23 rfl) rfl
theorem q2548 : (Jvm.Cond.instanceMethod ({ cls := "NameOrchardModel", name := "banns", desc := "(III)I" } : Jvm.MethodName)) ∈ lw_all := lw_g (lw_at lw_m11 25 rfl) rfl
theorem q2549 : (Jvm.Cond.selects "NameOrchardModel" ({ cls := "NameOrchardModel", name := "banns", desc := "(III)I" } : Jvm.MethodName) ({ cls := "NameOrchardModel", name := "banns", desc := "(III)I" } : Jvm.MethodName)) ∈ lw_all := lw_g (lw_at lw_m11 26 rfl) rfl
theorem q2550 : (Jvm.Cond.code ({ cls := "NameOrchardModel", name := "banns", desc := "(III)I" } : Jvm.MethodName) prog_35_method_104_code (4 : Nat) (Option.some Jvm.ClassFile.FieldType.int)) ∈ lw_all := lw_g (lw_at lw_m11 27 rfl) rfl
theorem q2551 : (Jvm.Cond.methodLink "NameOrchardModel" (600 : Nat) ({ cls := "NameOrchardModel", name := "reads0", desc := "(IIIIIII)V" } : Jvm.MethodName)) ∈ lw_all := lw_g (lw_at lw_m11 28 rfl) rfl
theorem q2552 : (Jvm.Cond.privateMethod ({ cls := "NameOrchardModel", name := "reads0", desc := "(IIIIIII)V" } : Jvm.MethodName)) ∈ lw_tbl := lw_at lw_m11 29 rfl
theorem q2553 : (Jvm.Cond.instanceMethod ({ cls := "NameOrchardModel", name := "reads0", desc := "(IIIIIII)V" } : Jvm.MethodName)) ∈ lw_all := lw_g (lw_at lw_m11 30 rfl) rfl
theorem q2554 : (Jvm.Cond.code ({ cls := "NameOrchardModel", name := "reads0", desc := "(IIIIIII)V" } : Jvm.MethodName) prog_35_method_103_code (14 : Nat) (Option.none : Option Jvm.ClassFile.FieldType)) ∈ lw_all := lw_g (lw_at lw_m11 31 rfl) rfl
theorem q2556 : (Jvm.Cond.instanceMethod ({ cls := "NameOrchardModel", name := "years", desc := "(III)I" } : Jvm.MethodName)) ∈ lw_all := lw_g (lw_at lw_m11 33 rfl) rfl
theorem q2557 : (Jvm.Cond.selects "NameOrchardModel" ({ cls := "NameOrchardModel", name := "years", desc := "(III)I" } : Jvm.MethodName) ({ cls := "NameOrchardModel", name := "years", desc := "(III)I" } : Jvm.MethodName)) ∈ lw_all := lw_g (lw_at lw_m11 34 rfl) rfl
theorem q2558 : (Jvm.Cond.code ({ cls := "NameOrchardModel", name := "years", desc := "(III)I" } : Jvm.MethodName) prog_35_method_107_code (6 : Nat) (Option.some Jvm.ClassFile.FieldType.int)) ∈ lw_all := lw_g (lw_at lw_m11 35 rfl) rfl
theorem q2559 : (Jvm.Cond.methodLink "NameOrchardModel" (618 : Nat) ({ cls := "NameOrchardModel", name := "livesDay", desc := "()I" } : Jvm.MethodName)) ∈ lw_all := lw_g (lw_at lw_m11 36 rfl) rfl
theorem q2560 : (Jvm.Cond.privateMethod ({ cls := "NameOrchardModel", name := "livesDay", desc := "()I" } : Jvm.MethodName)) ∈ lw_tbl := lw_at lw_m11 37 rfl
theorem q2561 : (Jvm.Cond.instanceMethod ({ cls := "NameOrchardModel", name := "livesDay", desc := "()I" } : Jvm.MethodName)) ∈ lw_all := lw_g (lw_at lw_m11 38 rfl) rfl
theorem q2562 : (Jvm.Cond.code ({ cls := "NameOrchardModel", name := "livesDay", desc := "()I" } : Jvm.MethodName) prog_35_method_106_code (4 : Nat) (Option.some Jvm.ClassFile.FieldType.int)) ∈ lw_all := lw_g (lw_at lw_m11 39 rfl) rfl
theorem q2563 : (Jvm.Cond.methodLink "NameOrchardModel" (615 : Nat) ({ cls := "NameOrchardModel", name := "draws", desc := "(I)I" } : Jvm.MethodName)) ∈ lw_all := lw_g (lw_at lw_m11 40 rfl) rfl
theorem q2564 : (Jvm.Cond.privateMethod ({ cls := "NameOrchardModel", name := "draws", desc := "(I)I" } : Jvm.MethodName)) ∈ lw_tbl := lw_at lw_m11 41 rfl
theorem q2565 : (Jvm.Cond.instanceMethod ({ cls := "NameOrchardModel", name := "draws", desc := "(I)I" } : Jvm.MethodName)) ∈ lw_all := lw_g (lw_at lw_m11 42 rfl) rfl
theorem q2566 : (Jvm.Cond.code ({ cls := "NameOrchardModel", name := "draws", desc := "(I)I" } : Jvm.MethodName) prog_35_method_105_code (2 : Nat) (Option.some Jvm.ClassFile.FieldType.int)) ∈ lw_all := lw_g (lw_at lw_m11 43 rfl) rfl
theorem q2567 : (Jvm.Cond.constantLong "NameOrchardModel" (607 : Nat) (1103515245 : Int64)) ∈ lw_all := lw_g (lw_at lw_m11 44 rfl) rfl
theorem q2568 : (Jvm.Cond.constantLong "NameOrchardModel" (609 : Nat) (12345 : Int64)) ∈ lw_all := lw_g (lw_at lw_m11 45 rfl) rfl
theorem q2569 : (Jvm.Cond.constantLong "NameOrchardModel" (611 : Nat) (2147483648 : Int64)) ∈ lw_all := lw_g (lw_at lw_m11 46 rfl) rfl
theorem q2570 : (Jvm.Cond.constantLong "NameOrchardModel" (613 : Nat) (65536 : Int64)) ∈ lw_all := lw_g (lw_at lw_m11 47 rfl) rfl
theorem q2571 : (Jvm.Cond.methodLink "NameOrchardModel" (621 : Nat) ({ cls := "NameOrchardModel", name := "bits", desc := "(I)I" } : Jvm.MethodName)) ∈ lw_all := lw_g (lw_at lw_m11 48 rfl) rfl
theorem q2572 : (Jvm.Cond.static ({ cls := "NameOrchardModel", name := "bits", desc := "(I)I" } : Jvm.MethodName)) ∈ lw_all := lw_g (lw_at lw_m11 49 rfl) rfl
theorem q2573 : (Jvm.Cond.code ({ cls := "NameOrchardModel", name := "bits", desc := "(I)I" } : Jvm.MethodName) prog_35_method_6_code (3 : Nat) (Option.some Jvm.ClassFile.FieldType.int)) ∈ lw_all := lw_g (lw_at lw_m11 50 rfl) rfl
theorem q2575 : (Jvm.Cond.instanceMethod ({ cls := "NameOrchardModel", name := "mark", desc := "(IZ)Z" } : Jvm.MethodName)) ∈ lw_all := lw_g (lw_at lw_m11 52 rfl) rfl
theorem q2576 : (Jvm.Cond.selects "NameOrchardModel" ({ cls := "NameOrchardModel", name := "mark", desc := "(IZ)Z" } : Jvm.MethodName) ({ cls := "NameOrchardModel", name := "mark", desc := "(IZ)Z" } : Jvm.MethodName)) ∈ lw_all := lw_g (lw_at lw_m11 53 rfl) rfl
theorem q2577 : (Jvm.Cond.code ({ cls := "NameOrchardModel", name := "mark", desc := "(IZ)Z" } : Jvm.MethodName) prog_35_method_108_code (5 : Nat) (Option.some Jvm.ClassFile.FieldType.boolean)) ∈ lw_all := lw_g (lw_at lw_m11 54 rfl) rfl
theorem q2578 : (Jvm.Cond.methodLink "NameOrchardModel" (624 : Nat) ({ cls := "NameOrchardModel", name := "laysTold", desc := "(II)V" } : Jvm.MethodName)) ∈ lw_all := lw_g (lw_at lw_m11 55 rfl) rfl
theorem q2579 : (Jvm.Cond.privateMethod ({ cls := "NameOrchardModel", name := "laysTold", desc := "(II)V" } : Jvm.MethodName)) ∈ lw_tbl := lw_at lw_m11 56 rfl
theorem q2580 : (Jvm.Cond.instanceMethod ({ cls := "NameOrchardModel", name := "laysTold", desc := "(II)V" } : Jvm.MethodName)) ∈ lw_all := lw_g (lw_at lw_m11 57 rfl) rfl
theorem q2581 : (Jvm.Cond.code ({ cls := "NameOrchardModel", name := "laysTold", desc := "(II)V" } : Jvm.MethodName) prog_35_method_52_code (4 : Nat) (Option.none : Option Jvm.ClassFile.FieldType)) ∈ lw_all := lw_g (lw_at lw_m11 58 rfl) rfl
theorem q2583 : (Jvm.Cond.instanceMethod ({ cls := "NameOrchardModel", name := "count", desc := "(I)I" } : Jvm.MethodName)) ∈ lw_all := lw_g (lw_at lw_m11 60 rfl) rfl
theorem q2584 : (Jvm.Cond.selects "NameOrchardModel" ({ cls := "NameOrchardModel", name := "count", desc := "(I)I" } : Jvm.MethodName) ({ cls := "NameOrchardModel", name := "count", desc := "(I)I" } : Jvm.MethodName)) ∈ lw_all := lw_g (lw_at lw_m11 61 rfl) rfl
theorem q2585 : (Jvm.Cond.code ({ cls := "NameOrchardModel", name := "count", desc := "(I)I" } : Jvm.MethodName) prog_35_method_109_code (2 : Nat) (Option.some Jvm.ClassFile.FieldType.int)) ∈ lw_all := lw_g (lw_at lw_m11 62 rfl) rfl
theorem q2612 : (Jvm.Cond.castable "NameOrchardModel" "java/lang/Object") ∈ lw_tbl := lw_at lw_m11 89 rfl
theorem in_X9 : ∀ w ∈ wsX90, w ∈ lw_all := lw_in wsX90 [1947, 1949, 1951, 1953, 1955, 1957, 1959, 1961, 1963, 1965, 1967, 1969, 1971, 1973, 1975, 1977, 1979, 1981, 1983, 1985, 1987, 1989, 1991, 1993, 1995, 1997, 1999, 2001, 2003, 2005, 2007, 2009, 2011, 2013, 2015, 2017, 2019, 2021, 2023, 2025, 2027, 2029, 2031, 2033, 2035, 2037, 2039, 2041, 2043, 2045, 2047, 2049, 2051, 2053, 2055, 2057, 2059, 2061, 2063, 2065, 2067, 2069, 2071, 2073, 2075, 2077, 2079, 2081, 2083, 2085, 2087, 2089, 2091, 2093, 2095, 2097, 2099, 2101, 2103, 2105, 2107, 2109, 2111, 2113, 2115, 2117, 2119] (by decide +kernel) (by decide +kernel)
