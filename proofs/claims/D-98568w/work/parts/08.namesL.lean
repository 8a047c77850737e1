/-! the law's own entry -/
set_option maxRecDepth 100000
abbrev cL_law : ByteArray := code
def dkwL_law_48 : List UInt8 := [46, 182, 0, 141, 159, 0, 5, 3, 172, 132, 4, 7, 167, 251, 68, 4, 172]
abbrev dktL_law_48 : List UInt8 := dkwL_law_48 ++ []
def dkwL_law_47 : List UInt8 := [182, 0, 137, 159, 0, 30, 3, 172, 43, 42, 21, 4, 4, 96, 46, 182, 0, 138, 44, 42, 21, 4, 4, 96]
abbrev dktL_law_47 : List UInt8 := dkwL_law_47 ++ dktL_law_48
def dkwL_law_46 : List UInt8 := [182, 0, 134, 44, 42, 21, 4, 4, 96, 46, 42, 21, 4, 5, 96, 46, 153, 0, 7, 4, 167, 0, 4, 3]
abbrev dktL_law_46 : List UInt8 := dkwL_law_46 ++ dktL_law_47
def dkwL_law_45 : List UInt8 := [3, 172, 43, 42, 21, 4, 4, 96, 46, 42, 21, 4, 5, 96, 46, 153, 0, 7, 4, 167, 0, 4, 3]
abbrev dktL_law_45 : List UInt8 := dkwL_law_45 ++ dktL_law_46
def dkwL_law_44 : List UInt8 := [42, 21, 4, 4, 96, 46, 42, 21, 4, 5, 96, 46, 42, 21, 4, 6, 96, 46, 182, 0, 133, 159, 0, 83]
abbrev dktL_law_44 : List UInt8 := dkwL_law_44 ++ dktL_law_45
def dkwL_law_43 : List UInt8 := [172, 43, 42, 21, 4, 4, 96, 46, 42, 21, 4, 5, 96, 46, 42, 21, 4, 6, 96, 46, 182, 0, 130, 44]
abbrev dktL_law_43 : List UInt8 := dkwL_law_43 ++ dktL_law_44
def dkwL_law_42 : List UInt8 := [21, 4, 4, 96, 46, 42, 21, 4, 5, 96, 46, 42, 21, 4, 6, 96, 46, 182, 0, 129, 159, 0, 132, 3]
abbrev dktL_law_42 : List UInt8 := dkwL_law_42 ++ dktL_law_43
def dkwL_law_41 : List UInt8 := [43, 42, 21, 4, 4, 96, 46, 42, 21, 4, 5, 96, 46, 42, 21, 4, 6, 96, 46, 182, 0, 126, 44, 42]
abbrev dktL_law_41 : List UInt8 := dkwL_law_41 ++ dktL_law_42
def dkwL_law_40 : List UInt8 := [182, 0, 122, 44, 42, 21, 4, 4, 96, 46, 42, 21, 4, 5, 96, 46, 182, 0, 125, 159, 0, 181, 3, 172]
abbrev dktL_law_40 : List UInt8 := dkwL_law_40 ++ dktL_law_41
def dkwL_law_39 : List UInt8 := [148, 153, 0, 5, 3, 172, 167, 0, 216, 43, 42, 21, 4, 4, 96, 46, 42, 21, 4, 5, 96, 46]
abbrev dktL_law_39 : List UInt8 := dkwL_law_39 ++ dktL_law_40
def dkwL_law_38 : List UInt8 := [54, 6, 44, 182, 0, 119, 21, 5, 159, 0, 5, 3, 172, 21, 5, 154, 0, 15, 45, 3, 47, 21, 6, 133]
abbrev dktL_law_38 : List UInt8 := dkwL_law_38 ++ dktL_law_39
def dkwL_law_37 : List UInt8 := [54, 5, 44, 42, 21, 4, 4, 96, 46, 42, 21, 4, 5, 96, 46, 42, 21, 4, 6, 96, 46, 182, 0, 118]
abbrev dktL_law_37 : List UInt8 := dkwL_law_37 ++ dktL_law_38
def dkwL_law_36 : List UInt8 := [43, 42, 21, 4, 4, 96, 46, 42, 21, 4, 5, 96, 46, 42, 21, 4, 6, 96, 46, 45, 184, 0, 113]
abbrev dktL_law_36 : List UInt8 := dkwL_law_36 ++ dktL_law_37
def dkwL_law_35 : List UInt8 := [182, 0, 109, 44, 42, 21, 4, 4, 96, 46, 42, 21, 4, 5, 96, 46, 182, 0, 112, 159, 1, 42, 3, 172]
abbrev dktL_law_35 : List UInt8 := dkwL_law_35 ++ dktL_law_36
def dkwL_law_34 : List UInt8 := [46, 182, 0, 108, 159, 1, 79, 3, 172, 43, 42, 21, 4, 4, 96, 46, 42, 21, 4, 5, 96, 46]
abbrev dktL_law_34 : List UInt8 := dkwL_law_34 ++ dktL_law_35
def dkwL_law_33 : List UInt8 := [182, 0, 104, 159, 1, 104, 3, 172, 43, 42, 21, 4, 4, 96, 46, 182, 0, 105, 44, 42, 21, 4, 4, 96]
abbrev dktL_law_33 : List UInt8 := dkwL_law_33 ++ dktL_law_34
def dkwL_law_32 : List UInt8 := [159, 1, 129, 3, 172, 43, 42, 21, 4, 4, 96, 46, 182, 0, 101, 44, 42, 21, 4, 4, 96, 46]
abbrev dktL_law_32 : List UInt8 := dkwL_law_32 ++ dktL_law_33
def dkwL_law_31 : List UInt8 := [21, 4, 5, 96, 46, 42, 21, 4, 6, 96, 46, 153, 0, 7, 4, 167, 0, 4, 3, 182, 0, 100]
abbrev dktL_law_31 : List UInt8 := dkwL_law_31 ++ dktL_law_32
def dkwL_law_30 : List UInt8 := [21, 4, 6, 96, 46, 153, 0, 7, 4, 167, 0, 4, 3, 182, 0, 96, 44, 42, 21, 4, 4, 96, 46, 42]
abbrev dktL_law_30 : List UInt8 := dkwL_law_30 ++ dktL_law_31
def dkwL_law_29 : List UInt8 := [46, 182, 0, 95, 159, 1, 194, 3, 172, 43, 42, 21, 4, 4, 96, 46, 42, 21, 4, 5, 96, 46, 42]
abbrev dktL_law_29 : List UInt8 := dkwL_law_29 ++ dktL_law_30
def dkwL_law_28 : List UInt8 := [182, 0, 91, 159, 1, 219, 3, 172, 43, 42, 21, 4, 4, 96, 46, 182, 0, 92, 44, 42, 21, 4, 4, 96]
abbrev dktL_law_28 : List UInt8 := dkwL_law_28 ++ dktL_law_29
def dkwL_law_27 : List UInt8 := [182, 0, 87, 44, 42, 21, 4, 4, 96, 46, 42, 21, 4, 5, 96, 46, 153, 0, 7, 4, 167, 0, 4, 3]
abbrev dktL_law_27 : List UInt8 := dkwL_law_27 ++ dktL_law_28
def dkwL_law_26 : List UInt8 := [3, 172, 43, 42, 21, 4, 4, 96, 46, 42, 21, 4, 5, 96, 46, 153, 0, 7, 4, 167, 0, 4, 3]
abbrev dktL_law_26 : List UInt8 := dkwL_law_26 ++ dktL_law_27
def dkwL_law_25 : List UInt8 := [21, 4, 5, 96, 46, 182, 0, 82, 159, 2, 29, 3, 172, 43, 182, 0, 83, 44, 182, 0, 86, 159, 2, 16]
abbrev dktL_law_25 : List UInt8 := dkwL_law_25 ++ dktL_law_26
def dkwL_law_24 : List UInt8 := [42, 21, 4, 4, 96, 46, 42, 21, 4, 5, 96, 46, 182, 0, 79, 44, 42, 21, 4, 4, 96, 46, 42]
abbrev dktL_law_24 : List UInt8 := dkwL_law_24 ++ dktL_law_25
def dkwL_law_23 : List UInt8 := [21, 4, 4, 96, 46, 182, 0, 75, 44, 42, 21, 4, 4, 96, 46, 182, 0, 78, 159, 2, 66, 3, 172, 43]
abbrev dktL_law_23 : List UInt8 := dkwL_law_23 ++ dktL_law_24
def dkwL_law_22 : List UInt8 := [46, 182, 0, 69, 159, 2, 104, 3, 172, 43, 182, 0, 70, 44, 182, 0, 74, 159, 2, 91, 3, 172, 43, 42]
abbrev dktL_law_22 : List UInt8 := dkwL_law_22 ++ dktL_law_23
def dkwL_law_21 : List UInt8 := [182, 0, 65, 159, 2, 129, 3, 172, 43, 42, 21, 4, 4, 96, 46, 182, 0, 66, 44, 42, 21, 4, 4, 96]
abbrev dktL_law_21 : List UInt8 := dkwL_law_21 ++ dktL_law_22
def dkwL_law_20 : List UInt8 := [46, 42, 21, 4, 5, 96, 46, 182, 0, 61, 44, 42, 21, 4, 4, 96, 46, 42, 21, 4, 5, 96, 46]
abbrev dktL_law_20 : List UInt8 := dkwL_law_20 ++ dktL_law_21
def dkwL_law_19 : List UInt8 := [182, 0, 56, 44, 42, 21, 4, 4, 96, 46, 182, 0, 60, 159, 2, 166, 3, 172, 43, 42, 21, 4, 4, 96]
abbrev dktL_law_19 : List UInt8 := dkwL_law_19 ++ dktL_law_20
def dkwL_law_18 : List UInt8 := [46, 42, 21, 4, 5, 96, 46, 182, 0, 55, 159, 2, 191, 3, 172, 43, 42, 21, 4, 4, 96, 46]
abbrev dktL_law_18 : List UInt8 := dkwL_law_18 ++ dktL_law_19
def dkwL_law_17 : List UInt8 := [3, 172, 43, 42, 21, 4, 4, 96, 46, 42, 21, 4, 5, 96, 46, 182, 0, 52, 44, 42, 21, 4, 4, 96]
abbrev dktL_law_17 : List UInt8 := dkwL_law_17 ++ dktL_law_18
def dkwL_law_16 : List UInt8 := [96, 46, 182, 0, 48, 44, 42, 21, 4, 4, 96, 46, 42, 21, 4, 5, 96, 46, 182, 0, 51, 159, 2, 228]
abbrev dktL_law_16 : List UInt8 := dkwL_law_16 ++ dktL_law_17
def dkwL_law_15 : List UInt8 := [21, 4, 5, 96, 46, 182, 0, 47, 159, 3, 9, 3, 172, 43, 42, 21, 4, 4, 96, 46, 42, 21, 4, 5]
abbrev dktL_law_15 : List UInt8 := dkwL_law_15 ++ dktL_law_16
def dkwL_law_14 : List UInt8 := [42, 21, 4, 4, 96, 46, 42, 21, 4, 5, 96, 46, 182, 0, 44, 44, 42, 21, 4, 4, 96, 46, 42]
abbrev dktL_law_14 : List UInt8 := dkwL_law_14 ++ dktL_law_15
def dkwL_law_13 : List UInt8 := [4, 96, 46, 42, 21, 4, 5, 96, 46, 42, 21, 4, 6, 96, 46, 182, 0, 43, 159, 3, 46, 3, 172, 43]
abbrev dktL_law_13 : List UInt8 := dkwL_law_13 ++ dktL_law_14
def dkwL_law_12 : List UInt8 := [21, 4, 4, 96, 46, 42, 21, 4, 5, 96, 46, 42, 21, 4, 6, 96, 46, 182, 0, 40, 44, 42, 21, 4]
abbrev dktL_law_12 : List UInt8 := dkwL_law_12 ++ dktL_law_13
def dkwL_law_11 : List UInt8 := [44, 42, 21, 4, 4, 96, 46, 42, 21, 4, 5, 96, 46, 182, 0, 39, 159, 3, 95, 3, 172, 43, 42]
abbrev dktL_law_11 : List UInt8 := dkwL_law_11 ++ dktL_law_12
def dkwL_law_10 : List UInt8 := [182, 0, 34, 159, 3, 132, 3, 172, 43, 42, 21, 4, 4, 96, 46, 42, 21, 4, 5, 96, 46, 182, 0, 35]
abbrev dktL_law_10 : List UInt8 := dkwL_law_10 ++ dktL_law_11
def dkwL_law_9 : List UInt8 := [159, 3, 158, 3, 172, 43, 182, 0, 26, 44, 182, 0, 30, 159, 3, 145, 3, 172, 43, 182, 0, 31, 44]
abbrev dktL_law_9 : List UInt8 := dkwL_law_9 ++ dktL_law_10
def dkwL_law_8 : List UInt8 := [8, 96, 46, 133, 16, 32, 121, 42, 21, 4, 16, 6, 96, 46, 133, 20, 0, 19, 127, 129, 182, 0, 25]
abbrev dktL_law_8 : List UInt8 := dkwL_law_8 ++ dktL_law_9
def dkwL_law_7 : List UInt8 := [21, 4, 6, 96, 46, 133, 16, 32, 121, 42, 21, 4, 7, 96, 46, 133, 20, 0, 19, 127, 129, 42, 21, 4]
abbrev dktL_law_7 : List UInt8 := dkwL_law_7 ++ dktL_law_8
def dkwL_law_6 : List UInt8 := [42, 21, 4, 4, 96, 46, 133, 16, 32, 121, 42, 21, 4, 5, 96, 46, 133, 20, 0, 19, 127, 129, 42]
abbrev dktL_law_6 : List UInt8 := dkwL_law_6 ++ dktL_law_7
def dkwL_law_5 : List UInt8 := [8, 96, 46, 133, 16, 32, 121, 42, 21, 4, 16, 6, 96, 46, 133, 20, 0, 19, 127, 129, 182, 0, 21, 44]
abbrev dktL_law_5 : List UInt8 := dkwL_law_5 ++ dktL_law_6
def dkwL_law_4 : List UInt8 := [21, 4, 6, 96, 46, 133, 16, 32, 121, 42, 21, 4, 7, 96, 46, 133, 20, 0, 19, 127, 129, 42, 21, 4]
abbrev dktL_law_4 : List UInt8 := dkwL_law_4 ++ dktL_law_5
def dkwL_law_3 : List UInt8 := [43, 42, 21, 4, 4, 96, 46, 133, 16, 32, 121, 42, 21, 4, 5, 96, 46, 133, 20, 0, 19, 127, 129, 42]
abbrev dktL_law_3 : List UInt8 := dkwL_law_3 ++ dktL_law_4
def dkwL_law_2 : List UInt8 := [170, 0, 0, 0, 0, 0, 4, 168, 0, 0, 0, 0, 0, 0, 0, 26, 0, 0, 0, 124, 0, 0, 1, 15, 0, 0, 1, 28, 0, 0, 1, 41, 0, 0, 1, 78, 0, 0, 1, 127, 0, 0, 1, 164, 0, 0, 1, 201, 0, 0, 1, 238, 0, 0, 2, 7, 0, 0, 2, 44, 0, 0, 2, 69, 0, 0, 2, 82, 0, 0, 2, 107, 0, 0, 2, 144, 0, 0, 2, 157, 0, 0, 2, 210, 0, 0, 2, 235, 0, 0, 3, 44, 0, 0, 3, 69, 0, 0, 3, 94, 0, 0, 3, 131, 0, 0, 3, 211, 0, 0, 3, 248, 0, 0, 4, 41, 0, 0, 4, 90, 0, 0, 4, 143]
abbrev dktL_law_2 : List UInt8 := dkwL_law_2 ++ dktL_law_3
def dkwL_law_1 : List UInt8 := [21, 4, 42, 190, 16, 7, 100, 163, 4, 184, 42, 21, 4, 46, 16, 31, 126]
abbrev dktL_law_1 : List UInt8 := dkwL_law_1 ++ dktL_law_2
def dkwL_law_0 : List UInt8 := [187, 0, 8, 89, 183, 0, 15, 76, 187, 0, 16, 89, 183, 0, 18, 77, 4, 188, 11, 78, 3, 54, 4]
abbrev dktL_law_0 : List UInt8 := dkwL_law_0 ++ dktL_law_1
theorem dksL_law_0 : cL_law.data.toList.drop 0 = dktL_law_0 := by decide +kernel
theorem dksL_law_1 : cL_law.data.toList.drop 23 = dktL_law_1 := dk_seg dksL_law_0 23 rfl rfl
theorem dksL_law_2 : cL_law.data.toList.drop 40 = dktL_law_2 := dk_seg dksL_law_1 17 rfl rfl
theorem dksL_law_3 : cL_law.data.toList.drop 164 = dktL_law_3 := dk_seg dksL_law_2 124 rfl rfl
theorem dksL_law_4 : cL_law.data.toList.drop 188 = dktL_law_4 := dk_seg dksL_law_3 24 rfl rfl
theorem dksL_law_5 : cL_law.data.toList.drop 212 = dktL_law_5 := dk_seg dksL_law_4 24 rfl rfl
theorem dksL_law_6 : cL_law.data.toList.drop 236 = dktL_law_6 := dk_seg dksL_law_5 24 rfl rfl
theorem dksL_law_7 : cL_law.data.toList.drop 259 = dktL_law_7 := dk_seg dksL_law_6 23 rfl rfl
theorem dksL_law_8 : cL_law.data.toList.drop 283 = dktL_law_8 := dk_seg dksL_law_7 24 rfl rfl
theorem dksL_law_9 : cL_law.data.toList.drop 306 = dktL_law_9 := dk_seg dksL_law_8 23 rfl rfl
theorem dksL_law_10 : cL_law.data.toList.drop 329 = dktL_law_10 := dk_seg dksL_law_9 23 rfl rfl
theorem dksL_law_11 : cL_law.data.toList.drop 353 = dktL_law_11 := dk_seg dksL_law_10 24 rfl rfl
theorem dksL_law_12 : cL_law.data.toList.drop 376 = dktL_law_12 := dk_seg dksL_law_11 23 rfl rfl
theorem dksL_law_13 : cL_law.data.toList.drop 400 = dktL_law_13 := dk_seg dksL_law_12 24 rfl rfl
theorem dksL_law_14 : cL_law.data.toList.drop 424 = dktL_law_14 := dk_seg dksL_law_13 24 rfl rfl
theorem dksL_law_15 : cL_law.data.toList.drop 447 = dktL_law_15 := dk_seg dksL_law_14 23 rfl rfl
theorem dksL_law_16 : cL_law.data.toList.drop 471 = dktL_law_16 := dk_seg dksL_law_15 24 rfl rfl
theorem dksL_law_17 : cL_law.data.toList.drop 495 = dktL_law_17 := dk_seg dksL_law_16 24 rfl rfl
theorem dksL_law_18 : cL_law.data.toList.drop 519 = dktL_law_18 := dk_seg dksL_law_17 24 rfl rfl
theorem dksL_law_19 : cL_law.data.toList.drop 541 = dktL_law_19 := dk_seg dksL_law_18 22 rfl rfl
theorem dksL_law_20 : cL_law.data.toList.drop 565 = dktL_law_20 := dk_seg dksL_law_19 24 rfl rfl
theorem dksL_law_21 : cL_law.data.toList.drop 588 = dktL_law_21 := dk_seg dksL_law_20 23 rfl rfl
theorem dksL_law_22 : cL_law.data.toList.drop 612 = dktL_law_22 := dk_seg dksL_law_21 24 rfl rfl
theorem dksL_law_23 : cL_law.data.toList.drop 636 = dktL_law_23 := dk_seg dksL_law_22 24 rfl rfl
theorem dksL_law_24 : cL_law.data.toList.drop 660 = dktL_law_24 := dk_seg dksL_law_23 24 rfl rfl
theorem dksL_law_25 : cL_law.data.toList.drop 683 = dktL_law_25 := dk_seg dksL_law_24 23 rfl rfl
theorem dksL_law_26 : cL_law.data.toList.drop 707 = dktL_law_26 := dk_seg dksL_law_25 24 rfl rfl
theorem dksL_law_27 : cL_law.data.toList.drop 730 = dktL_law_27 := dk_seg dksL_law_26 23 rfl rfl
theorem dksL_law_28 : cL_law.data.toList.drop 754 = dktL_law_28 := dk_seg dksL_law_27 24 rfl rfl
theorem dksL_law_29 : cL_law.data.toList.drop 778 = dktL_law_29 := dk_seg dksL_law_28 24 rfl rfl
theorem dksL_law_30 : cL_law.data.toList.drop 801 = dktL_law_30 := dk_seg dksL_law_29 23 rfl rfl
theorem dksL_law_31 : cL_law.data.toList.drop 825 = dktL_law_31 := dk_seg dksL_law_30 24 rfl rfl
theorem dksL_law_32 : cL_law.data.toList.drop 847 = dktL_law_32 := dk_seg dksL_law_31 22 rfl rfl
theorem dksL_law_33 : cL_law.data.toList.drop 869 = dktL_law_33 := dk_seg dksL_law_32 22 rfl rfl
theorem dksL_law_34 : cL_law.data.toList.drop 893 = dktL_law_34 := dk_seg dksL_law_33 24 rfl rfl
theorem dksL_law_35 : cL_law.data.toList.drop 915 = dktL_law_35 := dk_seg dksL_law_34 22 rfl rfl
theorem dksL_law_36 : cL_law.data.toList.drop 939 = dktL_law_36 := dk_seg dksL_law_35 24 rfl rfl
theorem dksL_law_37 : cL_law.data.toList.drop 962 = dktL_law_37 := dk_seg dksL_law_36 23 rfl rfl
theorem dksL_law_38 : cL_law.data.toList.drop 986 = dktL_law_38 := dk_seg dksL_law_37 24 rfl rfl
theorem dksL_law_39 : cL_law.data.toList.drop 1010 = dktL_law_39 := dk_seg dksL_law_38 24 rfl rfl
theorem dksL_law_40 : cL_law.data.toList.drop 1032 = dktL_law_40 := dk_seg dksL_law_39 22 rfl rfl
theorem dksL_law_41 : cL_law.data.toList.drop 1056 = dktL_law_41 := dk_seg dksL_law_40 24 rfl rfl
theorem dksL_law_42 : cL_law.data.toList.drop 1080 = dktL_law_42 := dk_seg dksL_law_41 24 rfl rfl
theorem dksL_law_43 : cL_law.data.toList.drop 1104 = dktL_law_43 := dk_seg dksL_law_42 24 rfl rfl
theorem dksL_law_44 : cL_law.data.toList.drop 1128 = dktL_law_44 := dk_seg dksL_law_43 24 rfl rfl
theorem dksL_law_45 : cL_law.data.toList.drop 1152 = dktL_law_45 := dk_seg dksL_law_44 24 rfl rfl
theorem dksL_law_46 : cL_law.data.toList.drop 1175 = dktL_law_46 := dk_seg dksL_law_45 23 rfl rfl
theorem dksL_law_47 : cL_law.data.toList.drop 1199 = dktL_law_47 := dk_seg dksL_law_46 24 rfl rfl
theorem dksL_law_48 : cL_law.data.toList.drop 1223 = dktL_law_48 := dk_seg dksL_law_47 24 rfl rfl
theorem dL_law_0 : decode cL_law 0 = .ok (.new 8, 3) := dk_187 0 8 (dk_at dksL_law_0 0 rfl rfl)
theorem dL_law_3 : decode cL_law 3 = .ok (.dup, 1) := dk_89 (dk_at dksL_law_0 3 rfl rfl)
theorem dL_law_4 : decode cL_law 4 = .ok (.invokespecial 15, 3) := dk_183 0 15 (dk_at dksL_law_0 4 rfl rfl)
theorem dL_law_7 : decode cL_law 7 = .ok (.astore_n 1, 1) := dk_76 (dk_at dksL_law_0 7 rfl rfl)
theorem dL_law_8 : decode cL_law 8 = .ok (.new 16, 3) := dk_187 0 16 (dk_at dksL_law_0 8 rfl rfl)
theorem dL_law_11 : decode cL_law 11 = .ok (.dup, 1) := dk_89 (dk_at dksL_law_0 11 rfl rfl)
theorem dL_law_12 : decode cL_law 12 = .ok (.invokespecial 18, 3) := dk_183 0 18 (dk_at dksL_law_0 12 rfl rfl)
theorem dL_law_15 : decode cL_law 15 = .ok (.astore_n 2, 1) := dk_77 (dk_at dksL_law_0 15 rfl rfl)
theorem dL_law_16 : decode cL_law 16 = .ok (.iconst 1, 1) := dk_4 (dk_at dksL_law_0 16 rfl rfl)
theorem dL_law_17 : decode cL_law 17 = .ok (.newarray .long, 2) := dk_188_11 (dk_at dksL_law_0 17 rfl rfl)
theorem dL_law_19 : decode cL_law 19 = .ok (.astore_n 3, 1) := dk_78 (dk_at dksL_law_0 19 rfl rfl)
theorem dL_law_20 : decode cL_law 20 = .ok (.iconst 0, 1) := dk_3 (dk_at dksL_law_0 20 rfl rfl)
theorem dL_law_21 : decode cL_law 21 = .ok (.istore 4, 2) := dk_54 4 (dk_at dksL_law_0 21 rfl rfl)
theorem dL_law_23 : decode cL_law 23 = .ok (.iload 4, 2) := dk_21 4 (dk_at dksL_law_1 0 rfl rfl)
theorem dL_law_25 : decode cL_law 25 = .ok (.aload_n 0, 1) := dk_42 (dk_at dksL_law_1 2 rfl rfl)
theorem dL_law_26 : decode cL_law 26 = .ok (.arraylength, 1) := dk_190 (dk_at dksL_law_1 3 rfl rfl)
theorem dL_law_27 : decode cL_law 27 = .ok (.bipush 7, 2) := dk_16 7 (dk_at dksL_law_1 4 rfl rfl)
theorem dL_law_29 : decode cL_law 29 = .ok (.isub, 1) := dk_100 (dk_at dksL_law_1 6 rfl rfl)
theorem dL_law_30 : decode cL_law 30 = .ok (.if_icmp .gt 1208, 3) := dk_163 4 184 (dk_at dksL_law_1 7 rfl rfl)
theorem dL_law_33 : decode cL_law 33 = .ok (.aload_n 0, 1) := dk_42 (dk_at dksL_law_1 10 rfl rfl)
theorem dL_law_34 : decode cL_law 34 = .ok (.iload 4, 2) := dk_21 4 (dk_at dksL_law_1 11 rfl rfl)
theorem dL_law_36 : decode cL_law 36 = .ok (.iaload, 1) := dk_46 (dk_at dksL_law_1 13 rfl rfl)
theorem dL_law_37 : decode cL_law 37 = .ok (.bipush 31, 2) := dk_16 31 (dk_at dksL_law_1 14 rfl rfl)
theorem dL_law_39 : decode cL_law 39 = .ok (.iand, 1) := dk_126 (dk_at dksL_law_1 16 rfl rfl)
theorem dL_law_40 : decode cL_law 40 = .ok (.tableswitch 1192 0 26 #[124, 271, 284, 297, 334, 383, 420, 457, 494, 519, 556, 581, 594, 619, 656, 669, 722, 747, 812, 837, 862, 899, 979, 1016, 1065, 1114, 1167], 124) := by decide +kernel
theorem dL_law_164 : decode cL_law 164 = .ok (.aload_n 1, 1) := dk_43 (dk_at dksL_law_3 0 rfl rfl)
theorem dL_law_165 : decode cL_law 165 = .ok (.aload_n 0, 1) := dk_42 (dk_at dksL_law_3 1 rfl rfl)
theorem dL_law_166 : decode cL_law 166 = .ok (.iload 4, 2) := dk_21 4 (dk_at dksL_law_3 2 rfl rfl)
theorem dL_law_168 : decode cL_law 168 = .ok (.iconst 1, 1) := dk_4 (dk_at dksL_law_3 4 rfl rfl)
theorem dL_law_169 : decode cL_law 169 = .ok (.iadd, 1) := dk_96 (dk_at dksL_law_3 5 rfl rfl)
theorem dL_law_170 : decode cL_law 170 = .ok (.iaload, 1) := dk_46 (dk_at dksL_law_3 6 rfl rfl)
theorem dL_law_171 : decode cL_law 171 = .ok (.i2l, 1) := dk_133 (dk_at dksL_law_3 7 rfl rfl)
theorem dL_law_172 : decode cL_law 172 = .ok (.bipush 32, 2) := dk_16 32 (dk_at dksL_law_3 8 rfl rfl)
theorem dL_law_174 : decode cL_law 174 = .ok (.lshl, 1) := dk_121 (dk_at dksL_law_3 10 rfl rfl)
theorem dL_law_175 : decode cL_law 175 = .ok (.aload_n 0, 1) := dk_42 (dk_at dksL_law_3 11 rfl rfl)
theorem dL_law_176 : decode cL_law 176 = .ok (.iload 4, 2) := dk_21 4 (dk_at dksL_law_3 12 rfl rfl)
theorem dL_law_178 : decode cL_law 178 = .ok (.iconst 2, 1) := dk_5 (dk_at dksL_law_3 14 rfl rfl)
theorem dL_law_179 : decode cL_law 179 = .ok (.iadd, 1) := dk_96 (dk_at dksL_law_3 15 rfl rfl)
theorem dL_law_180 : decode cL_law 180 = .ok (.iaload, 1) := dk_46 (dk_at dksL_law_3 16 rfl rfl)
theorem dL_law_181 : decode cL_law 181 = .ok (.i2l, 1) := dk_133 (dk_at dksL_law_3 17 rfl rfl)
theorem dL_law_182 : decode cL_law 182 = .ok (.ldc2_w 19, 3) := dk_20 0 19 (dk_at dksL_law_3 18 rfl rfl)
theorem dL_law_185 : decode cL_law 185 = .ok (.land, 1) := dk_127 (dk_at dksL_law_3 21 rfl rfl)
theorem dL_law_186 : decode cL_law 186 = .ok (.lor, 1) := dk_129 (dk_at dksL_law_3 22 rfl rfl)
theorem dL_law_187 : decode cL_law 187 = .ok (.aload_n 0, 1) := dk_42 (dk_at dksL_law_3 23 rfl rfl)
theorem dL_law_188 : decode cL_law 188 = .ok (.iload 4, 2) := dk_21 4 (dk_at dksL_law_4 0 rfl rfl)
theorem dL_law_190 : decode cL_law 190 = .ok (.iconst 3, 1) := dk_6 (dk_at dksL_law_4 2 rfl rfl)
theorem dL_law_191 : decode cL_law 191 = .ok (.iadd, 1) := dk_96 (dk_at dksL_law_4 3 rfl rfl)
theorem dL_law_192 : decode cL_law 192 = .ok (.iaload, 1) := dk_46 (dk_at dksL_law_4 4 rfl rfl)
theorem dL_law_193 : decode cL_law 193 = .ok (.i2l, 1) := dk_133 (dk_at dksL_law_4 5 rfl rfl)
theorem dL_law_194 : decode cL_law 194 = .ok (.bipush 32, 2) := dk_16 32 (dk_at dksL_law_4 6 rfl rfl)
theorem dL_law_196 : decode cL_law 196 = .ok (.lshl, 1) := dk_121 (dk_at dksL_law_4 8 rfl rfl)
theorem dL_law_197 : decode cL_law 197 = .ok (.aload_n 0, 1) := dk_42 (dk_at dksL_law_4 9 rfl rfl)
theorem dL_law_198 : decode cL_law 198 = .ok (.iload 4, 2) := dk_21 4 (dk_at dksL_law_4 10 rfl rfl)
theorem dL_law_200 : decode cL_law 200 = .ok (.iconst 4, 1) := dk_7 (dk_at dksL_law_4 12 rfl rfl)
theorem dL_law_201 : decode cL_law 201 = .ok (.iadd, 1) := dk_96 (dk_at dksL_law_4 13 rfl rfl)
theorem dL_law_202 : decode cL_law 202 = .ok (.iaload, 1) := dk_46 (dk_at dksL_law_4 14 rfl rfl)
theorem dL_law_203 : decode cL_law 203 = .ok (.i2l, 1) := dk_133 (dk_at dksL_law_4 15 rfl rfl)
theorem dL_law_204 : decode cL_law 204 = .ok (.ldc2_w 19, 3) := dk_20 0 19 (dk_at dksL_law_4 16 rfl rfl)
theorem dL_law_207 : decode cL_law 207 = .ok (.land, 1) := dk_127 (dk_at dksL_law_4 19 rfl rfl)
theorem dL_law_208 : decode cL_law 208 = .ok (.lor, 1) := dk_129 (dk_at dksL_law_4 20 rfl rfl)
theorem dL_law_209 : decode cL_law 209 = .ok (.aload_n 0, 1) := dk_42 (dk_at dksL_law_4 21 rfl rfl)
theorem dL_law_210 : decode cL_law 210 = .ok (.iload 4, 2) := dk_21 4 (dk_at dksL_law_4 22 rfl rfl)
theorem dL_law_212 : decode cL_law 212 = .ok (.iconst 5, 1) := dk_8 (dk_at dksL_law_5 0 rfl rfl)
theorem dL_law_213 : decode cL_law 213 = .ok (.iadd, 1) := dk_96 (dk_at dksL_law_5 1 rfl rfl)
theorem dL_law_214 : decode cL_law 214 = .ok (.iaload, 1) := dk_46 (dk_at dksL_law_5 2 rfl rfl)
theorem dL_law_215 : decode cL_law 215 = .ok (.i2l, 1) := dk_133 (dk_at dksL_law_5 3 rfl rfl)
theorem dL_law_216 : decode cL_law 216 = .ok (.bipush 32, 2) := dk_16 32 (dk_at dksL_law_5 4 rfl rfl)
theorem dL_law_218 : decode cL_law 218 = .ok (.lshl, 1) := dk_121 (dk_at dksL_law_5 6 rfl rfl)
theorem dL_law_219 : decode cL_law 219 = .ok (.aload_n 0, 1) := dk_42 (dk_at dksL_law_5 7 rfl rfl)
theorem dL_law_220 : decode cL_law 220 = .ok (.iload 4, 2) := dk_21 4 (dk_at dksL_law_5 8 rfl rfl)
theorem dL_law_222 : decode cL_law 222 = .ok (.bipush 6, 2) := dk_16 6 (dk_at dksL_law_5 10 rfl rfl)
theorem dL_law_224 : decode cL_law 224 = .ok (.iadd, 1) := dk_96 (dk_at dksL_law_5 12 rfl rfl)
theorem dL_law_225 : decode cL_law 225 = .ok (.iaload, 1) := dk_46 (dk_at dksL_law_5 13 rfl rfl)
theorem dL_law_226 : decode cL_law 226 = .ok (.i2l, 1) := dk_133 (dk_at dksL_law_5 14 rfl rfl)
theorem dL_law_227 : decode cL_law 227 = .ok (.ldc2_w 19, 3) := dk_20 0 19 (dk_at dksL_law_5 15 rfl rfl)
theorem dL_law_230 : decode cL_law 230 = .ok (.land, 1) := dk_127 (dk_at dksL_law_5 18 rfl rfl)
theorem dL_law_231 : decode cL_law 231 = .ok (.lor, 1) := dk_129 (dk_at dksL_law_5 19 rfl rfl)
theorem dL_law_232 : decode cL_law 232 = .ok (.invokevirtual 21, 3) := dk_182 0 21 (dk_at dksL_law_5 20 rfl rfl)
theorem dL_law_235 : decode cL_law 235 = .ok (.aload_n 2, 1) := dk_44 (dk_at dksL_law_5 23 rfl rfl)
theorem dL_law_236 : decode cL_law 236 = .ok (.aload_n 0, 1) := dk_42 (dk_at dksL_law_6 0 rfl rfl)
theorem dL_law_237 : decode cL_law 237 = .ok (.iload 4, 2) := dk_21 4 (dk_at dksL_law_6 1 rfl rfl)
theorem dL_law_239 : decode cL_law 239 = .ok (.iconst 1, 1) := dk_4 (dk_at dksL_law_6 3 rfl rfl)
theorem dL_law_240 : decode cL_law 240 = .ok (.iadd, 1) := dk_96 (dk_at dksL_law_6 4 rfl rfl)
theorem dL_law_241 : decode cL_law 241 = .ok (.iaload, 1) := dk_46 (dk_at dksL_law_6 5 rfl rfl)
theorem dL_law_242 : decode cL_law 242 = .ok (.i2l, 1) := dk_133 (dk_at dksL_law_6 6 rfl rfl)
theorem dL_law_243 : decode cL_law 243 = .ok (.bipush 32, 2) := dk_16 32 (dk_at dksL_law_6 7 rfl rfl)
theorem dL_law_245 : decode cL_law 245 = .ok (.lshl, 1) := dk_121 (dk_at dksL_law_6 9 rfl rfl)
theorem dL_law_246 : decode cL_law 246 = .ok (.aload_n 0, 1) := dk_42 (dk_at dksL_law_6 10 rfl rfl)
theorem dL_law_247 : decode cL_law 247 = .ok (.iload 4, 2) := dk_21 4 (dk_at dksL_law_6 11 rfl rfl)
theorem dL_law_249 : decode cL_law 249 = .ok (.iconst 2, 1) := dk_5 (dk_at dksL_law_6 13 rfl rfl)
theorem dL_law_250 : decode cL_law 250 = .ok (.iadd, 1) := dk_96 (dk_at dksL_law_6 14 rfl rfl)
theorem dL_law_251 : decode cL_law 251 = .ok (.iaload, 1) := dk_46 (dk_at dksL_law_6 15 rfl rfl)
theorem dL_law_252 : decode cL_law 252 = .ok (.i2l, 1) := dk_133 (dk_at dksL_law_6 16 rfl rfl)
theorem dL_law_253 : decode cL_law 253 = .ok (.ldc2_w 19, 3) := dk_20 0 19 (dk_at dksL_law_6 17 rfl rfl)
theorem dL_law_256 : decode cL_law 256 = .ok (.land, 1) := dk_127 (dk_at dksL_law_6 20 rfl rfl)
theorem dL_law_257 : decode cL_law 257 = .ok (.lor, 1) := dk_129 (dk_at dksL_law_6 21 rfl rfl)
theorem dL_law_258 : decode cL_law 258 = .ok (.aload_n 0, 1) := dk_42 (dk_at dksL_law_6 22 rfl rfl)
theorem dL_law_259 : decode cL_law 259 = .ok (.iload 4, 2) := dk_21 4 (dk_at dksL_law_7 0 rfl rfl)
theorem dL_law_261 : decode cL_law 261 = .ok (.iconst 3, 1) := dk_6 (dk_at dksL_law_7 2 rfl rfl)
theorem dL_law_262 : decode cL_law 262 = .ok (.iadd, 1) := dk_96 (dk_at dksL_law_7 3 rfl rfl)
theorem dL_law_263 : decode cL_law 263 = .ok (.iaload, 1) := dk_46 (dk_at dksL_law_7 4 rfl rfl)
theorem dL_law_264 : decode cL_law 264 = .ok (.i2l, 1) := dk_133 (dk_at dksL_law_7 5 rfl rfl)
theorem dL_law_265 : decode cL_law 265 = .ok (.bipush 32, 2) := dk_16 32 (dk_at dksL_law_7 6 rfl rfl)
theorem dL_law_267 : decode cL_law 267 = .ok (.lshl, 1) := dk_121 (dk_at dksL_law_7 8 rfl rfl)
theorem dL_law_268 : decode cL_law 268 = .ok (.aload_n 0, 1) := dk_42 (dk_at dksL_law_7 9 rfl rfl)
theorem dL_law_269 : decode cL_law 269 = .ok (.iload 4, 2) := dk_21 4 (dk_at dksL_law_7 10 rfl rfl)
theorem dL_law_271 : decode cL_law 271 = .ok (.iconst 4, 1) := dk_7 (dk_at dksL_law_7 12 rfl rfl)
theorem dL_law_272 : decode cL_law 272 = .ok (.iadd, 1) := dk_96 (dk_at dksL_law_7 13 rfl rfl)
theorem dL_law_273 : decode cL_law 273 = .ok (.iaload, 1) := dk_46 (dk_at dksL_law_7 14 rfl rfl)
theorem dL_law_274 : decode cL_law 274 = .ok (.i2l, 1) := dk_133 (dk_at dksL_law_7 15 rfl rfl)
theorem dL_law_275 : decode cL_law 275 = .ok (.ldc2_w 19, 3) := dk_20 0 19 (dk_at dksL_law_7 16 rfl rfl)
theorem dL_law_278 : decode cL_law 278 = .ok (.land, 1) := dk_127 (dk_at dksL_law_7 19 rfl rfl)
theorem dL_law_279 : decode cL_law 279 = .ok (.lor, 1) := dk_129 (dk_at dksL_law_7 20 rfl rfl)
theorem dL_law_280 : decode cL_law 280 = .ok (.aload_n 0, 1) := dk_42 (dk_at dksL_law_7 21 rfl rfl)
theorem dL_law_281 : decode cL_law 281 = .ok (.iload 4, 2) := dk_21 4 (dk_at dksL_law_7 22 rfl rfl)
theorem dL_law_283 : decode cL_law 283 = .ok (.iconst 5, 1) := dk_8 (dk_at dksL_law_8 0 rfl rfl)
theorem dL_law_284 : decode cL_law 284 = .ok (.iadd, 1) := dk_96 (dk_at dksL_law_8 1 rfl rfl)
theorem dL_law_285 : decode cL_law 285 = .ok (.iaload, 1) := dk_46 (dk_at dksL_law_8 2 rfl rfl)
theorem dL_law_286 : decode cL_law 286 = .ok (.i2l, 1) := dk_133 (dk_at dksL_law_8 3 rfl rfl)
theorem dL_law_287 : decode cL_law 287 = .ok (.bipush 32, 2) := dk_16 32 (dk_at dksL_law_8 4 rfl rfl)
theorem dL_law_289 : decode cL_law 289 = .ok (.lshl, 1) := dk_121 (dk_at dksL_law_8 6 rfl rfl)
theorem dL_law_290 : decode cL_law 290 = .ok (.aload_n 0, 1) := dk_42 (dk_at dksL_law_8 7 rfl rfl)
theorem dL_law_291 : decode cL_law 291 = .ok (.iload 4, 2) := dk_21 4 (dk_at dksL_law_8 8 rfl rfl)
theorem dL_law_293 : decode cL_law 293 = .ok (.bipush 6, 2) := dk_16 6 (dk_at dksL_law_8 10 rfl rfl)
theorem dL_law_295 : decode cL_law 295 = .ok (.iadd, 1) := dk_96 (dk_at dksL_law_8 12 rfl rfl)
theorem dL_law_296 : decode cL_law 296 = .ok (.iaload, 1) := dk_46 (dk_at dksL_law_8 13 rfl rfl)
theorem dL_law_297 : decode cL_law 297 = .ok (.i2l, 1) := dk_133 (dk_at dksL_law_8 14 rfl rfl)
theorem dL_law_298 : decode cL_law 298 = .ok (.ldc2_w 19, 3) := dk_20 0 19 (dk_at dksL_law_8 15 rfl rfl)
theorem dL_law_301 : decode cL_law 301 = .ok (.land, 1) := dk_127 (dk_at dksL_law_8 18 rfl rfl)
theorem dL_law_302 : decode cL_law 302 = .ok (.lor, 1) := dk_129 (dk_at dksL_law_8 19 rfl rfl)
theorem dL_law_303 : decode cL_law 303 = .ok (.invokevirtual 25, 3) := dk_182 0 25 (dk_at dksL_law_8 20 rfl rfl)
theorem dL_law_306 : decode cL_law 306 = .ok (.if_icmp .eq 926, 3) := dk_159 3 158 (dk_at dksL_law_9 0 rfl rfl)
theorem dL_law_309 : decode cL_law 309 = .ok (.iconst 0, 1) := dk_3 (dk_at dksL_law_9 3 rfl rfl)
theorem dL_law_310 : decode cL_law 310 = .ok (.ireturn, 1) := dk_172 (dk_at dksL_law_9 4 rfl rfl)
theorem dL_law_311 : decode cL_law 311 = .ok (.aload_n 1, 1) := dk_43 (dk_at dksL_law_9 5 rfl rfl)
theorem dL_law_312 : decode cL_law 312 = .ok (.invokevirtual 26, 3) := dk_182 0 26 (dk_at dksL_law_9 6 rfl rfl)
theorem dL_law_315 : decode cL_law 315 = .ok (.aload_n 2, 1) := dk_44 (dk_at dksL_law_9 9 rfl rfl)
theorem dL_law_316 : decode cL_law 316 = .ok (.invokevirtual 30, 3) := dk_182 0 30 (dk_at dksL_law_9 10 rfl rfl)
theorem dL_law_319 : decode cL_law 319 = .ok (.if_icmp .eq 913, 3) := dk_159 3 145 (dk_at dksL_law_9 13 rfl rfl)
theorem dL_law_322 : decode cL_law 322 = .ok (.iconst 0, 1) := dk_3 (dk_at dksL_law_9 16 rfl rfl)
theorem dL_law_323 : decode cL_law 323 = .ok (.ireturn, 1) := dk_172 (dk_at dksL_law_9 17 rfl rfl)
theorem dL_law_324 : decode cL_law 324 = .ok (.aload_n 1, 1) := dk_43 (dk_at dksL_law_9 18 rfl rfl)
theorem dL_law_325 : decode cL_law 325 = .ok (.invokevirtual 31, 3) := dk_182 0 31 (dk_at dksL_law_9 19 rfl rfl)
theorem dL_law_328 : decode cL_law 328 = .ok (.aload_n 2, 1) := dk_44 (dk_at dksL_law_9 22 rfl rfl)
theorem dL_law_329 : decode cL_law 329 = .ok (.invokevirtual 34, 3) := dk_182 0 34 (dk_at dksL_law_10 0 rfl rfl)
theorem dL_law_332 : decode cL_law 332 = .ok (.if_icmp .eq 900, 3) := dk_159 3 132 (dk_at dksL_law_10 3 rfl rfl)
theorem dL_law_335 : decode cL_law 335 = .ok (.iconst 0, 1) := dk_3 (dk_at dksL_law_10 6 rfl rfl)
theorem dL_law_336 : decode cL_law 336 = .ok (.ireturn, 1) := dk_172 (dk_at dksL_law_10 7 rfl rfl)
theorem dL_law_337 : decode cL_law 337 = .ok (.aload_n 1, 1) := dk_43 (dk_at dksL_law_10 8 rfl rfl)
theorem dL_law_338 : decode cL_law 338 = .ok (.aload_n 0, 1) := dk_42 (dk_at dksL_law_10 9 rfl rfl)
theorem dL_law_339 : decode cL_law 339 = .ok (.iload 4, 2) := dk_21 4 (dk_at dksL_law_10 10 rfl rfl)
theorem dL_law_341 : decode cL_law 341 = .ok (.iconst 1, 1) := dk_4 (dk_at dksL_law_10 12 rfl rfl)
theorem dL_law_342 : decode cL_law 342 = .ok (.iadd, 1) := dk_96 (dk_at dksL_law_10 13 rfl rfl)
theorem dL_law_343 : decode cL_law 343 = .ok (.iaload, 1) := dk_46 (dk_at dksL_law_10 14 rfl rfl)
theorem dL_law_344 : decode cL_law 344 = .ok (.aload_n 0, 1) := dk_42 (dk_at dksL_law_10 15 rfl rfl)
theorem dL_law_345 : decode cL_law 345 = .ok (.iload 4, 2) := dk_21 4 (dk_at dksL_law_10 16 rfl rfl)
theorem dL_law_347 : decode cL_law 347 = .ok (.iconst 2, 1) := dk_5 (dk_at dksL_law_10 18 rfl rfl)
theorem dL_law_348 : decode cL_law 348 = .ok (.iadd, 1) := dk_96 (dk_at dksL_law_10 19 rfl rfl)
theorem dL_law_349 : decode cL_law 349 = .ok (.iaload, 1) := dk_46 (dk_at dksL_law_10 20 rfl rfl)
theorem dL_law_350 : decode cL_law 350 = .ok (.invokevirtual 35, 3) := dk_182 0 35 (dk_at dksL_law_10 21 rfl rfl)
theorem dL_law_353 : decode cL_law 353 = .ok (.aload_n 2, 1) := dk_44 (dk_at dksL_law_11 0 rfl rfl)
theorem dL_law_354 : decode cL_law 354 = .ok (.aload_n 0, 1) := dk_42 (dk_at dksL_law_11 1 rfl rfl)
theorem dL_law_355 : decode cL_law 355 = .ok (.iload 4, 2) := dk_21 4 (dk_at dksL_law_11 2 rfl rfl)
theorem dL_law_357 : decode cL_law 357 = .ok (.iconst 1, 1) := dk_4 (dk_at dksL_law_11 4 rfl rfl)
theorem dL_law_358 : decode cL_law 358 = .ok (.iadd, 1) := dk_96 (dk_at dksL_law_11 5 rfl rfl)
theorem dL_law_359 : decode cL_law 359 = .ok (.iaload, 1) := dk_46 (dk_at dksL_law_11 6 rfl rfl)
theorem dL_law_360 : decode cL_law 360 = .ok (.aload_n 0, 1) := dk_42 (dk_at dksL_law_11 7 rfl rfl)
theorem dL_law_361 : decode cL_law 361 = .ok (.iload 4, 2) := dk_21 4 (dk_at dksL_law_11 8 rfl rfl)
theorem dL_law_363 : decode cL_law 363 = .ok (.iconst 2, 1) := dk_5 (dk_at dksL_law_11 10 rfl rfl)
theorem dL_law_364 : decode cL_law 364 = .ok (.iadd, 1) := dk_96 (dk_at dksL_law_11 11 rfl rfl)
theorem dL_law_365 : decode cL_law 365 = .ok (.iaload, 1) := dk_46 (dk_at dksL_law_11 12 rfl rfl)
theorem dL_law_366 : decode cL_law 366 = .ok (.invokevirtual 39, 3) := dk_182 0 39 (dk_at dksL_law_11 13 rfl rfl)
theorem dL_law_369 : decode cL_law 369 = .ok (.if_icmp .eq 863, 3) := dk_159 3 95 (dk_at dksL_law_11 16 rfl rfl)
theorem dL_law_372 : decode cL_law 372 = .ok (.iconst 0, 1) := dk_3 (dk_at dksL_law_11 19 rfl rfl)
theorem dL_law_373 : decode cL_law 373 = .ok (.ireturn, 1) := dk_172 (dk_at dksL_law_11 20 rfl rfl)
theorem dL_law_374 : decode cL_law 374 = .ok (.aload_n 1, 1) := dk_43 (dk_at dksL_law_11 21 rfl rfl)
theorem dL_law_375 : decode cL_law 375 = .ok (.aload_n 0, 1) := dk_42 (dk_at dksL_law_11 22 rfl rfl)
theorem dL_law_376 : decode cL_law 376 = .ok (.iload 4, 2) := dk_21 4 (dk_at dksL_law_12 0 rfl rfl)
theorem dL_law_378 : decode cL_law 378 = .ok (.iconst 1, 1) := dk_4 (dk_at dksL_law_12 2 rfl rfl)
theorem dL_law_379 : decode cL_law 379 = .ok (.iadd, 1) := dk_96 (dk_at dksL_law_12 3 rfl rfl)
theorem dL_law_380 : decode cL_law 380 = .ok (.iaload, 1) := dk_46 (dk_at dksL_law_12 4 rfl rfl)
theorem dL_law_381 : decode cL_law 381 = .ok (.aload_n 0, 1) := dk_42 (dk_at dksL_law_12 5 rfl rfl)
theorem dL_law_382 : decode cL_law 382 = .ok (.iload 4, 2) := dk_21 4 (dk_at dksL_law_12 6 rfl rfl)
theorem dL_law_384 : decode cL_law 384 = .ok (.iconst 2, 1) := dk_5 (dk_at dksL_law_12 8 rfl rfl)
theorem dL_law_385 : decode cL_law 385 = .ok (.iadd, 1) := dk_96 (dk_at dksL_law_12 9 rfl rfl)
theorem dL_law_386 : decode cL_law 386 = .ok (.iaload, 1) := dk_46 (dk_at dksL_law_12 10 rfl rfl)
theorem dL_law_387 : decode cL_law 387 = .ok (.aload_n 0, 1) := dk_42 (dk_at dksL_law_12 11 rfl rfl)
theorem dL_law_388 : decode cL_law 388 = .ok (.iload 4, 2) := dk_21 4 (dk_at dksL_law_12 12 rfl rfl)
theorem dL_law_390 : decode cL_law 390 = .ok (.iconst 3, 1) := dk_6 (dk_at dksL_law_12 14 rfl rfl)
theorem dL_law_391 : decode cL_law 391 = .ok (.iadd, 1) := dk_96 (dk_at dksL_law_12 15 rfl rfl)
theorem dL_law_392 : decode cL_law 392 = .ok (.iaload, 1) := dk_46 (dk_at dksL_law_12 16 rfl rfl)
theorem dL_law_393 : decode cL_law 393 = .ok (.invokevirtual 40, 3) := dk_182 0 40 (dk_at dksL_law_12 17 rfl rfl)
theorem dL_law_396 : decode cL_law 396 = .ok (.aload_n 2, 1) := dk_44 (dk_at dksL_law_12 20 rfl rfl)
theorem dL_law_397 : decode cL_law 397 = .ok (.aload_n 0, 1) := dk_42 (dk_at dksL_law_12 21 rfl rfl)
theorem dL_law_398 : decode cL_law 398 = .ok (.iload 4, 2) := dk_21 4 (dk_at dksL_law_12 22 rfl rfl)
theorem dL_law_400 : decode cL_law 400 = .ok (.iconst 1, 1) := dk_4 (dk_at dksL_law_13 0 rfl rfl)
theorem dL_law_401 : decode cL_law 401 = .ok (.iadd, 1) := dk_96 (dk_at dksL_law_13 1 rfl rfl)
theorem dL_law_402 : decode cL_law 402 = .ok (.iaload, 1) := dk_46 (dk_at dksL_law_13 2 rfl rfl)
theorem dL_law_403 : decode cL_law 403 = .ok (.aload_n 0, 1) := dk_42 (dk_at dksL_law_13 3 rfl rfl)
theorem dL_law_404 : decode cL_law 404 = .ok (.iload 4, 2) := dk_21 4 (dk_at dksL_law_13 4 rfl rfl)
theorem dL_law_406 : decode cL_law 406 = .ok (.iconst 2, 1) := dk_5 (dk_at dksL_law_13 6 rfl rfl)
theorem dL_law_407 : decode cL_law 407 = .ok (.iadd, 1) := dk_96 (dk_at dksL_law_13 7 rfl rfl)
theorem dL_law_408 : decode cL_law 408 = .ok (.iaload, 1) := dk_46 (dk_at dksL_law_13 8 rfl rfl)
theorem dL_law_409 : decode cL_law 409 = .ok (.aload_n 0, 1) := dk_42 (dk_at dksL_law_13 9 rfl rfl)
theorem dL_law_410 : decode cL_law 410 = .ok (.iload 4, 2) := dk_21 4 (dk_at dksL_law_13 10 rfl rfl)
theorem dL_law_412 : decode cL_law 412 = .ok (.iconst 3, 1) := dk_6 (dk_at dksL_law_13 12 rfl rfl)
theorem dL_law_413 : decode cL_law 413 = .ok (.iadd, 1) := dk_96 (dk_at dksL_law_13 13 rfl rfl)
theorem dL_law_414 : decode cL_law 414 = .ok (.iaload, 1) := dk_46 (dk_at dksL_law_13 14 rfl rfl)
theorem dL_law_415 : decode cL_law 415 = .ok (.invokevirtual 43, 3) := dk_182 0 43 (dk_at dksL_law_13 15 rfl rfl)
theorem dL_law_418 : decode cL_law 418 = .ok (.if_icmp .eq 814, 3) := dk_159 3 46 (dk_at dksL_law_13 18 rfl rfl)
theorem dL_law_421 : decode cL_law 421 = .ok (.iconst 0, 1) := dk_3 (dk_at dksL_law_13 21 rfl rfl)
theorem dL_law_422 : decode cL_law 422 = .ok (.ireturn, 1) := dk_172 (dk_at dksL_law_13 22 rfl rfl)
theorem dL_law_423 : decode cL_law 423 = .ok (.aload_n 1, 1) := dk_43 (dk_at dksL_law_13 23 rfl rfl)
theorem dL_law_424 : decode cL_law 424 = .ok (.aload_n 0, 1) := dk_42 (dk_at dksL_law_14 0 rfl rfl)
theorem dL_law_425 : decode cL_law 425 = .ok (.iload 4, 2) := dk_21 4 (dk_at dksL_law_14 1 rfl rfl)
theorem dL_law_427 : decode cL_law 427 = .ok (.iconst 1, 1) := dk_4 (dk_at dksL_law_14 3 rfl rfl)
theorem dL_law_428 : decode cL_law 428 = .ok (.iadd, 1) := dk_96 (dk_at dksL_law_14 4 rfl rfl)
theorem dL_law_429 : decode cL_law 429 = .ok (.iaload, 1) := dk_46 (dk_at dksL_law_14 5 rfl rfl)
theorem dL_law_430 : decode cL_law 430 = .ok (.aload_n 0, 1) := dk_42 (dk_at dksL_law_14 6 rfl rfl)
theorem dL_law_431 : decode cL_law 431 = .ok (.iload 4, 2) := dk_21 4 (dk_at dksL_law_14 7 rfl rfl)
theorem dL_law_433 : decode cL_law 433 = .ok (.iconst 2, 1) := dk_5 (dk_at dksL_law_14 9 rfl rfl)
theorem dL_law_434 : decode cL_law 434 = .ok (.iadd, 1) := dk_96 (dk_at dksL_law_14 10 rfl rfl)
theorem dL_law_435 : decode cL_law 435 = .ok (.iaload, 1) := dk_46 (dk_at dksL_law_14 11 rfl rfl)
theorem dL_law_436 : decode cL_law 436 = .ok (.invokevirtual 44, 3) := dk_182 0 44 (dk_at dksL_law_14 12 rfl rfl)
theorem dL_law_439 : decode cL_law 439 = .ok (.aload_n 2, 1) := dk_44 (dk_at dksL_law_14 15 rfl rfl)
theorem dL_law_440 : decode cL_law 440 = .ok (.aload_n 0, 1) := dk_42 (dk_at dksL_law_14 16 rfl rfl)
theorem dL_law_441 : decode cL_law 441 = .ok (.iload 4, 2) := dk_21 4 (dk_at dksL_law_14 17 rfl rfl)
theorem dL_law_443 : decode cL_law 443 = .ok (.iconst 1, 1) := dk_4 (dk_at dksL_law_14 19 rfl rfl)
theorem dL_law_444 : decode cL_law 444 = .ok (.iadd, 1) := dk_96 (dk_at dksL_law_14 20 rfl rfl)
theorem dL_law_445 : decode cL_law 445 = .ok (.iaload, 1) := dk_46 (dk_at dksL_law_14 21 rfl rfl)
theorem dL_law_446 : decode cL_law 446 = .ok (.aload_n 0, 1) := dk_42 (dk_at dksL_law_14 22 rfl rfl)
theorem dL_law_447 : decode cL_law 447 = .ok (.iload 4, 2) := dk_21 4 (dk_at dksL_law_15 0 rfl rfl)
theorem dL_law_449 : decode cL_law 449 = .ok (.iconst 2, 1) := dk_5 (dk_at dksL_law_15 2 rfl rfl)
theorem dL_law_450 : decode cL_law 450 = .ok (.iadd, 1) := dk_96 (dk_at dksL_law_15 3 rfl rfl)
theorem dL_law_451 : decode cL_law 451 = .ok (.iaload, 1) := dk_46 (dk_at dksL_law_15 4 rfl rfl)
theorem dL_law_452 : decode cL_law 452 = .ok (.invokevirtual 47, 3) := dk_182 0 47 (dk_at dksL_law_15 5 rfl rfl)
theorem dL_law_455 : decode cL_law 455 = .ok (.if_icmp .eq 777, 3) := dk_159 3 9 (dk_at dksL_law_15 8 rfl rfl)
theorem dL_law_458 : decode cL_law 458 = .ok (.iconst 0, 1) := dk_3 (dk_at dksL_law_15 11 rfl rfl)
theorem dL_law_459 : decode cL_law 459 = .ok (.ireturn, 1) := dk_172 (dk_at dksL_law_15 12 rfl rfl)
theorem dL_law_460 : decode cL_law 460 = .ok (.aload_n 1, 1) := dk_43 (dk_at dksL_law_15 13 rfl rfl)
theorem dL_law_461 : decode cL_law 461 = .ok (.aload_n 0, 1) := dk_42 (dk_at dksL_law_15 14 rfl rfl)
theorem dL_law_462 : decode cL_law 462 = .ok (.iload 4, 2) := dk_21 4 (dk_at dksL_law_15 15 rfl rfl)
theorem dL_law_464 : decode cL_law 464 = .ok (.iconst 1, 1) := dk_4 (dk_at dksL_law_15 17 rfl rfl)
theorem dL_law_465 : decode cL_law 465 = .ok (.iadd, 1) := dk_96 (dk_at dksL_law_15 18 rfl rfl)
theorem dL_law_466 : decode cL_law 466 = .ok (.iaload, 1) := dk_46 (dk_at dksL_law_15 19 rfl rfl)
theorem dL_law_467 : decode cL_law 467 = .ok (.aload_n 0, 1) := dk_42 (dk_at dksL_law_15 20 rfl rfl)
theorem dL_law_468 : decode cL_law 468 = .ok (.iload 4, 2) := dk_21 4 (dk_at dksL_law_15 21 rfl rfl)
theorem dL_law_470 : decode cL_law 470 = .ok (.iconst 2, 1) := dk_5 (dk_at dksL_law_15 23 rfl rfl)
theorem dL_law_471 : decode cL_law 471 = .ok (.iadd, 1) := dk_96 (dk_at dksL_law_16 0 rfl rfl)
theorem dL_law_472 : decode cL_law 472 = .ok (.iaload, 1) := dk_46 (dk_at dksL_law_16 1 rfl rfl)
theorem dL_law_473 : decode cL_law 473 = .ok (.invokevirtual 48, 3) := dk_182 0 48 (dk_at dksL_law_16 2 rfl rfl)
theorem dL_law_476 : decode cL_law 476 = .ok (.aload_n 2, 1) := dk_44 (dk_at dksL_law_16 5 rfl rfl)
theorem dL_law_477 : decode cL_law 477 = .ok (.aload_n 0, 1) := dk_42 (dk_at dksL_law_16 6 rfl rfl)
theorem dL_law_478 : decode cL_law 478 = .ok (.iload 4, 2) := dk_21 4 (dk_at dksL_law_16 7 rfl rfl)
theorem dL_law_480 : decode cL_law 480 = .ok (.iconst 1, 1) := dk_4 (dk_at dksL_law_16 9 rfl rfl)
theorem dL_law_481 : decode cL_law 481 = .ok (.iadd, 1) := dk_96 (dk_at dksL_law_16 10 rfl rfl)
theorem dL_law_482 : decode cL_law 482 = .ok (.iaload, 1) := dk_46 (dk_at dksL_law_16 11 rfl rfl)
theorem dL_law_483 : decode cL_law 483 = .ok (.aload_n 0, 1) := dk_42 (dk_at dksL_law_16 12 rfl rfl)
theorem dL_law_484 : decode cL_law 484 = .ok (.iload 4, 2) := dk_21 4 (dk_at dksL_law_16 13 rfl rfl)
theorem dL_law_486 : decode cL_law 486 = .ok (.iconst 2, 1) := dk_5 (dk_at dksL_law_16 15 rfl rfl)
theorem dL_law_487 : decode cL_law 487 = .ok (.iadd, 1) := dk_96 (dk_at dksL_law_16 16 rfl rfl)
theorem dL_law_488 : decode cL_law 488 = .ok (.iaload, 1) := dk_46 (dk_at dksL_law_16 17 rfl rfl)
theorem dL_law_489 : decode cL_law 489 = .ok (.invokevirtual 51, 3) := dk_182 0 51 (dk_at dksL_law_16 18 rfl rfl)
theorem dL_law_492 : decode cL_law 492 = .ok (.if_icmp .eq 740, 3) := dk_159 2 228 (dk_at dksL_law_16 21 rfl rfl)
theorem dL_law_495 : decode cL_law 495 = .ok (.iconst 0, 1) := dk_3 (dk_at dksL_law_17 0 rfl rfl)
theorem dL_law_496 : decode cL_law 496 = .ok (.ireturn, 1) := dk_172 (dk_at dksL_law_17 1 rfl rfl)
theorem dL_law_497 : decode cL_law 497 = .ok (.aload_n 1, 1) := dk_43 (dk_at dksL_law_17 2 rfl rfl)
theorem dL_law_498 : decode cL_law 498 = .ok (.aload_n 0, 1) := dk_42 (dk_at dksL_law_17 3 rfl rfl)
theorem dL_law_499 : decode cL_law 499 = .ok (.iload 4, 2) := dk_21 4 (dk_at dksL_law_17 4 rfl rfl)
theorem dL_law_501 : decode cL_law 501 = .ok (.iconst 1, 1) := dk_4 (dk_at dksL_law_17 6 rfl rfl)
theorem dL_law_502 : decode cL_law 502 = .ok (.iadd, 1) := dk_96 (dk_at dksL_law_17 7 rfl rfl)
theorem dL_law_503 : decode cL_law 503 = .ok (.iaload, 1) := dk_46 (dk_at dksL_law_17 8 rfl rfl)
theorem dL_law_504 : decode cL_law 504 = .ok (.aload_n 0, 1) := dk_42 (dk_at dksL_law_17 9 rfl rfl)
theorem dL_law_505 : decode cL_law 505 = .ok (.iload 4, 2) := dk_21 4 (dk_at dksL_law_17 10 rfl rfl)
theorem dL_law_507 : decode cL_law 507 = .ok (.iconst 2, 1) := dk_5 (dk_at dksL_law_17 12 rfl rfl)
theorem dL_law_508 : decode cL_law 508 = .ok (.iadd, 1) := dk_96 (dk_at dksL_law_17 13 rfl rfl)
theorem dL_law_509 : decode cL_law 509 = .ok (.iaload, 1) := dk_46 (dk_at dksL_law_17 14 rfl rfl)
theorem dL_law_510 : decode cL_law 510 = .ok (.invokevirtual 52, 3) := dk_182 0 52 (dk_at dksL_law_17 15 rfl rfl)
theorem dL_law_513 : decode cL_law 513 = .ok (.aload_n 2, 1) := dk_44 (dk_at dksL_law_17 18 rfl rfl)
theorem dL_law_514 : decode cL_law 514 = .ok (.aload_n 0, 1) := dk_42 (dk_at dksL_law_17 19 rfl rfl)
theorem dL_law_515 : decode cL_law 515 = .ok (.iload 4, 2) := dk_21 4 (dk_at dksL_law_17 20 rfl rfl)
theorem dL_law_517 : decode cL_law 517 = .ok (.iconst 1, 1) := dk_4 (dk_at dksL_law_17 22 rfl rfl)
theorem dL_law_518 : decode cL_law 518 = .ok (.iadd, 1) := dk_96 (dk_at dksL_law_17 23 rfl rfl)
theorem dL_law_519 : decode cL_law 519 = .ok (.iaload, 1) := dk_46 (dk_at dksL_law_18 0 rfl rfl)
theorem dL_law_520 : decode cL_law 520 = .ok (.aload_n 0, 1) := dk_42 (dk_at dksL_law_18 1 rfl rfl)
theorem dL_law_521 : decode cL_law 521 = .ok (.iload 4, 2) := dk_21 4 (dk_at dksL_law_18 2 rfl rfl)
theorem dL_law_523 : decode cL_law 523 = .ok (.iconst 2, 1) := dk_5 (dk_at dksL_law_18 4 rfl rfl)
theorem dL_law_524 : decode cL_law 524 = .ok (.iadd, 1) := dk_96 (dk_at dksL_law_18 5 rfl rfl)
theorem dL_law_525 : decode cL_law 525 = .ok (.iaload, 1) := dk_46 (dk_at dksL_law_18 6 rfl rfl)
theorem dL_law_526 : decode cL_law 526 = .ok (.invokevirtual 55, 3) := dk_182 0 55 (dk_at dksL_law_18 7 rfl rfl)
theorem dL_law_529 : decode cL_law 529 = .ok (.if_icmp .eq 703, 3) := dk_159 2 191 (dk_at dksL_law_18 10 rfl rfl)
theorem dL_law_532 : decode cL_law 532 = .ok (.iconst 0, 1) := dk_3 (dk_at dksL_law_18 13 rfl rfl)
theorem dL_law_533 : decode cL_law 533 = .ok (.ireturn, 1) := dk_172 (dk_at dksL_law_18 14 rfl rfl)
theorem dL_law_534 : decode cL_law 534 = .ok (.aload_n 1, 1) := dk_43 (dk_at dksL_law_18 15 rfl rfl)
theorem dL_law_535 : decode cL_law 535 = .ok (.aload_n 0, 1) := dk_42 (dk_at dksL_law_18 16 rfl rfl)
theorem dL_law_536 : decode cL_law 536 = .ok (.iload 4, 2) := dk_21 4 (dk_at dksL_law_18 17 rfl rfl)
theorem dL_law_538 : decode cL_law 538 = .ok (.iconst 1, 1) := dk_4 (dk_at dksL_law_18 19 rfl rfl)
theorem dL_law_539 : decode cL_law 539 = .ok (.iadd, 1) := dk_96 (dk_at dksL_law_18 20 rfl rfl)
theorem dL_law_540 : decode cL_law 540 = .ok (.iaload, 1) := dk_46 (dk_at dksL_law_18 21 rfl rfl)
theorem dL_law_541 : decode cL_law 541 = .ok (.invokevirtual 56, 3) := dk_182 0 56 (dk_at dksL_law_19 0 rfl rfl)
theorem dL_law_544 : decode cL_law 544 = .ok (.aload_n 2, 1) := dk_44 (dk_at dksL_law_19 3 rfl rfl)
theorem dL_law_545 : decode cL_law 545 = .ok (.aload_n 0, 1) := dk_42 (dk_at dksL_law_19 4 rfl rfl)
theorem dL_law_546 : decode cL_law 546 = .ok (.iload 4, 2) := dk_21 4 (dk_at dksL_law_19 5 rfl rfl)
theorem dL_law_548 : decode cL_law 548 = .ok (.iconst 1, 1) := dk_4 (dk_at dksL_law_19 7 rfl rfl)
theorem dL_law_549 : decode cL_law 549 = .ok (.iadd, 1) := dk_96 (dk_at dksL_law_19 8 rfl rfl)
theorem dL_law_550 : decode cL_law 550 = .ok (.iaload, 1) := dk_46 (dk_at dksL_law_19 9 rfl rfl)
theorem dL_law_551 : decode cL_law 551 = .ok (.invokevirtual 60, 3) := dk_182 0 60 (dk_at dksL_law_19 10 rfl rfl)
theorem dL_law_554 : decode cL_law 554 = .ok (.if_icmp .eq 678, 3) := dk_159 2 166 (dk_at dksL_law_19 13 rfl rfl)
theorem dL_law_557 : decode cL_law 557 = .ok (.iconst 0, 1) := dk_3 (dk_at dksL_law_19 16 rfl rfl)
theorem dL_law_558 : decode cL_law 558 = .ok (.ireturn, 1) := dk_172 (dk_at dksL_law_19 17 rfl rfl)
theorem dL_law_559 : decode cL_law 559 = .ok (.aload_n 1, 1) := dk_43 (dk_at dksL_law_19 18 rfl rfl)
theorem dL_law_560 : decode cL_law 560 = .ok (.aload_n 0, 1) := dk_42 (dk_at dksL_law_19 19 rfl rfl)
theorem dL_law_561 : decode cL_law 561 = .ok (.iload 4, 2) := dk_21 4 (dk_at dksL_law_19 20 rfl rfl)
theorem dL_law_563 : decode cL_law 563 = .ok (.iconst 1, 1) := dk_4 (dk_at dksL_law_19 22 rfl rfl)
theorem dL_law_564 : decode cL_law 564 = .ok (.iadd, 1) := dk_96 (dk_at dksL_law_19 23 rfl rfl)
theorem dL_law_565 : decode cL_law 565 = .ok (.iaload, 1) := dk_46 (dk_at dksL_law_20 0 rfl rfl)
theorem dL_law_566 : decode cL_law 566 = .ok (.aload_n 0, 1) := dk_42 (dk_at dksL_law_20 1 rfl rfl)
theorem dL_law_567 : decode cL_law 567 = .ok (.iload 4, 2) := dk_21 4 (dk_at dksL_law_20 2 rfl rfl)
theorem dL_law_569 : decode cL_law 569 = .ok (.iconst 2, 1) := dk_5 (dk_at dksL_law_20 4 rfl rfl)
theorem dL_law_570 : decode cL_law 570 = .ok (.iadd, 1) := dk_96 (dk_at dksL_law_20 5 rfl rfl)
theorem dL_law_571 : decode cL_law 571 = .ok (.iaload, 1) := dk_46 (dk_at dksL_law_20 6 rfl rfl)
theorem dL_law_572 : decode cL_law 572 = .ok (.invokevirtual 61, 3) := dk_182 0 61 (dk_at dksL_law_20 7 rfl rfl)
theorem dL_law_575 : decode cL_law 575 = .ok (.aload_n 2, 1) := dk_44 (dk_at dksL_law_20 10 rfl rfl)
theorem dL_law_576 : decode cL_law 576 = .ok (.aload_n 0, 1) := dk_42 (dk_at dksL_law_20 11 rfl rfl)
theorem dL_law_577 : decode cL_law 577 = .ok (.iload 4, 2) := dk_21 4 (dk_at dksL_law_20 12 rfl rfl)
theorem dL_law_579 : decode cL_law 579 = .ok (.iconst 1, 1) := dk_4 (dk_at dksL_law_20 14 rfl rfl)
theorem dL_law_580 : decode cL_law 580 = .ok (.iadd, 1) := dk_96 (dk_at dksL_law_20 15 rfl rfl)
theorem dL_law_581 : decode cL_law 581 = .ok (.iaload, 1) := dk_46 (dk_at dksL_law_20 16 rfl rfl)
theorem dL_law_582 : decode cL_law 582 = .ok (.aload_n 0, 1) := dk_42 (dk_at dksL_law_20 17 rfl rfl)
theorem dL_law_583 : decode cL_law 583 = .ok (.iload 4, 2) := dk_21 4 (dk_at dksL_law_20 18 rfl rfl)
theorem dL_law_585 : decode cL_law 585 = .ok (.iconst 2, 1) := dk_5 (dk_at dksL_law_20 20 rfl rfl)
theorem dL_law_586 : decode cL_law 586 = .ok (.iadd, 1) := dk_96 (dk_at dksL_law_20 21 rfl rfl)
theorem dL_law_587 : decode cL_law 587 = .ok (.iaload, 1) := dk_46 (dk_at dksL_law_20 22 rfl rfl)
theorem dL_law_588 : decode cL_law 588 = .ok (.invokevirtual 65, 3) := dk_182 0 65 (dk_at dksL_law_21 0 rfl rfl)
theorem dL_law_591 : decode cL_law 591 = .ok (.if_icmp .eq 641, 3) := dk_159 2 129 (dk_at dksL_law_21 3 rfl rfl)
theorem dL_law_594 : decode cL_law 594 = .ok (.iconst 0, 1) := dk_3 (dk_at dksL_law_21 6 rfl rfl)
theorem dL_law_595 : decode cL_law 595 = .ok (.ireturn, 1) := dk_172 (dk_at dksL_law_21 7 rfl rfl)
theorem dL_law_596 : decode cL_law 596 = .ok (.aload_n 1, 1) := dk_43 (dk_at dksL_law_21 8 rfl rfl)
theorem dL_law_597 : decode cL_law 597 = .ok (.aload_n 0, 1) := dk_42 (dk_at dksL_law_21 9 rfl rfl)
theorem dL_law_598 : decode cL_law 598 = .ok (.iload 4, 2) := dk_21 4 (dk_at dksL_law_21 10 rfl rfl)
theorem dL_law_600 : decode cL_law 600 = .ok (.iconst 1, 1) := dk_4 (dk_at dksL_law_21 12 rfl rfl)
theorem dL_law_601 : decode cL_law 601 = .ok (.iadd, 1) := dk_96 (dk_at dksL_law_21 13 rfl rfl)
theorem dL_law_602 : decode cL_law 602 = .ok (.iaload, 1) := dk_46 (dk_at dksL_law_21 14 rfl rfl)
theorem dL_law_603 : decode cL_law 603 = .ok (.invokevirtual 66, 3) := dk_182 0 66 (dk_at dksL_law_21 15 rfl rfl)
theorem dL_law_606 : decode cL_law 606 = .ok (.aload_n 2, 1) := dk_44 (dk_at dksL_law_21 18 rfl rfl)
theorem dL_law_607 : decode cL_law 607 = .ok (.aload_n 0, 1) := dk_42 (dk_at dksL_law_21 19 rfl rfl)
theorem dL_law_608 : decode cL_law 608 = .ok (.iload 4, 2) := dk_21 4 (dk_at dksL_law_21 20 rfl rfl)
theorem dL_law_610 : decode cL_law 610 = .ok (.iconst 1, 1) := dk_4 (dk_at dksL_law_21 22 rfl rfl)
theorem dL_law_611 : decode cL_law 611 = .ok (.iadd, 1) := dk_96 (dk_at dksL_law_21 23 rfl rfl)
theorem dL_law_612 : decode cL_law 612 = .ok (.iaload, 1) := dk_46 (dk_at dksL_law_22 0 rfl rfl)
theorem dL_law_613 : decode cL_law 613 = .ok (.invokevirtual 69, 3) := dk_182 0 69 (dk_at dksL_law_22 1 rfl rfl)
theorem dL_law_616 : decode cL_law 616 = .ok (.if_icmp .eq 616, 3) := dk_159 2 104 (dk_at dksL_law_22 4 rfl rfl)
theorem dL_law_619 : decode cL_law 619 = .ok (.iconst 0, 1) := dk_3 (dk_at dksL_law_22 7 rfl rfl)
theorem dL_law_620 : decode cL_law 620 = .ok (.ireturn, 1) := dk_172 (dk_at dksL_law_22 8 rfl rfl)
theorem dL_law_621 : decode cL_law 621 = .ok (.aload_n 1, 1) := dk_43 (dk_at dksL_law_22 9 rfl rfl)
theorem dL_law_622 : decode cL_law 622 = .ok (.invokevirtual 70, 3) := dk_182 0 70 (dk_at dksL_law_22 10 rfl rfl)
theorem dL_law_625 : decode cL_law 625 = .ok (.aload_n 2, 1) := dk_44 (dk_at dksL_law_22 13 rfl rfl)
theorem dL_law_626 : decode cL_law 626 = .ok (.invokevirtual 74, 3) := dk_182 0 74 (dk_at dksL_law_22 14 rfl rfl)
theorem dL_law_629 : decode cL_law 629 = .ok (.if_icmp .eq 603, 3) := dk_159 2 91 (dk_at dksL_law_22 17 rfl rfl)
theorem dL_law_632 : decode cL_law 632 = .ok (.iconst 0, 1) := dk_3 (dk_at dksL_law_22 20 rfl rfl)
theorem dL_law_633 : decode cL_law 633 = .ok (.ireturn, 1) := dk_172 (dk_at dksL_law_22 21 rfl rfl)
theorem dL_law_634 : decode cL_law 634 = .ok (.aload_n 1, 1) := dk_43 (dk_at dksL_law_22 22 rfl rfl)
theorem dL_law_635 : decode cL_law 635 = .ok (.aload_n 0, 1) := dk_42 (dk_at dksL_law_22 23 rfl rfl)
theorem dL_law_636 : decode cL_law 636 = .ok (.iload 4, 2) := dk_21 4 (dk_at dksL_law_23 0 rfl rfl)
theorem dL_law_638 : decode cL_law 638 = .ok (.iconst 1, 1) := dk_4 (dk_at dksL_law_23 2 rfl rfl)
theorem dL_law_639 : decode cL_law 639 = .ok (.iadd, 1) := dk_96 (dk_at dksL_law_23 3 rfl rfl)
theorem dL_law_640 : decode cL_law 640 = .ok (.iaload, 1) := dk_46 (dk_at dksL_law_23 4 rfl rfl)
theorem dL_law_641 : decode cL_law 641 = .ok (.invokevirtual 75, 3) := dk_182 0 75 (dk_at dksL_law_23 5 rfl rfl)
theorem dL_law_644 : decode cL_law 644 = .ok (.aload_n 2, 1) := dk_44 (dk_at dksL_law_23 8 rfl rfl)
theorem dL_law_645 : decode cL_law 645 = .ok (.aload_n 0, 1) := dk_42 (dk_at dksL_law_23 9 rfl rfl)
theorem dL_law_646 : decode cL_law 646 = .ok (.iload 4, 2) := dk_21 4 (dk_at dksL_law_23 10 rfl rfl)
theorem dL_law_648 : decode cL_law 648 = .ok (.iconst 1, 1) := dk_4 (dk_at dksL_law_23 12 rfl rfl)
theorem dL_law_649 : decode cL_law 649 = .ok (.iadd, 1) := dk_96 (dk_at dksL_law_23 13 rfl rfl)
theorem dL_law_650 : decode cL_law 650 = .ok (.iaload, 1) := dk_46 (dk_at dksL_law_23 14 rfl rfl)
theorem dL_law_651 : decode cL_law 651 = .ok (.invokevirtual 78, 3) := dk_182 0 78 (dk_at dksL_law_23 15 rfl rfl)
theorem dL_law_654 : decode cL_law 654 = .ok (.if_icmp .eq 578, 3) := dk_159 2 66 (dk_at dksL_law_23 18 rfl rfl)
theorem dL_law_657 : decode cL_law 657 = .ok (.iconst 0, 1) := dk_3 (dk_at dksL_law_23 21 rfl rfl)
theorem dL_law_658 : decode cL_law 658 = .ok (.ireturn, 1) := dk_172 (dk_at dksL_law_23 22 rfl rfl)
theorem dL_law_659 : decode cL_law 659 = .ok (.aload_n 1, 1) := dk_43 (dk_at dksL_law_23 23 rfl rfl)
theorem dL_law_660 : decode cL_law 660 = .ok (.aload_n 0, 1) := dk_42 (dk_at dksL_law_24 0 rfl rfl)
theorem dL_law_661 : decode cL_law 661 = .ok (.iload 4, 2) := dk_21 4 (dk_at dksL_law_24 1 rfl rfl)
theorem dL_law_663 : decode cL_law 663 = .ok (.iconst 1, 1) := dk_4 (dk_at dksL_law_24 3 rfl rfl)
theorem dL_law_664 : decode cL_law 664 = .ok (.iadd, 1) := dk_96 (dk_at dksL_law_24 4 rfl rfl)
theorem dL_law_665 : decode cL_law 665 = .ok (.iaload, 1) := dk_46 (dk_at dksL_law_24 5 rfl rfl)
theorem dL_law_666 : decode cL_law 666 = .ok (.aload_n 0, 1) := dk_42 (dk_at dksL_law_24 6 rfl rfl)
theorem dL_law_667 : decode cL_law 667 = .ok (.iload 4, 2) := dk_21 4 (dk_at dksL_law_24 7 rfl rfl)
theorem dL_law_669 : decode cL_law 669 = .ok (.iconst 2, 1) := dk_5 (dk_at dksL_law_24 9 rfl rfl)
theorem dL_law_670 : decode cL_law 670 = .ok (.iadd, 1) := dk_96 (dk_at dksL_law_24 10 rfl rfl)
theorem dL_law_671 : decode cL_law 671 = .ok (.iaload, 1) := dk_46 (dk_at dksL_law_24 11 rfl rfl)
theorem dL_law_672 : decode cL_law 672 = .ok (.invokevirtual 79, 3) := dk_182 0 79 (dk_at dksL_law_24 12 rfl rfl)
theorem dL_law_675 : decode cL_law 675 = .ok (.aload_n 2, 1) := dk_44 (dk_at dksL_law_24 15 rfl rfl)
theorem dL_law_676 : decode cL_law 676 = .ok (.aload_n 0, 1) := dk_42 (dk_at dksL_law_24 16 rfl rfl)
theorem dL_law_677 : decode cL_law 677 = .ok (.iload 4, 2) := dk_21 4 (dk_at dksL_law_24 17 rfl rfl)
theorem dL_law_679 : decode cL_law 679 = .ok (.iconst 1, 1) := dk_4 (dk_at dksL_law_24 19 rfl rfl)
theorem dL_law_680 : decode cL_law 680 = .ok (.iadd, 1) := dk_96 (dk_at dksL_law_24 20 rfl rfl)
theorem dL_law_681 : decode cL_law 681 = .ok (.iaload, 1) := dk_46 (dk_at dksL_law_24 21 rfl rfl)
theorem dL_law_682 : decode cL_law 682 = .ok (.aload_n 0, 1) := dk_42 (dk_at dksL_law_24 22 rfl rfl)
theorem dL_law_683 : decode cL_law 683 = .ok (.iload 4, 2) := dk_21 4 (dk_at dksL_law_25 0 rfl rfl)
theorem dL_law_685 : decode cL_law 685 = .ok (.iconst 2, 1) := dk_5 (dk_at dksL_law_25 2 rfl rfl)
theorem dL_law_686 : decode cL_law 686 = .ok (.iadd, 1) := dk_96 (dk_at dksL_law_25 3 rfl rfl)
theorem dL_law_687 : decode cL_law 687 = .ok (.iaload, 1) := dk_46 (dk_at dksL_law_25 4 rfl rfl)
theorem dL_law_688 : decode cL_law 688 = .ok (.invokevirtual 82, 3) := dk_182 0 82 (dk_at dksL_law_25 5 rfl rfl)
theorem dL_law_691 : decode cL_law 691 = .ok (.if_icmp .eq 541, 3) := dk_159 2 29 (dk_at dksL_law_25 8 rfl rfl)
theorem dL_law_694 : decode cL_law 694 = .ok (.iconst 0, 1) := dk_3 (dk_at dksL_law_25 11 rfl rfl)
theorem dL_law_695 : decode cL_law 695 = .ok (.ireturn, 1) := dk_172 (dk_at dksL_law_25 12 rfl rfl)
theorem dL_law_696 : decode cL_law 696 = .ok (.aload_n 1, 1) := dk_43 (dk_at dksL_law_25 13 rfl rfl)
theorem dL_law_697 : decode cL_law 697 = .ok (.invokevirtual 83, 3) := dk_182 0 83 (dk_at dksL_law_25 14 rfl rfl)
theorem dL_law_700 : decode cL_law 700 = .ok (.aload_n 2, 1) := dk_44 (dk_at dksL_law_25 17 rfl rfl)
theorem dL_law_701 : decode cL_law 701 = .ok (.invokevirtual 86, 3) := dk_182 0 86 (dk_at dksL_law_25 18 rfl rfl)
theorem dL_law_704 : decode cL_law 704 = .ok (.if_icmp .eq 528, 3) := dk_159 2 16 (dk_at dksL_law_25 21 rfl rfl)
theorem dL_law_707 : decode cL_law 707 = .ok (.iconst 0, 1) := dk_3 (dk_at dksL_law_26 0 rfl rfl)
theorem dL_law_708 : decode cL_law 708 = .ok (.ireturn, 1) := dk_172 (dk_at dksL_law_26 1 rfl rfl)
theorem dL_law_709 : decode cL_law 709 = .ok (.aload_n 1, 1) := dk_43 (dk_at dksL_law_26 2 rfl rfl)
theorem dL_law_710 : decode cL_law 710 = .ok (.aload_n 0, 1) := dk_42 (dk_at dksL_law_26 3 rfl rfl)
theorem dL_law_711 : decode cL_law 711 = .ok (.iload 4, 2) := dk_21 4 (dk_at dksL_law_26 4 rfl rfl)
theorem dL_law_713 : decode cL_law 713 = .ok (.iconst 1, 1) := dk_4 (dk_at dksL_law_26 6 rfl rfl)
theorem dL_law_714 : decode cL_law 714 = .ok (.iadd, 1) := dk_96 (dk_at dksL_law_26 7 rfl rfl)
theorem dL_law_715 : decode cL_law 715 = .ok (.iaload, 1) := dk_46 (dk_at dksL_law_26 8 rfl rfl)
theorem dL_law_716 : decode cL_law 716 = .ok (.aload_n 0, 1) := dk_42 (dk_at dksL_law_26 9 rfl rfl)
theorem dL_law_717 : decode cL_law 717 = .ok (.iload 4, 2) := dk_21 4 (dk_at dksL_law_26 10 rfl rfl)
theorem dL_law_719 : decode cL_law 719 = .ok (.iconst 2, 1) := dk_5 (dk_at dksL_law_26 12 rfl rfl)
theorem dL_law_720 : decode cL_law 720 = .ok (.iadd, 1) := dk_96 (dk_at dksL_law_26 13 rfl rfl)
theorem dL_law_721 : decode cL_law 721 = .ok (.iaload, 1) := dk_46 (dk_at dksL_law_26 14 rfl rfl)
theorem dL_law_722 : decode cL_law 722 = .ok (.ifCond .eq 7, 3) := dk_153 0 7 (dk_at dksL_law_26 15 rfl rfl)
theorem dL_law_725 : decode cL_law 725 = .ok (.iconst 1, 1) := dk_4 (dk_at dksL_law_26 18 rfl rfl)
theorem dL_law_726 : decode cL_law 726 = .ok (.goto 4, 3) := dk_167 0 4 (dk_at dksL_law_26 19 rfl rfl)
theorem dL_law_729 : decode cL_law 729 = .ok (.iconst 0, 1) := dk_3 (dk_at dksL_law_26 22 rfl rfl)
theorem dL_law_730 : decode cL_law 730 = .ok (.invokevirtual 87, 3) := dk_182 0 87 (dk_at dksL_law_27 0 rfl rfl)
theorem dL_law_733 : decode cL_law 733 = .ok (.aload_n 2, 1) := dk_44 (dk_at dksL_law_27 3 rfl rfl)
theorem dL_law_734 : decode cL_law 734 = .ok (.aload_n 0, 1) := dk_42 (dk_at dksL_law_27 4 rfl rfl)
theorem dL_law_735 : decode cL_law 735 = .ok (.iload 4, 2) := dk_21 4 (dk_at dksL_law_27 5 rfl rfl)
theorem dL_law_737 : decode cL_law 737 = .ok (.iconst 1, 1) := dk_4 (dk_at dksL_law_27 7 rfl rfl)
theorem dL_law_738 : decode cL_law 738 = .ok (.iadd, 1) := dk_96 (dk_at dksL_law_27 8 rfl rfl)
theorem dL_law_739 : decode cL_law 739 = .ok (.iaload, 1) := dk_46 (dk_at dksL_law_27 9 rfl rfl)
theorem dL_law_740 : decode cL_law 740 = .ok (.aload_n 0, 1) := dk_42 (dk_at dksL_law_27 10 rfl rfl)
theorem dL_law_741 : decode cL_law 741 = .ok (.iload 4, 2) := dk_21 4 (dk_at dksL_law_27 11 rfl rfl)
theorem dL_law_743 : decode cL_law 743 = .ok (.iconst 2, 1) := dk_5 (dk_at dksL_law_27 13 rfl rfl)
theorem dL_law_744 : decode cL_law 744 = .ok (.iadd, 1) := dk_96 (dk_at dksL_law_27 14 rfl rfl)
theorem dL_law_745 : decode cL_law 745 = .ok (.iaload, 1) := dk_46 (dk_at dksL_law_27 15 rfl rfl)
theorem dL_law_746 : decode cL_law 746 = .ok (.ifCond .eq 7, 3) := dk_153 0 7 (dk_at dksL_law_27 16 rfl rfl)
theorem dL_law_749 : decode cL_law 749 = .ok (.iconst 1, 1) := dk_4 (dk_at dksL_law_27 19 rfl rfl)
theorem dL_law_750 : decode cL_law 750 = .ok (.goto 4, 3) := dk_167 0 4 (dk_at dksL_law_27 20 rfl rfl)
theorem dL_law_753 : decode cL_law 753 = .ok (.iconst 0, 1) := dk_3 (dk_at dksL_law_27 23 rfl rfl)
theorem dL_law_754 : decode cL_law 754 = .ok (.invokevirtual 91, 3) := dk_182 0 91 (dk_at dksL_law_28 0 rfl rfl)
theorem dL_law_757 : decode cL_law 757 = .ok (.if_icmp .eq 475, 3) := dk_159 1 219 (dk_at dksL_law_28 3 rfl rfl)
theorem dL_law_760 : decode cL_law 760 = .ok (.iconst 0, 1) := dk_3 (dk_at dksL_law_28 6 rfl rfl)
theorem dL_law_761 : decode cL_law 761 = .ok (.ireturn, 1) := dk_172 (dk_at dksL_law_28 7 rfl rfl)
theorem dL_law_762 : decode cL_law 762 = .ok (.aload_n 1, 1) := dk_43 (dk_at dksL_law_28 8 rfl rfl)
theorem dL_law_763 : decode cL_law 763 = .ok (.aload_n 0, 1) := dk_42 (dk_at dksL_law_28 9 rfl rfl)
theorem dL_law_764 : decode cL_law 764 = .ok (.iload 4, 2) := dk_21 4 (dk_at dksL_law_28 10 rfl rfl)
theorem dL_law_766 : decode cL_law 766 = .ok (.iconst 1, 1) := dk_4 (dk_at dksL_law_28 12 rfl rfl)
theorem dL_law_767 : decode cL_law 767 = .ok (.iadd, 1) := dk_96 (dk_at dksL_law_28 13 rfl rfl)
theorem dL_law_768 : decode cL_law 768 = .ok (.iaload, 1) := dk_46 (dk_at dksL_law_28 14 rfl rfl)
theorem dL_law_769 : decode cL_law 769 = .ok (.invokevirtual 92, 3) := dk_182 0 92 (dk_at dksL_law_28 15 rfl rfl)
theorem dL_law_772 : decode cL_law 772 = .ok (.aload_n 2, 1) := dk_44 (dk_at dksL_law_28 18 rfl rfl)
theorem dL_law_773 : decode cL_law 773 = .ok (.aload_n 0, 1) := dk_42 (dk_at dksL_law_28 19 rfl rfl)
theorem dL_law_774 : decode cL_law 774 = .ok (.iload 4, 2) := dk_21 4 (dk_at dksL_law_28 20 rfl rfl)
theorem dL_law_776 : decode cL_law 776 = .ok (.iconst 1, 1) := dk_4 (dk_at dksL_law_28 22 rfl rfl)
theorem dL_law_777 : decode cL_law 777 = .ok (.iadd, 1) := dk_96 (dk_at dksL_law_28 23 rfl rfl)
theorem dL_law_778 : decode cL_law 778 = .ok (.iaload, 1) := dk_46 (dk_at dksL_law_29 0 rfl rfl)
theorem dL_law_779 : decode cL_law 779 = .ok (.invokevirtual 95, 3) := dk_182 0 95 (dk_at dksL_law_29 1 rfl rfl)
theorem dL_law_782 : decode cL_law 782 = .ok (.if_icmp .eq 450, 3) := dk_159 1 194 (dk_at dksL_law_29 4 rfl rfl)
theorem dL_law_785 : decode cL_law 785 = .ok (.iconst 0, 1) := dk_3 (dk_at dksL_law_29 7 rfl rfl)
theorem dL_law_786 : decode cL_law 786 = .ok (.ireturn, 1) := dk_172 (dk_at dksL_law_29 8 rfl rfl)
theorem dL_law_787 : decode cL_law 787 = .ok (.aload_n 1, 1) := dk_43 (dk_at dksL_law_29 9 rfl rfl)
theorem dL_law_788 : decode cL_law 788 = .ok (.aload_n 0, 1) := dk_42 (dk_at dksL_law_29 10 rfl rfl)
theorem dL_law_789 : decode cL_law 789 = .ok (.iload 4, 2) := dk_21 4 (dk_at dksL_law_29 11 rfl rfl)
theorem dL_law_791 : decode cL_law 791 = .ok (.iconst 1, 1) := dk_4 (dk_at dksL_law_29 13 rfl rfl)
theorem dL_law_792 : decode cL_law 792 = .ok (.iadd, 1) := dk_96 (dk_at dksL_law_29 14 rfl rfl)
theorem dL_law_793 : decode cL_law 793 = .ok (.iaload, 1) := dk_46 (dk_at dksL_law_29 15 rfl rfl)
theorem dL_law_794 : decode cL_law 794 = .ok (.aload_n 0, 1) := dk_42 (dk_at dksL_law_29 16 rfl rfl)
theorem dL_law_795 : decode cL_law 795 = .ok (.iload 4, 2) := dk_21 4 (dk_at dksL_law_29 17 rfl rfl)
theorem dL_law_797 : decode cL_law 797 = .ok (.iconst 2, 1) := dk_5 (dk_at dksL_law_29 19 rfl rfl)
theorem dL_law_798 : decode cL_law 798 = .ok (.iadd, 1) := dk_96 (dk_at dksL_law_29 20 rfl rfl)
theorem dL_law_799 : decode cL_law 799 = .ok (.iaload, 1) := dk_46 (dk_at dksL_law_29 21 rfl rfl)
theorem dL_law_800 : decode cL_law 800 = .ok (.aload_n 0, 1) := dk_42 (dk_at dksL_law_29 22 rfl rfl)
theorem dL_law_801 : decode cL_law 801 = .ok (.iload 4, 2) := dk_21 4 (dk_at dksL_law_30 0 rfl rfl)
theorem dL_law_803 : decode cL_law 803 = .ok (.iconst 3, 1) := dk_6 (dk_at dksL_law_30 2 rfl rfl)
theorem dL_law_804 : decode cL_law 804 = .ok (.iadd, 1) := dk_96 (dk_at dksL_law_30 3 rfl rfl)
theorem dL_law_805 : decode cL_law 805 = .ok (.iaload, 1) := dk_46 (dk_at dksL_law_30 4 rfl rfl)
theorem dL_law_806 : decode cL_law 806 = .ok (.ifCond .eq 7, 3) := dk_153 0 7 (dk_at dksL_law_30 5 rfl rfl)
theorem dL_law_809 : decode cL_law 809 = .ok (.iconst 1, 1) := dk_4 (dk_at dksL_law_30 8 rfl rfl)
theorem dL_law_810 : decode cL_law 810 = .ok (.goto 4, 3) := dk_167 0 4 (dk_at dksL_law_30 9 rfl rfl)
theorem dL_law_813 : decode cL_law 813 = .ok (.iconst 0, 1) := dk_3 (dk_at dksL_law_30 12 rfl rfl)
theorem dL_law_814 : decode cL_law 814 = .ok (.invokevirtual 96, 3) := dk_182 0 96 (dk_at dksL_law_30 13 rfl rfl)
theorem dL_law_817 : decode cL_law 817 = .ok (.aload_n 2, 1) := dk_44 (dk_at dksL_law_30 16 rfl rfl)
theorem dL_law_818 : decode cL_law 818 = .ok (.aload_n 0, 1) := dk_42 (dk_at dksL_law_30 17 rfl rfl)
theorem dL_law_819 : decode cL_law 819 = .ok (.iload 4, 2) := dk_21 4 (dk_at dksL_law_30 18 rfl rfl)
theorem dL_law_821 : decode cL_law 821 = .ok (.iconst 1, 1) := dk_4 (dk_at dksL_law_30 20 rfl rfl)
theorem dL_law_822 : decode cL_law 822 = .ok (.iadd, 1) := dk_96 (dk_at dksL_law_30 21 rfl rfl)
theorem dL_law_823 : decode cL_law 823 = .ok (.iaload, 1) := dk_46 (dk_at dksL_law_30 22 rfl rfl)
theorem dL_law_824 : decode cL_law 824 = .ok (.aload_n 0, 1) := dk_42 (dk_at dksL_law_30 23 rfl rfl)
theorem dL_law_825 : decode cL_law 825 = .ok (.iload 4, 2) := dk_21 4 (dk_at dksL_law_31 0 rfl rfl)
theorem dL_law_827 : decode cL_law 827 = .ok (.iconst 2, 1) := dk_5 (dk_at dksL_law_31 2 rfl rfl)
theorem dL_law_828 : decode cL_law 828 = .ok (.iadd, 1) := dk_96 (dk_at dksL_law_31 3 rfl rfl)
theorem dL_law_829 : decode cL_law 829 = .ok (.iaload, 1) := dk_46 (dk_at dksL_law_31 4 rfl rfl)
theorem dL_law_830 : decode cL_law 830 = .ok (.aload_n 0, 1) := dk_42 (dk_at dksL_law_31 5 rfl rfl)
theorem dL_law_831 : decode cL_law 831 = .ok (.iload 4, 2) := dk_21 4 (dk_at dksL_law_31 6 rfl rfl)
theorem dL_law_833 : decode cL_law 833 = .ok (.iconst 3, 1) := dk_6 (dk_at dksL_law_31 8 rfl rfl)
theorem dL_law_834 : decode cL_law 834 = .ok (.iadd, 1) := dk_96 (dk_at dksL_law_31 9 rfl rfl)
theorem dL_law_835 : decode cL_law 835 = .ok (.iaload, 1) := dk_46 (dk_at dksL_law_31 10 rfl rfl)
theorem dL_law_836 : decode cL_law 836 = .ok (.ifCond .eq 7, 3) := dk_153 0 7 (dk_at dksL_law_31 11 rfl rfl)
theorem dL_law_839 : decode cL_law 839 = .ok (.iconst 1, 1) := dk_4 (dk_at dksL_law_31 14 rfl rfl)
theorem dL_law_840 : decode cL_law 840 = .ok (.goto 4, 3) := dk_167 0 4 (dk_at dksL_law_31 15 rfl rfl)
theorem dL_law_843 : decode cL_law 843 = .ok (.iconst 0, 1) := dk_3 (dk_at dksL_law_31 18 rfl rfl)
theorem dL_law_844 : decode cL_law 844 = .ok (.invokevirtual 100, 3) := dk_182 0 100 (dk_at dksL_law_31 19 rfl rfl)
theorem dL_law_847 : decode cL_law 847 = .ok (.if_icmp .eq 385, 3) := dk_159 1 129 (dk_at dksL_law_32 0 rfl rfl)
theorem dL_law_850 : decode cL_law 850 = .ok (.iconst 0, 1) := dk_3 (dk_at dksL_law_32 3 rfl rfl)
theorem dL_law_851 : decode cL_law 851 = .ok (.ireturn, 1) := dk_172 (dk_at dksL_law_32 4 rfl rfl)
theorem dL_law_852 : decode cL_law 852 = .ok (.aload_n 1, 1) := dk_43 (dk_at dksL_law_32 5 rfl rfl)
theorem dL_law_853 : decode cL_law 853 = .ok (.aload_n 0, 1) := dk_42 (dk_at dksL_law_32 6 rfl rfl)
theorem dL_law_854 : decode cL_law 854 = .ok (.iload 4, 2) := dk_21 4 (dk_at dksL_law_32 7 rfl rfl)
theorem dL_law_856 : decode cL_law 856 = .ok (.iconst 1, 1) := dk_4 (dk_at dksL_law_32 9 rfl rfl)
theorem dL_law_857 : decode cL_law 857 = .ok (.iadd, 1) := dk_96 (dk_at dksL_law_32 10 rfl rfl)
theorem dL_law_858 : decode cL_law 858 = .ok (.iaload, 1) := dk_46 (dk_at dksL_law_32 11 rfl rfl)
theorem dL_law_859 : decode cL_law 859 = .ok (.invokevirtual 101, 3) := dk_182 0 101 (dk_at dksL_law_32 12 rfl rfl)
theorem dL_law_862 : decode cL_law 862 = .ok (.aload_n 2, 1) := dk_44 (dk_at dksL_law_32 15 rfl rfl)
theorem dL_law_863 : decode cL_law 863 = .ok (.aload_n 0, 1) := dk_42 (dk_at dksL_law_32 16 rfl rfl)
theorem dL_law_864 : decode cL_law 864 = .ok (.iload 4, 2) := dk_21 4 (dk_at dksL_law_32 17 rfl rfl)
theorem dL_law_866 : decode cL_law 866 = .ok (.iconst 1, 1) := dk_4 (dk_at dksL_law_32 19 rfl rfl)
theorem dL_law_867 : decode cL_law 867 = .ok (.iadd, 1) := dk_96 (dk_at dksL_law_32 20 rfl rfl)
theorem dL_law_868 : decode cL_law 868 = .ok (.iaload, 1) := dk_46 (dk_at dksL_law_32 21 rfl rfl)
theorem dL_law_869 : decode cL_law 869 = .ok (.invokevirtual 104, 3) := dk_182 0 104 (dk_at dksL_law_33 0 rfl rfl)
theorem dL_law_872 : decode cL_law 872 = .ok (.if_icmp .eq 360, 3) := dk_159 1 104 (dk_at dksL_law_33 3 rfl rfl)
theorem dL_law_875 : decode cL_law 875 = .ok (.iconst 0, 1) := dk_3 (dk_at dksL_law_33 6 rfl rfl)
theorem dL_law_876 : decode cL_law 876 = .ok (.ireturn, 1) := dk_172 (dk_at dksL_law_33 7 rfl rfl)
theorem dL_law_877 : decode cL_law 877 = .ok (.aload_n 1, 1) := dk_43 (dk_at dksL_law_33 8 rfl rfl)
theorem dL_law_878 : decode cL_law 878 = .ok (.aload_n 0, 1) := dk_42 (dk_at dksL_law_33 9 rfl rfl)
theorem dL_law_879 : decode cL_law 879 = .ok (.iload 4, 2) := dk_21 4 (dk_at dksL_law_33 10 rfl rfl)
theorem dL_law_881 : decode cL_law 881 = .ok (.iconst 1, 1) := dk_4 (dk_at dksL_law_33 12 rfl rfl)
theorem dL_law_882 : decode cL_law 882 = .ok (.iadd, 1) := dk_96 (dk_at dksL_law_33 13 rfl rfl)
theorem dL_law_883 : decode cL_law 883 = .ok (.iaload, 1) := dk_46 (dk_at dksL_law_33 14 rfl rfl)
theorem dL_law_884 : decode cL_law 884 = .ok (.invokevirtual 105, 3) := dk_182 0 105 (dk_at dksL_law_33 15 rfl rfl)
theorem dL_law_887 : decode cL_law 887 = .ok (.aload_n 2, 1) := dk_44 (dk_at dksL_law_33 18 rfl rfl)
theorem dL_law_888 : decode cL_law 888 = .ok (.aload_n 0, 1) := dk_42 (dk_at dksL_law_33 19 rfl rfl)
theorem dL_law_889 : decode cL_law 889 = .ok (.iload 4, 2) := dk_21 4 (dk_at dksL_law_33 20 rfl rfl)
theorem dL_law_891 : decode cL_law 891 = .ok (.iconst 1, 1) := dk_4 (dk_at dksL_law_33 22 rfl rfl)
theorem dL_law_892 : decode cL_law 892 = .ok (.iadd, 1) := dk_96 (dk_at dksL_law_33 23 rfl rfl)
theorem dL_law_893 : decode cL_law 893 = .ok (.iaload, 1) := dk_46 (dk_at dksL_law_34 0 rfl rfl)
theorem dL_law_894 : decode cL_law 894 = .ok (.invokevirtual 108, 3) := dk_182 0 108 (dk_at dksL_law_34 1 rfl rfl)
theorem dL_law_897 : decode cL_law 897 = .ok (.if_icmp .eq 335, 3) := dk_159 1 79 (dk_at dksL_law_34 4 rfl rfl)
theorem dL_law_900 : decode cL_law 900 = .ok (.iconst 0, 1) := dk_3 (dk_at dksL_law_34 7 rfl rfl)
theorem dL_law_901 : decode cL_law 901 = .ok (.ireturn, 1) := dk_172 (dk_at dksL_law_34 8 rfl rfl)
theorem dL_law_902 : decode cL_law 902 = .ok (.aload_n 1, 1) := dk_43 (dk_at dksL_law_34 9 rfl rfl)
theorem dL_law_903 : decode cL_law 903 = .ok (.aload_n 0, 1) := dk_42 (dk_at dksL_law_34 10 rfl rfl)
theorem dL_law_904 : decode cL_law 904 = .ok (.iload 4, 2) := dk_21 4 (dk_at dksL_law_34 11 rfl rfl)
theorem dL_law_906 : decode cL_law 906 = .ok (.iconst 1, 1) := dk_4 (dk_at dksL_law_34 13 rfl rfl)
theorem dL_law_907 : decode cL_law 907 = .ok (.iadd, 1) := dk_96 (dk_at dksL_law_34 14 rfl rfl)
theorem dL_law_908 : decode cL_law 908 = .ok (.iaload, 1) := dk_46 (dk_at dksL_law_34 15 rfl rfl)
theorem dL_law_909 : decode cL_law 909 = .ok (.aload_n 0, 1) := dk_42 (dk_at dksL_law_34 16 rfl rfl)
theorem dL_law_910 : decode cL_law 910 = .ok (.iload 4, 2) := dk_21 4 (dk_at dksL_law_34 17 rfl rfl)
theorem dL_law_912 : decode cL_law 912 = .ok (.iconst 2, 1) := dk_5 (dk_at dksL_law_34 19 rfl rfl)
theorem dL_law_913 : decode cL_law 913 = .ok (.iadd, 1) := dk_96 (dk_at dksL_law_34 20 rfl rfl)
theorem dL_law_914 : decode cL_law 914 = .ok (.iaload, 1) := dk_46 (dk_at dksL_law_34 21 rfl rfl)
theorem dL_law_915 : decode cL_law 915 = .ok (.invokevirtual 109, 3) := dk_182 0 109 (dk_at dksL_law_35 0 rfl rfl)
theorem dL_law_918 : decode cL_law 918 = .ok (.aload_n 2, 1) := dk_44 (dk_at dksL_law_35 3 rfl rfl)
theorem dL_law_919 : decode cL_law 919 = .ok (.aload_n 0, 1) := dk_42 (dk_at dksL_law_35 4 rfl rfl)
theorem dL_law_920 : decode cL_law 920 = .ok (.iload 4, 2) := dk_21 4 (dk_at dksL_law_35 5 rfl rfl)
theorem dL_law_922 : decode cL_law 922 = .ok (.iconst 1, 1) := dk_4 (dk_at dksL_law_35 7 rfl rfl)
theorem dL_law_923 : decode cL_law 923 = .ok (.iadd, 1) := dk_96 (dk_at dksL_law_35 8 rfl rfl)
theorem dL_law_924 : decode cL_law 924 = .ok (.iaload, 1) := dk_46 (dk_at dksL_law_35 9 rfl rfl)
theorem dL_law_925 : decode cL_law 925 = .ok (.aload_n 0, 1) := dk_42 (dk_at dksL_law_35 10 rfl rfl)
theorem dL_law_926 : decode cL_law 926 = .ok (.iload 4, 2) := dk_21 4 (dk_at dksL_law_35 11 rfl rfl)
theorem dL_law_928 : decode cL_law 928 = .ok (.iconst 2, 1) := dk_5 (dk_at dksL_law_35 13 rfl rfl)
theorem dL_law_929 : decode cL_law 929 = .ok (.iadd, 1) := dk_96 (dk_at dksL_law_35 14 rfl rfl)
theorem dL_law_930 : decode cL_law 930 = .ok (.iaload, 1) := dk_46 (dk_at dksL_law_35 15 rfl rfl)
theorem dL_law_931 : decode cL_law 931 = .ok (.invokevirtual 112, 3) := dk_182 0 112 (dk_at dksL_law_35 16 rfl rfl)
theorem dL_law_934 : decode cL_law 934 = .ok (.if_icmp .eq 298, 3) := dk_159 1 42 (dk_at dksL_law_35 19 rfl rfl)
theorem dL_law_937 : decode cL_law 937 = .ok (.iconst 0, 1) := dk_3 (dk_at dksL_law_35 22 rfl rfl)
theorem dL_law_938 : decode cL_law 938 = .ok (.ireturn, 1) := dk_172 (dk_at dksL_law_35 23 rfl rfl)
theorem dL_law_939 : decode cL_law 939 = .ok (.aload_n 1, 1) := dk_43 (dk_at dksL_law_36 0 rfl rfl)
theorem dL_law_940 : decode cL_law 940 = .ok (.aload_n 0, 1) := dk_42 (dk_at dksL_law_36 1 rfl rfl)
theorem dL_law_941 : decode cL_law 941 = .ok (.iload 4, 2) := dk_21 4 (dk_at dksL_law_36 2 rfl rfl)
theorem dL_law_943 : decode cL_law 943 = .ok (.iconst 1, 1) := dk_4 (dk_at dksL_law_36 4 rfl rfl)
theorem dL_law_944 : decode cL_law 944 = .ok (.iadd, 1) := dk_96 (dk_at dksL_law_36 5 rfl rfl)
theorem dL_law_945 : decode cL_law 945 = .ok (.iaload, 1) := dk_46 (dk_at dksL_law_36 6 rfl rfl)
theorem dL_law_946 : decode cL_law 946 = .ok (.aload_n 0, 1) := dk_42 (dk_at dksL_law_36 7 rfl rfl)
theorem dL_law_947 : decode cL_law 947 = .ok (.iload 4, 2) := dk_21 4 (dk_at dksL_law_36 8 rfl rfl)
theorem dL_law_949 : decode cL_law 949 = .ok (.iconst 2, 1) := dk_5 (dk_at dksL_law_36 10 rfl rfl)
theorem dL_law_950 : decode cL_law 950 = .ok (.iadd, 1) := dk_96 (dk_at dksL_law_36 11 rfl rfl)
theorem dL_law_951 : decode cL_law 951 = .ok (.iaload, 1) := dk_46 (dk_at dksL_law_36 12 rfl rfl)
theorem dL_law_952 : decode cL_law 952 = .ok (.aload_n 0, 1) := dk_42 (dk_at dksL_law_36 13 rfl rfl)
theorem dL_law_953 : decode cL_law 953 = .ok (.iload 4, 2) := dk_21 4 (dk_at dksL_law_36 14 rfl rfl)
theorem dL_law_955 : decode cL_law 955 = .ok (.iconst 3, 1) := dk_6 (dk_at dksL_law_36 16 rfl rfl)
theorem dL_law_956 : decode cL_law 956 = .ok (.iadd, 1) := dk_96 (dk_at dksL_law_36 17 rfl rfl)
theorem dL_law_957 : decode cL_law 957 = .ok (.iaload, 1) := dk_46 (dk_at dksL_law_36 18 rfl rfl)
theorem dL_law_958 : decode cL_law 958 = .ok (.aload_n 3, 1) := dk_45 (dk_at dksL_law_36 19 rfl rfl)
theorem dL_law_959 : decode cL_law 959 = .ok (.invokestatic 113, 3) := dk_184 0 113 (dk_at dksL_law_36 20 rfl rfl)
theorem dL_law_962 : decode cL_law 962 = .ok (.istore 5, 2) := dk_54 5 (dk_at dksL_law_37 0 rfl rfl)
theorem dL_law_964 : decode cL_law 964 = .ok (.aload_n 2, 1) := dk_44 (dk_at dksL_law_37 2 rfl rfl)
theorem dL_law_965 : decode cL_law 965 = .ok (.aload_n 0, 1) := dk_42 (dk_at dksL_law_37 3 rfl rfl)
theorem dL_law_966 : decode cL_law 966 = .ok (.iload 4, 2) := dk_21 4 (dk_at dksL_law_37 4 rfl rfl)
theorem dL_law_968 : decode cL_law 968 = .ok (.iconst 1, 1) := dk_4 (dk_at dksL_law_37 6 rfl rfl)
theorem dL_law_969 : decode cL_law 969 = .ok (.iadd, 1) := dk_96 (dk_at dksL_law_37 7 rfl rfl)
theorem dL_law_970 : decode cL_law 970 = .ok (.iaload, 1) := dk_46 (dk_at dksL_law_37 8 rfl rfl)
theorem dL_law_971 : decode cL_law 971 = .ok (.aload_n 0, 1) := dk_42 (dk_at dksL_law_37 9 rfl rfl)
theorem dL_law_972 : decode cL_law 972 = .ok (.iload 4, 2) := dk_21 4 (dk_at dksL_law_37 10 rfl rfl)
theorem dL_law_974 : decode cL_law 974 = .ok (.iconst 2, 1) := dk_5 (dk_at dksL_law_37 12 rfl rfl)
theorem dL_law_975 : decode cL_law 975 = .ok (.iadd, 1) := dk_96 (dk_at dksL_law_37 13 rfl rfl)
theorem dL_law_976 : decode cL_law 976 = .ok (.iaload, 1) := dk_46 (dk_at dksL_law_37 14 rfl rfl)
theorem dL_law_977 : decode cL_law 977 = .ok (.aload_n 0, 1) := dk_42 (dk_at dksL_law_37 15 rfl rfl)
theorem dL_law_978 : decode cL_law 978 = .ok (.iload 4, 2) := dk_21 4 (dk_at dksL_law_37 16 rfl rfl)
theorem dL_law_980 : decode cL_law 980 = .ok (.iconst 3, 1) := dk_6 (dk_at dksL_law_37 18 rfl rfl)
theorem dL_law_981 : decode cL_law 981 = .ok (.iadd, 1) := dk_96 (dk_at dksL_law_37 19 rfl rfl)
theorem dL_law_982 : decode cL_law 982 = .ok (.iaload, 1) := dk_46 (dk_at dksL_law_37 20 rfl rfl)
theorem dL_law_983 : decode cL_law 983 = .ok (.invokevirtual 118, 3) := dk_182 0 118 (dk_at dksL_law_37 21 rfl rfl)
theorem dL_law_986 : decode cL_law 986 = .ok (.istore 6, 2) := dk_54 6 (dk_at dksL_law_38 0 rfl rfl)
theorem dL_law_988 : decode cL_law 988 = .ok (.aload_n 2, 1) := dk_44 (dk_at dksL_law_38 2 rfl rfl)
theorem dL_law_989 : decode cL_law 989 = .ok (.invokevirtual 119, 3) := dk_182 0 119 (dk_at dksL_law_38 3 rfl rfl)
theorem dL_law_992 : decode cL_law 992 = .ok (.iload 5, 2) := dk_21 5 (dk_at dksL_law_38 6 rfl rfl)
theorem dL_law_994 : decode cL_law 994 = .ok (.if_icmp .eq 5, 3) := dk_159 0 5 (dk_at dksL_law_38 8 rfl rfl)
theorem dL_law_997 : decode cL_law 997 = .ok (.iconst 0, 1) := dk_3 (dk_at dksL_law_38 11 rfl rfl)
theorem dL_law_998 : decode cL_law 998 = .ok (.ireturn, 1) := dk_172 (dk_at dksL_law_38 12 rfl rfl)
theorem dL_law_999 : decode cL_law 999 = .ok (.iload 5, 2) := dk_21 5 (dk_at dksL_law_38 13 rfl rfl)
theorem dL_law_1001 : decode cL_law 1001 = .ok (.ifCond .ne 15, 3) := dk_154 0 15 (dk_at dksL_law_38 15 rfl rfl)
theorem dL_law_1004 : decode cL_law 1004 = .ok (.aload_n 3, 1) := dk_45 (dk_at dksL_law_38 18 rfl rfl)
theorem dL_law_1005 : decode cL_law 1005 = .ok (.iconst 0, 1) := dk_3 (dk_at dksL_law_38 19 rfl rfl)
theorem dL_law_1006 : decode cL_law 1006 = .ok (.laload, 1) := dk_47 (dk_at dksL_law_38 20 rfl rfl)
theorem dL_law_1007 : decode cL_law 1007 = .ok (.iload 6, 2) := dk_21 6 (dk_at dksL_law_38 21 rfl rfl)
theorem dL_law_1009 : decode cL_law 1009 = .ok (.i2l, 1) := dk_133 (dk_at dksL_law_38 23 rfl rfl)
theorem dL_law_1010 : decode cL_law 1010 = .ok (.lcmp, 1) := dk_148 (dk_at dksL_law_39 0 rfl rfl)
theorem dL_law_1011 : decode cL_law 1011 = .ok (.ifCond .eq 5, 3) := dk_153 0 5 (dk_at dksL_law_39 1 rfl rfl)
theorem dL_law_1014 : decode cL_law 1014 = .ok (.iconst 0, 1) := dk_3 (dk_at dksL_law_39 4 rfl rfl)
theorem dL_law_1015 : decode cL_law 1015 = .ok (.ireturn, 1) := dk_172 (dk_at dksL_law_39 5 rfl rfl)
theorem dL_law_1016 : decode cL_law 1016 = .ok (.goto 216, 3) := dk_167 0 216 (dk_at dksL_law_39 6 rfl rfl)
theorem dL_law_1019 : decode cL_law 1019 = .ok (.aload_n 1, 1) := dk_43 (dk_at dksL_law_39 9 rfl rfl)
theorem dL_law_1020 : decode cL_law 1020 = .ok (.aload_n 0, 1) := dk_42 (dk_at dksL_law_39 10 rfl rfl)
theorem dL_law_1021 : decode cL_law 1021 = .ok (.iload 4, 2) := dk_21 4 (dk_at dksL_law_39 11 rfl rfl)
theorem dL_law_1023 : decode cL_law 1023 = .ok (.iconst 1, 1) := dk_4 (dk_at dksL_law_39 13 rfl rfl)
theorem dL_law_1024 : decode cL_law 1024 = .ok (.iadd, 1) := dk_96 (dk_at dksL_law_39 14 rfl rfl)
theorem dL_law_1025 : decode cL_law 1025 = .ok (.iaload, 1) := dk_46 (dk_at dksL_law_39 15 rfl rfl)
theorem dL_law_1026 : decode cL_law 1026 = .ok (.aload_n 0, 1) := dk_42 (dk_at dksL_law_39 16 rfl rfl)
theorem dL_law_1027 : decode cL_law 1027 = .ok (.iload 4, 2) := dk_21 4 (dk_at dksL_law_39 17 rfl rfl)
theorem dL_law_1029 : decode cL_law 1029 = .ok (.iconst 2, 1) := dk_5 (dk_at dksL_law_39 19 rfl rfl)
theorem dL_law_1030 : decode cL_law 1030 = .ok (.iadd, 1) := dk_96 (dk_at dksL_law_39 20 rfl rfl)
theorem dL_law_1031 : decode cL_law 1031 = .ok (.iaload, 1) := dk_46 (dk_at dksL_law_39 21 rfl rfl)
theorem dL_law_1032 : decode cL_law 1032 = .ok (.invokevirtual 122, 3) := dk_182 0 122 (dk_at dksL_law_40 0 rfl rfl)
theorem dL_law_1035 : decode cL_law 1035 = .ok (.aload_n 2, 1) := dk_44 (dk_at dksL_law_40 3 rfl rfl)
theorem dL_law_1036 : decode cL_law 1036 = .ok (.aload_n 0, 1) := dk_42 (dk_at dksL_law_40 4 rfl rfl)
theorem dL_law_1037 : decode cL_law 1037 = .ok (.iload 4, 2) := dk_21 4 (dk_at dksL_law_40 5 rfl rfl)
theorem dL_law_1039 : decode cL_law 1039 = .ok (.iconst 1, 1) := dk_4 (dk_at dksL_law_40 7 rfl rfl)
theorem dL_law_1040 : decode cL_law 1040 = .ok (.iadd, 1) := dk_96 (dk_at dksL_law_40 8 rfl rfl)
theorem dL_law_1041 : decode cL_law 1041 = .ok (.iaload, 1) := dk_46 (dk_at dksL_law_40 9 rfl rfl)
theorem dL_law_1042 : decode cL_law 1042 = .ok (.aload_n 0, 1) := dk_42 (dk_at dksL_law_40 10 rfl rfl)
theorem dL_law_1043 : decode cL_law 1043 = .ok (.iload 4, 2) := dk_21 4 (dk_at dksL_law_40 11 rfl rfl)
theorem dL_law_1045 : decode cL_law 1045 = .ok (.iconst 2, 1) := dk_5 (dk_at dksL_law_40 13 rfl rfl)
theorem dL_law_1046 : decode cL_law 1046 = .ok (.iadd, 1) := dk_96 (dk_at dksL_law_40 14 rfl rfl)
theorem dL_law_1047 : decode cL_law 1047 = .ok (.iaload, 1) := dk_46 (dk_at dksL_law_40 15 rfl rfl)
theorem dL_law_1048 : decode cL_law 1048 = .ok (.invokevirtual 125, 3) := dk_182 0 125 (dk_at dksL_law_40 16 rfl rfl)
theorem dL_law_1051 : decode cL_law 1051 = .ok (.if_icmp .eq 181, 3) := dk_159 0 181 (dk_at dksL_law_40 19 rfl rfl)
theorem dL_law_1054 : decode cL_law 1054 = .ok (.iconst 0, 1) := dk_3 (dk_at dksL_law_40 22 rfl rfl)
theorem dL_law_1055 : decode cL_law 1055 = .ok (.ireturn, 1) := dk_172 (dk_at dksL_law_40 23 rfl rfl)
theorem dL_law_1056 : decode cL_law 1056 = .ok (.aload_n 1, 1) := dk_43 (dk_at dksL_law_41 0 rfl rfl)
theorem dL_law_1057 : decode cL_law 1057 = .ok (.aload_n 0, 1) := dk_42 (dk_at dksL_law_41 1 rfl rfl)
theorem dL_law_1058 : decode cL_law 1058 = .ok (.iload 4, 2) := dk_21 4 (dk_at dksL_law_41 2 rfl rfl)
theorem dL_law_1060 : decode cL_law 1060 = .ok (.iconst 1, 1) := dk_4 (dk_at dksL_law_41 4 rfl rfl)
theorem dL_law_1061 : decode cL_law 1061 = .ok (.iadd, 1) := dk_96 (dk_at dksL_law_41 5 rfl rfl)
theorem dL_law_1062 : decode cL_law 1062 = .ok (.iaload, 1) := dk_46 (dk_at dksL_law_41 6 rfl rfl)
theorem dL_law_1063 : decode cL_law 1063 = .ok (.aload_n 0, 1) := dk_42 (dk_at dksL_law_41 7 rfl rfl)
theorem dL_law_1064 : decode cL_law 1064 = .ok (.iload 4, 2) := dk_21 4 (dk_at dksL_law_41 8 rfl rfl)
theorem dL_law_1066 : decode cL_law 1066 = .ok (.iconst 2, 1) := dk_5 (dk_at dksL_law_41 10 rfl rfl)
theorem dL_law_1067 : decode cL_law 1067 = .ok (.iadd, 1) := dk_96 (dk_at dksL_law_41 11 rfl rfl)
theorem dL_law_1068 : decode cL_law 1068 = .ok (.iaload, 1) := dk_46 (dk_at dksL_law_41 12 rfl rfl)
theorem dL_law_1069 : decode cL_law 1069 = .ok (.aload_n 0, 1) := dk_42 (dk_at dksL_law_41 13 rfl rfl)
theorem dL_law_1070 : decode cL_law 1070 = .ok (.iload 4, 2) := dk_21 4 (dk_at dksL_law_41 14 rfl rfl)
theorem dL_law_1072 : decode cL_law 1072 = .ok (.iconst 3, 1) := dk_6 (dk_at dksL_law_41 16 rfl rfl)
theorem dL_law_1073 : decode cL_law 1073 = .ok (.iadd, 1) := dk_96 (dk_at dksL_law_41 17 rfl rfl)
theorem dL_law_1074 : decode cL_law 1074 = .ok (.iaload, 1) := dk_46 (dk_at dksL_law_41 18 rfl rfl)
theorem dL_law_1075 : decode cL_law 1075 = .ok (.invokevirtual 126, 3) := dk_182 0 126 (dk_at dksL_law_41 19 rfl rfl)
theorem dL_law_1078 : decode cL_law 1078 = .ok (.aload_n 2, 1) := dk_44 (dk_at dksL_law_41 22 rfl rfl)
theorem dL_law_1079 : decode cL_law 1079 = .ok (.aload_n 0, 1) := dk_42 (dk_at dksL_law_41 23 rfl rfl)
theorem dL_law_1080 : decode cL_law 1080 = .ok (.iload 4, 2) := dk_21 4 (dk_at dksL_law_42 0 rfl rfl)
theorem dL_law_1082 : decode cL_law 1082 = .ok (.iconst 1, 1) := dk_4 (dk_at dksL_law_42 2 rfl rfl)
theorem dL_law_1083 : decode cL_law 1083 = .ok (.iadd, 1) := dk_96 (dk_at dksL_law_42 3 rfl rfl)
theorem dL_law_1084 : decode cL_law 1084 = .ok (.iaload, 1) := dk_46 (dk_at dksL_law_42 4 rfl rfl)
theorem dL_law_1085 : decode cL_law 1085 = .ok (.aload_n 0, 1) := dk_42 (dk_at dksL_law_42 5 rfl rfl)
theorem dL_law_1086 : decode cL_law 1086 = .ok (.iload 4, 2) := dk_21 4 (dk_at dksL_law_42 6 rfl rfl)
theorem dL_law_1088 : decode cL_law 1088 = .ok (.iconst 2, 1) := dk_5 (dk_at dksL_law_42 8 rfl rfl)
theorem dL_law_1089 : decode cL_law 1089 = .ok (.iadd, 1) := dk_96 (dk_at dksL_law_42 9 rfl rfl)
theorem dL_law_1090 : decode cL_law 1090 = .ok (.iaload, 1) := dk_46 (dk_at dksL_law_42 10 rfl rfl)
theorem dL_law_1091 : decode cL_law 1091 = .ok (.aload_n 0, 1) := dk_42 (dk_at dksL_law_42 11 rfl rfl)
theorem dL_law_1092 : decode cL_law 1092 = .ok (.iload 4, 2) := dk_21 4 (dk_at dksL_law_42 12 rfl rfl)
theorem dL_law_1094 : decode cL_law 1094 = .ok (.iconst 3, 1) := dk_6 (dk_at dksL_law_42 14 rfl rfl)
theorem dL_law_1095 : decode cL_law 1095 = .ok (.iadd, 1) := dk_96 (dk_at dksL_law_42 15 rfl rfl)
theorem dL_law_1096 : decode cL_law 1096 = .ok (.iaload, 1) := dk_46 (dk_at dksL_law_42 16 rfl rfl)
theorem dL_law_1097 : decode cL_law 1097 = .ok (.invokevirtual 129, 3) := dk_182 0 129 (dk_at dksL_law_42 17 rfl rfl)
theorem dL_law_1100 : decode cL_law 1100 = .ok (.if_icmp .eq 132, 3) := dk_159 0 132 (dk_at dksL_law_42 20 rfl rfl)
theorem dL_law_1103 : decode cL_law 1103 = .ok (.iconst 0, 1) := dk_3 (dk_at dksL_law_42 23 rfl rfl)
theorem dL_law_1104 : decode cL_law 1104 = .ok (.ireturn, 1) := dk_172 (dk_at dksL_law_43 0 rfl rfl)
theorem dL_law_1105 : decode cL_law 1105 = .ok (.aload_n 1, 1) := dk_43 (dk_at dksL_law_43 1 rfl rfl)
theorem dL_law_1106 : decode cL_law 1106 = .ok (.aload_n 0, 1) := dk_42 (dk_at dksL_law_43 2 rfl rfl)
theorem dL_law_1107 : decode cL_law 1107 = .ok (.iload 4, 2) := dk_21 4 (dk_at dksL_law_43 3 rfl rfl)
theorem dL_law_1109 : decode cL_law 1109 = .ok (.iconst 1, 1) := dk_4 (dk_at dksL_law_43 5 rfl rfl)
theorem dL_law_1110 : decode cL_law 1110 = .ok (.iadd, 1) := dk_96 (dk_at dksL_law_43 6 rfl rfl)
theorem dL_law_1111 : decode cL_law 1111 = .ok (.iaload, 1) := dk_46 (dk_at dksL_law_43 7 rfl rfl)
theorem dL_law_1112 : decode cL_law 1112 = .ok (.aload_n 0, 1) := dk_42 (dk_at dksL_law_43 8 rfl rfl)
theorem dL_law_1113 : decode cL_law 1113 = .ok (.iload 4, 2) := dk_21 4 (dk_at dksL_law_43 9 rfl rfl)
theorem dL_law_1115 : decode cL_law 1115 = .ok (.iconst 2, 1) := dk_5 (dk_at dksL_law_43 11 rfl rfl)
theorem dL_law_1116 : decode cL_law 1116 = .ok (.iadd, 1) := dk_96 (dk_at dksL_law_43 12 rfl rfl)
theorem dL_law_1117 : decode cL_law 1117 = .ok (.iaload, 1) := dk_46 (dk_at dksL_law_43 13 rfl rfl)
theorem dL_law_1118 : decode cL_law 1118 = .ok (.aload_n 0, 1) := dk_42 (dk_at dksL_law_43 14 rfl rfl)
theorem dL_law_1119 : decode cL_law 1119 = .ok (.iload 4, 2) := dk_21 4 (dk_at dksL_law_43 15 rfl rfl)
theorem dL_law_1121 : decode cL_law 1121 = .ok (.iconst 3, 1) := dk_6 (dk_at dksL_law_43 17 rfl rfl)
theorem dL_law_1122 : decode cL_law 1122 = .ok (.iadd, 1) := dk_96 (dk_at dksL_law_43 18 rfl rfl)
theorem dL_law_1123 : decode cL_law 1123 = .ok (.iaload, 1) := dk_46 (dk_at dksL_law_43 19 rfl rfl)
theorem dL_law_1124 : decode cL_law 1124 = .ok (.invokevirtual 130, 3) := dk_182 0 130 (dk_at dksL_law_43 20 rfl rfl)
theorem dL_law_1127 : decode cL_law 1127 = .ok (.aload_n 2, 1) := dk_44 (dk_at dksL_law_43 23 rfl rfl)
theorem dL_law_1128 : decode cL_law 1128 = .ok (.aload_n 0, 1) := dk_42 (dk_at dksL_law_44 0 rfl rfl)
theorem dL_law_1129 : decode cL_law 1129 = .ok (.iload 4, 2) := dk_21 4 (dk_at dksL_law_44 1 rfl rfl)
theorem dL_law_1131 : decode cL_law 1131 = .ok (.iconst 1, 1) := dk_4 (dk_at dksL_law_44 3 rfl rfl)
theorem dL_law_1132 : decode cL_law 1132 = .ok (.iadd, 1) := dk_96 (dk_at dksL_law_44 4 rfl rfl)
theorem dL_law_1133 : decode cL_law 1133 = .ok (.iaload, 1) := dk_46 (dk_at dksL_law_44 5 rfl rfl)
theorem dL_law_1134 : decode cL_law 1134 = .ok (.aload_n 0, 1) := dk_42 (dk_at dksL_law_44 6 rfl rfl)
theorem dL_law_1135 : decode cL_law 1135 = .ok (.iload 4, 2) := dk_21 4 (dk_at dksL_law_44 7 rfl rfl)
theorem dL_law_1137 : decode cL_law 1137 = .ok (.iconst 2, 1) := dk_5 (dk_at dksL_law_44 9 rfl rfl)
theorem dL_law_1138 : decode cL_law 1138 = .ok (.iadd, 1) := dk_96 (dk_at dksL_law_44 10 rfl rfl)
theorem dL_law_1139 : decode cL_law 1139 = .ok (.iaload, 1) := dk_46 (dk_at dksL_law_44 11 rfl rfl)
theorem dL_law_1140 : decode cL_law 1140 = .ok (.aload_n 0, 1) := dk_42 (dk_at dksL_law_44 12 rfl rfl)
theorem dL_law_1141 : decode cL_law 1141 = .ok (.iload 4, 2) := dk_21 4 (dk_at dksL_law_44 13 rfl rfl)
theorem dL_law_1143 : decode cL_law 1143 = .ok (.iconst 3, 1) := dk_6 (dk_at dksL_law_44 15 rfl rfl)
theorem dL_law_1144 : decode cL_law 1144 = .ok (.iadd, 1) := dk_96 (dk_at dksL_law_44 16 rfl rfl)
theorem dL_law_1145 : decode cL_law 1145 = .ok (.iaload, 1) := dk_46 (dk_at dksL_law_44 17 rfl rfl)
theorem dL_law_1146 : decode cL_law 1146 = .ok (.invokevirtual 133, 3) := dk_182 0 133 (dk_at dksL_law_44 18 rfl rfl)
theorem dL_law_1149 : decode cL_law 1149 = .ok (.if_icmp .eq 83, 3) := dk_159 0 83 (dk_at dksL_law_44 21 rfl rfl)
theorem dL_law_1152 : decode cL_law 1152 = .ok (.iconst 0, 1) := dk_3 (dk_at dksL_law_45 0 rfl rfl)
theorem dL_law_1153 : decode cL_law 1153 = .ok (.ireturn, 1) := dk_172 (dk_at dksL_law_45 1 rfl rfl)
theorem dL_law_1154 : decode cL_law 1154 = .ok (.aload_n 1, 1) := dk_43 (dk_at dksL_law_45 2 rfl rfl)
theorem dL_law_1155 : decode cL_law 1155 = .ok (.aload_n 0, 1) := dk_42 (dk_at dksL_law_45 3 rfl rfl)
theorem dL_law_1156 : decode cL_law 1156 = .ok (.iload 4, 2) := dk_21 4 (dk_at dksL_law_45 4 rfl rfl)
theorem dL_law_1158 : decode cL_law 1158 = .ok (.iconst 1, 1) := dk_4 (dk_at dksL_law_45 6 rfl rfl)
theorem dL_law_1159 : decode cL_law 1159 = .ok (.iadd, 1) := dk_96 (dk_at dksL_law_45 7 rfl rfl)
theorem dL_law_1160 : decode cL_law 1160 = .ok (.iaload, 1) := dk_46 (dk_at dksL_law_45 8 rfl rfl)
theorem dL_law_1161 : decode cL_law 1161 = .ok (.aload_n 0, 1) := dk_42 (dk_at dksL_law_45 9 rfl rfl)
theorem dL_law_1162 : decode cL_law 1162 = .ok (.iload 4, 2) := dk_21 4 (dk_at dksL_law_45 10 rfl rfl)
theorem dL_law_1164 : decode cL_law 1164 = .ok (.iconst 2, 1) := dk_5 (dk_at dksL_law_45 12 rfl rfl)
theorem dL_law_1165 : decode cL_law 1165 = .ok (.iadd, 1) := dk_96 (dk_at dksL_law_45 13 rfl rfl)
theorem dL_law_1166 : decode cL_law 1166 = .ok (.iaload, 1) := dk_46 (dk_at dksL_law_45 14 rfl rfl)
theorem dL_law_1167 : decode cL_law 1167 = .ok (.ifCond .eq 7, 3) := dk_153 0 7 (dk_at dksL_law_45 15 rfl rfl)
theorem dL_law_1170 : decode cL_law 1170 = .ok (.iconst 1, 1) := dk_4 (dk_at dksL_law_45 18 rfl rfl)
theorem dL_law_1171 : decode cL_law 1171 = .ok (.goto 4, 3) := dk_167 0 4 (dk_at dksL_law_45 19 rfl rfl)
theorem dL_law_1174 : decode cL_law 1174 = .ok (.iconst 0, 1) := dk_3 (dk_at dksL_law_45 22 rfl rfl)
theorem dL_law_1175 : decode cL_law 1175 = .ok (.invokevirtual 134, 3) := dk_182 0 134 (dk_at dksL_law_46 0 rfl rfl)
theorem dL_law_1178 : decode cL_law 1178 = .ok (.aload_n 2, 1) := dk_44 (dk_at dksL_law_46 3 rfl rfl)
theorem dL_law_1179 : decode cL_law 1179 = .ok (.aload_n 0, 1) := dk_42 (dk_at dksL_law_46 4 rfl rfl)
theorem dL_law_1180 : decode cL_law 1180 = .ok (.iload 4, 2) := dk_21 4 (dk_at dksL_law_46 5 rfl rfl)
theorem dL_law_1182 : decode cL_law 1182 = .ok (.iconst 1, 1) := dk_4 (dk_at dksL_law_46 7 rfl rfl)
theorem dL_law_1183 : decode cL_law 1183 = .ok (.iadd, 1) := dk_96 (dk_at dksL_law_46 8 rfl rfl)
theorem dL_law_1184 : decode cL_law 1184 = .ok (.iaload, 1) := dk_46 (dk_at dksL_law_46 9 rfl rfl)
theorem dL_law_1185 : decode cL_law 1185 = .ok (.aload_n 0, 1) := dk_42 (dk_at dksL_law_46 10 rfl rfl)
theorem dL_law_1186 : decode cL_law 1186 = .ok (.iload 4, 2) := dk_21 4 (dk_at dksL_law_46 11 rfl rfl)
theorem dL_law_1188 : decode cL_law 1188 = .ok (.iconst 2, 1) := dk_5 (dk_at dksL_law_46 13 rfl rfl)
theorem dL_law_1189 : decode cL_law 1189 = .ok (.iadd, 1) := dk_96 (dk_at dksL_law_46 14 rfl rfl)
theorem dL_law_1190 : decode cL_law 1190 = .ok (.iaload, 1) := dk_46 (dk_at dksL_law_46 15 rfl rfl)
theorem dL_law_1191 : decode cL_law 1191 = .ok (.ifCond .eq 7, 3) := dk_153 0 7 (dk_at dksL_law_46 16 rfl rfl)
theorem dL_law_1194 : decode cL_law 1194 = .ok (.iconst 1, 1) := dk_4 (dk_at dksL_law_46 19 rfl rfl)
theorem dL_law_1195 : decode cL_law 1195 = .ok (.goto 4, 3) := dk_167 0 4 (dk_at dksL_law_46 20 rfl rfl)
theorem dL_law_1198 : decode cL_law 1198 = .ok (.iconst 0, 1) := dk_3 (dk_at dksL_law_46 23 rfl rfl)
theorem dL_law_1199 : decode cL_law 1199 = .ok (.invokevirtual 137, 3) := dk_182 0 137 (dk_at dksL_law_47 0 rfl rfl)
theorem dL_law_1202 : decode cL_law 1202 = .ok (.if_icmp .eq 30, 3) := dk_159 0 30 (dk_at dksL_law_47 3 rfl rfl)
theorem dL_law_1205 : decode cL_law 1205 = .ok (.iconst 0, 1) := dk_3 (dk_at dksL_law_47 6 rfl rfl)
theorem dL_law_1206 : decode cL_law 1206 = .ok (.ireturn, 1) := dk_172 (dk_at dksL_law_47 7 rfl rfl)
theorem dL_law_1207 : decode cL_law 1207 = .ok (.aload_n 1, 1) := dk_43 (dk_at dksL_law_47 8 rfl rfl)
theorem dL_law_1208 : decode cL_law 1208 = .ok (.aload_n 0, 1) := dk_42 (dk_at dksL_law_47 9 rfl rfl)
theorem dL_law_1209 : decode cL_law 1209 = .ok (.iload 4, 2) := dk_21 4 (dk_at dksL_law_47 10 rfl rfl)
theorem dL_law_1211 : decode cL_law 1211 = .ok (.iconst 1, 1) := dk_4 (dk_at dksL_law_47 12 rfl rfl)
theorem dL_law_1212 : decode cL_law 1212 = .ok (.iadd, 1) := dk_96 (dk_at dksL_law_47 13 rfl rfl)
theorem dL_law_1213 : decode cL_law 1213 = .ok (.iaload, 1) := dk_46 (dk_at dksL_law_47 14 rfl rfl)
theorem dL_law_1214 : decode cL_law 1214 = .ok (.invokevirtual 138, 3) := dk_182 0 138 (dk_at dksL_law_47 15 rfl rfl)
theorem dL_law_1217 : decode cL_law 1217 = .ok (.aload_n 2, 1) := dk_44 (dk_at dksL_law_47 18 rfl rfl)
theorem dL_law_1218 : decode cL_law 1218 = .ok (.aload_n 0, 1) := dk_42 (dk_at dksL_law_47 19 rfl rfl)
theorem dL_law_1219 : decode cL_law 1219 = .ok (.iload 4, 2) := dk_21 4 (dk_at dksL_law_47 20 rfl rfl)
theorem dL_law_1221 : decode cL_law 1221 = .ok (.iconst 1, 1) := dk_4 (dk_at dksL_law_47 22 rfl rfl)
theorem dL_law_1222 : decode cL_law 1222 = .ok (.iadd, 1) := dk_96 (dk_at dksL_law_47 23 rfl rfl)
theorem dL_law_1223 : decode cL_law 1223 = .ok (.iaload, 1) := dk_46 (dk_at dksL_law_48 0 rfl rfl)
theorem dL_law_1224 : decode cL_law 1224 = .ok (.invokevirtual 141, 3) := dk_182 0 141 (dk_at dksL_law_48 1 rfl rfl)
theorem dL_law_1227 : decode cL_law 1227 = .ok (.if_icmp .eq 5, 3) := dk_159 0 5 (dk_at dksL_law_48 4 rfl rfl)
theorem dL_law_1230 : decode cL_law 1230 = .ok (.iconst 0, 1) := dk_3 (dk_at dksL_law_48 7 rfl rfl)
theorem dL_law_1231 : decode cL_law 1231 = .ok (.ireturn, 1) := dk_172 (dk_at dksL_law_48 8 rfl rfl)
theorem dL_law_1232 : decode cL_law 1232 = .ok (.iinc 4 7, 3) := dk_132 4 7 (dk_at dksL_law_48 9 rfl rfl)
theorem dL_law_1235 : decode cL_law 1235 = .ok (.goto (-1212), 3) := dk_167 251 68 (dk_at dksL_law_48 12 rfl rfl)
theorem dL_law_1238 : decode cL_law 1238 = .ok (.iconst 1, 1) := dk_4 (dk_at dksL_law_48 15 rfl rfl)
theorem dL_law_1239 : decode cL_law 1239 = .ok (.ireturn, 1) := dk_172 (dk_at dksL_law_48 16 rfl rfl)
/-! NameOrchardLaw -/
set_option maxRecDepth 100000
def RX0 : String := "NameOrchardLaw"
abbrev cX0_thief : ByteArray := method_3_code
def yX0_thief : MethodName := ⟨RX0, "thief", "(LNameOrchard;III[J)I"⟩
def dkwX0_thief_0 : List UInt8 := [25, 4, 3, 42, 27, 28, 29, 182, 0, 7, 133, 80, 167, 0, 7, 58, 5, 4, 172, 3, 172]
abbrev dktX0_thief_0 : List UInt8 := dkwX0_thief_0 ++ []
theorem dksX0_thief_0 : cX0_thief.data.toList.drop 0 = dktX0_thief_0 := by decide +kernel
theorem dX0_thief_0 : decode cX0_thief 0 = .ok (.aload 4, 2) := dk_25 4 (dk_at dksX0_thief_0 0 rfl rfl)
theorem dX0_thief_2 : decode cX0_thief 2 = .ok (.iconst 0, 1) := dk_3 (dk_at dksX0_thief_0 2 rfl rfl)
theorem dX0_thief_3 : decode cX0_thief 3 = .ok (.aload_n 0, 1) := dk_42 (dk_at dksX0_thief_0 3 rfl rfl)
theorem dX0_thief_4 : decode cX0_thief 4 = .ok (.iload_n 1, 1) := dk_27 (dk_at dksX0_thief_0 4 rfl rfl)
theorem dX0_thief_5 : decode cX0_thief 5 = .ok (.iload_n 2, 1) := dk_28 (dk_at dksX0_thief_0 5 rfl rfl)
theorem dX0_thief_6 : decode cX0_thief 6 = .ok (.iload_n 3, 1) := dk_29 (dk_at dksX0_thief_0 6 rfl rfl)
theorem dX0_thief_7 : decode cX0_thief 7 = .ok (.invokevirtual 7, 3) := dk_182 0 7 (dk_at dksX0_thief_0 7 rfl rfl)
theorem dX0_thief_10 : decode cX0_thief 10 = .ok (.i2l, 1) := dk_133 (dk_at dksX0_thief_0 10 rfl rfl)
theorem dX0_thief_11 : decode cX0_thief 11 = .ok (.lastore, 1) := dk_80 (dk_at dksX0_thief_0 11 rfl rfl)
theorem dX0_thief_12 : decode cX0_thief 12 = .ok (.goto 7, 3) := dk_167 0 7 (dk_at dksX0_thief_0 12 rfl rfl)
theorem dX0_thief_15 : decode cX0_thief 15 = .ok (.astore 5, 2) := dk_58 5 (dk_at dksX0_thief_0 15 rfl rfl)
theorem dX0_thief_17 : decode cX0_thief 17 = .ok (.iconst 1, 1) := dk_4 (dk_at dksX0_thief_0 17 rfl rfl)
theorem dX0_thief_18 : decode cX0_thief 18 = .ok (.ireturn, 1) := dk_172 (dk_at dksX0_thief_0 18 rfl rfl)
theorem dX0_thief_19 : decode cX0_thief 19 = .ok (.iconst 0, 1) := dk_3 (dk_at dksX0_thief_0 19 rfl rfl)
theorem dX0_thief_20 : decode cX0_thief 20 = .ok (.ireturn, 1) := dk_172 (dk_at dksX0_thief_0 20 rfl rfl)
theorem q123 : (Jvm.Cond.initialized "NameOrchardLaw") ∈ lw_all := lw_g (lw_at lw_m1 0 rfl) rfl
theorem q178 : (Jvm.Cond.classLink "NameOrchardLaw" (8 : Nat) "NameOrchard") ∈ lw_all := lw_g (lw_at lw_m1 55 rfl) rfl
theorem q180 : (Jvm.Cond.methodLink "NameOrchardLaw" (15 : Nat) ({ cls := "NameOrchard", name := "<init>", desc := "()V" } : Jvm.MethodName)) ∈ lw_all := lw_g (lw_at lw_m1 57 rfl) rfl
theorem q558 : (Jvm.Cond.methodLink "NameOrchardLaw" (21 : Nat) ({ cls := "NameOrchard", name := "feed", desc := "(JJJ)I" } : Jvm.MethodName)) ∈ lw_all := lw_g (lw_at lw_m2 195 rfl) rfl
theorem q570 : (Jvm.Cond.methodLink "NameOrchardLaw" (26 : Nat) ({ cls := "NameOrchard", name := "orchard", desc := "()I" } : Jvm.MethodName)) ∈ lw_all := lw_g (lw_at lw_m2 207 rfl) rfl
theorem q1251 : (Jvm.Cond.methodLink "NameOrchardLaw" (31 : Nat) ({ cls := "NameOrchard", name := "days", desc := "()I" } : Jvm.MethodName)) ∈ lw_all := lw_g (lw_at lw_m5 168 rfl) rfl
theorem q1306 : (Jvm.Cond.methodLink "NameOrchardLaw" (35 : Nat) ({ cls := "NameOrchard", name := "apple", desc := "(II)I" } : Jvm.MethodName)) ∈ lw_all := lw_g (lw_at lw_m5 223 rfl) rfl
theorem q1403 : (Jvm.Cond.methodLink "NameOrchardLaw" (40 : Nat) ({ cls := "NameOrchard", name := "near", desc := "(III)I" } : Jvm.MethodName)) ∈ lw_all := lw_g (lw_at lw_m6 80 rfl) rfl
theorem q1448 : (Jvm.Cond.methodLink "NameOrchardLaw" (44 : Nat) ({ cls := "NameOrchard", name := "says", desc := "(II)I" } : Jvm.MethodName)) ∈ lw_all := lw_g (lw_at lw_m6 125 rfl) rfl
theorem q1465 : (Jvm.Cond.methodLink "NameOrchardLaw" (48 : Nat) ({ cls := "NameOrchard", name := "falls", desc := "(II)I" } : Jvm.MethodName)) ∈ lw_all := lw_g (lw_at lw_m6 142 rfl) rfl
theorem q1531 : (Jvm.Cond.methodLink "NameOrchardLaw" (52 : Nat) ({ cls := "NameOrchard", name := "call", desc := "(II)I" } : Jvm.MethodName)) ∈ lw_all := lw_g (lw_at lw_m6 208 rfl) rfl
theorem q1556 : (Jvm.Cond.methodLink "NameOrchardLaw" (56 : Nat) ({ cls := "NameOrchard", name := "pick", desc := "(I)I" } : Jvm.MethodName)) ∈ lw_all := lw_g (lw_at lw_m6 233 rfl) rfl
theorem q1568 : (Jvm.Cond.methodLink "NameOrchardLaw" (61 : Nat) ({ cls := "NameOrchard", name := "christen", desc := "(II)Z" } : Jvm.MethodName)) ∈ lw_all := lw_g (lw_at lw_m7 5 rfl) rfl
theorem q1580 : (Jvm.Cond.methodLink "NameOrchardLaw" (66 : Nat) ({ cls := "NameOrchard", name := "pass", desc := "(I)I" } : Jvm.MethodName)) ∈ lw_all := lw_g (lw_at lw_m7 17 rfl) rfl
theorem q1588 : (Jvm.Cond.methodLink "NameOrchardLaw" (70 : Nat) ({ cls := "NameOrchard", name := "undo", desc := "()Z" } : Jvm.MethodName)) ∈ lw_all := lw_g (lw_at lw_m7 25 rfl) rfl
theorem q1596 : (Jvm.Cond.methodLink "NameOrchardLaw" (75 : Nat) ({ cls := "NameOrchard", name := "judged", desc := "(I)I" } : Jvm.MethodName)) ∈ lw_all := lw_g (lw_at lw_m7 33 rfl) rfl
theorem q1623 : (Jvm.Cond.methodLink "NameOrchardLaw" (79 : Nat) ({ cls := "NameOrchard", name := "crop", desc := "(II)I" } : Jvm.MethodName)) ∈ lw_all := lw_g (lw_at lw_m7 60 rfl) rfl
theorem q1667 : (Jvm.Cond.methodLink "NameOrchardLaw" (83 : Nat) ({ cls := "NameOrchard", name := "fetch", desc := "()I" } : Jvm.MethodName)) ∈ lw_all := lw_g (lw_at lw_m7 104 rfl) rfl
theorem q1682 : (Jvm.Cond.methodLink "NameOrchardLaw" (87 : Nat) ({ cls := "NameOrchard", name := "lies", desc := "(IZ)Z" } : Jvm.MethodName)) ∈ lw_all := lw_g (lw_at lw_m7 119 rfl) rfl
theorem q1686 : (Jvm.Cond.methodLink "NameOrchardLaw" (92 : Nat) ({ cls := "NameOrchard", name := "called", desc := "(I)I" } : Jvm.MethodName)) ∈ lw_all := lw_g (lw_at lw_m7 123 rfl) rfl
theorem q1702 : (Jvm.Cond.methodLink "NameOrchardLaw" (96 : Nat) ({ cls := "NameOrchard", name := "tell", desc := "(IIZ)Z" } : Jvm.MethodName)) ∈ lw_all := lw_g (lw_at lw_m7 139 rfl) rfl
theorem q1706 : (Jvm.Cond.methodLink "NameOrchardLaw" (101 : Nat) ({ cls := "NameOrchard", name := "laws", desc := "(I)I" } : Jvm.MethodName)) ∈ lw_all := lw_g (lw_at lw_m7 143 rfl) rfl
theorem q1715 : (Jvm.Cond.methodLink "NameOrchardLaw" (105 : Nat) ({ cls := "NameOrchard", name := "loss", desc := "(I)I" } : Jvm.MethodName)) ∈ lw_all := lw_g (lw_at lw_m7 152 rfl) rfl
theorem q1726 : (Jvm.Cond.methodLink "NameOrchardLaw" (109 : Nat) ({ cls := "NameOrchard", name := "best", desc := "(II)I" } : Jvm.MethodName)) ∈ lw_all := lw_g (lw_at lw_m7 163 rfl) rfl
theorem q1731 : (Jvm.Cond.methodLink "NameOrchardLaw" (122 : Nat) ({ cls := "NameOrchard", name := "hide", desc := "(II)I" } : Jvm.MethodName)) ∈ lw_all := lw_g (lw_at lw_m7 168 rfl) rfl
theorem q1748 : (Jvm.Cond.methodLink "NameOrchardLaw" (126 : Nat) ({ cls := "NameOrchard", name := "banns", desc := "(III)I" } : Jvm.MethodName)) ∈ lw_all := lw_g (lw_at lw_m7 185 rfl) rfl
theorem q1768 : (Jvm.Cond.methodLink "NameOrchardLaw" (130 : Nat) ({ cls := "NameOrchard", name := "years", desc := "(III)I" } : Jvm.MethodName)) ∈ lw_all := lw_g (lw_at lw_m7 205 rfl) rfl
theorem q1787 : (Jvm.Cond.methodLink "NameOrchardLaw" (134 : Nat) ({ cls := "NameOrchard", name := "mark", desc := "(IZ)Z" } : Jvm.MethodName)) ∈ lw_all := lw_g (lw_at lw_m7 224 rfl) rfl
theorem q1820 : (Jvm.Cond.methodLink "NameOrchardLaw" (138 : Nat) ({ cls := "NameOrchard", name := "count", desc := "(I)I" } : Jvm.MethodName)) ∈ lw_all := lw_g (lw_at lw_m8 17 rfl) rfl
theorem q1824 : (Jvm.Cond.methodLink "NameOrchardLaw" (113 : Nat) ({ cls := "NameOrchardLaw", name := "thief", desc := "(LNameOrchard;III[J)I" } : Jvm.MethodName)) ∈ lw_all := lw_g (lw_at lw_m8 21 rfl) rfl
theorem q1825 : (Jvm.Cond.static ({ cls := "NameOrchardLaw", name := "thief", desc := "(LNameOrchard;III[J)I" } : Jvm.MethodName)) ∈ lw_all := lw_g (lw_at lw_m8 22 rfl) rfl
theorem q1826 : (Jvm.Cond.codeWith ({ cls := "NameOrchardLaw", name := "thief", desc := "(LNameOrchard;III[J)I" } : Jvm.MethodName) method_3_code (6 : Nat) (Option.some Jvm.ClassFile.FieldType.int) [((0 : Nat), (12 : Nat), (15 : Nat), (13 : Nat))]) ∈ lw_all := lw_g (lw_at lw_m8 23 rfl) rfl
theorem q1827 : (Jvm.Cond.classLink "NameOrchardLaw" (13 : Nat) "java/util/NoSuchElementException") ∈ lw_all := lw_g (lw_at lw_m8 24 rfl) rfl
theorem q1828 : (Jvm.Cond.methodLink "NameOrchardLaw" (7 : Nat) ({ cls := "NameOrchard", name := "thief", desc := "(III)I" } : Jvm.MethodName)) ∈ lw_all := lw_g (lw_at lw_m8 25 rfl) rfl
theorem q1852 : (Jvm.Cond.classLink "NameOrchardLaw" (16 : Nat) "NameOrchardModel") ∈ lw_all := lw_g (lw_at lw_m8 49 rfl) rfl
theorem q1854 : (Jvm.Cond.methodLink "NameOrchardLaw" (18 : Nat) ({ cls := "NameOrchardModel", name := "<init>", desc := "()V" } : Jvm.MethodName)) ∈ lw_all := lw_g (lw_at lw_m8 51 rfl) rfl
theorem q2122 : (Jvm.Cond.methodLink "NameOrchardLaw" (119 : Nat) ({ cls := "NameOrchardModel", name := "thrown", desc := "()I" } : Jvm.MethodName)) ∈ lw_all := lw_g (lw_at lw_m9 79 rfl) rfl
theorem q2126 : (Jvm.Cond.methodLink "NameOrchardLaw" (25 : Nat) ({ cls := "NameOrchardModel", name := "feed", desc := "(JJJ)I" } : Jvm.MethodName)) ∈ lw_all := lw_g (lw_at lw_m9 83 rfl) rfl
theorem q2131 : (Jvm.Cond.methodLink "NameOrchardLaw" (30 : Nat) ({ cls := "NameOrchardModel", name := "orchard", desc := "()I" } : Jvm.MethodName)) ∈ lw_all := lw_g (lw_at lw_m9 88 rfl) rfl
theorem q2332 : (Jvm.Cond.methodLink "NameOrchardLaw" (34 : Nat) ({ cls := "NameOrchardModel", name := "days", desc := "()I" } : Jvm.MethodName)) ∈ lw_all := lw_g (lw_at lw_m10 49 rfl) rfl
theorem q2344 : (Jvm.Cond.methodLink "NameOrchardLaw" (39 : Nat) ({ cls := "NameOrchardModel", name := "apple", desc := "(II)I" } : Jvm.MethodName)) ∈ lw_all := lw_g (lw_at lw_m10 61 rfl) rfl
theorem q2359 : (Jvm.Cond.methodLink "NameOrchardLaw" (43 : Nat) ({ cls := "NameOrchardModel", name := "near", desc := "(III)I" } : Jvm.MethodName)) ∈ lw_all := lw_g (lw_at lw_m10 76 rfl) rfl
theorem q2367 : (Jvm.Cond.methodLink "NameOrchardLaw" (47 : Nat) ({ cls := "NameOrchardModel", name := "says", desc := "(II)I" } : Jvm.MethodName)) ∈ lw_all := lw_g (lw_at lw_m10 84 rfl) rfl
theorem q2379 : (Jvm.Cond.methodLink "NameOrchardLaw" (51 : Nat) ({ cls := "NameOrchardModel", name := "falls", desc := "(II)I" } : Jvm.MethodName)) ∈ lw_all := lw_g (lw_at lw_m10 96 rfl) rfl
theorem q2402 : (Jvm.Cond.methodLink "NameOrchardLaw" (55 : Nat) ({ cls := "NameOrchardModel", name := "call", desc := "(II)I" } : Jvm.MethodName)) ∈ lw_all := lw_g (lw_at lw_m10 119 rfl) rfl
theorem q2421 : (Jvm.Cond.methodLink "NameOrchardLaw" (60 : Nat) ({ cls := "NameOrchardModel", name := "pick", desc := "(I)I" } : Jvm.MethodName)) ∈ lw_all := lw_g (lw_at lw_m10 138 rfl) rfl
theorem q2437 : (Jvm.Cond.methodLink "NameOrchardLaw" (65 : Nat) ({ cls := "NameOrchardModel", name := "christen", desc := "(II)Z" } : Jvm.MethodName)) ∈ lw_all := lw_g (lw_at lw_m10 154 rfl) rfl
theorem q2445 : (Jvm.Cond.methodLink "NameOrchardLaw" (69 : Nat) ({ cls := "NameOrchardModel", name := "pass", desc := "(I)I" } : Jvm.MethodName)) ∈ lw_all := lw_g (lw_at lw_m10 162 rfl) rfl
theorem q2453 : (Jvm.Cond.methodLink "NameOrchardLaw" (74 : Nat) ({ cls := "NameOrchardModel", name := "undo", desc := "()Z" } : Jvm.MethodName)) ∈ lw_all := lw_g (lw_at lw_m10 170 rfl) rfl
theorem q2457 : (Jvm.Cond.methodLink "NameOrchardLaw" (78 : Nat) ({ cls := "NameOrchardModel", name := "judged", desc := "(I)I" } : Jvm.MethodName)) ∈ lw_all := lw_g (lw_at lw_m10 174 rfl) rfl
theorem q2469 : (Jvm.Cond.methodLink "NameOrchardLaw" (82 : Nat) ({ cls := "NameOrchardModel", name := "crop", desc := "(II)I" } : Jvm.MethodName)) ∈ lw_all := lw_g (lw_at lw_m10 186 rfl) rfl
theorem q2485 : (Jvm.Cond.methodLink "NameOrchardLaw" (86 : Nat) ({ cls := "NameOrchardModel", name := "fetch", desc := "()I" } : Jvm.MethodName)) ∈ lw_all := lw_g (lw_at lw_m10 202 rfl) rfl
theorem q2497 : (Jvm.Cond.methodLink "NameOrchardLaw" (91 : Nat) ({ cls := "NameOrchardModel", name := "lies", desc := "(IZ)Z" } : Jvm.MethodName)) ∈ lw_all := lw_g (lw_at lw_m10 214 rfl) rfl
theorem q2501 : (Jvm.Cond.methodLink "NameOrchardLaw" (95 : Nat) ({ cls := "NameOrchardModel", name := "called", desc := "(I)I" } : Jvm.MethodName)) ∈ lw_all := lw_g (lw_at lw_m10 218 rfl) rfl
theorem q2505 : (Jvm.Cond.methodLink "NameOrchardLaw" (100 : Nat) ({ cls := "NameOrchardModel", name := "tell", desc := "(IIZ)Z" } : Jvm.MethodName)) ∈ lw_all := lw_g (lw_at lw_m10 222 rfl) rfl
theorem q2509 : (Jvm.Cond.methodLink "NameOrchardLaw" (104 : Nat) ({ cls := "NameOrchardModel", name := "laws", desc := "(I)I" } : Jvm.MethodName)) ∈ lw_all := lw_g (lw_at lw_m10 226 rfl) rfl
theorem q2517 : (Jvm.Cond.methodLink "NameOrchardLaw" (108 : Nat) ({ cls := "NameOrchardModel", name := "loss", desc := "(I)I" } : Jvm.MethodName)) ∈ lw_all := lw_g (lw_at lw_m10 234 rfl) rfl
theorem q2527 : (Jvm.Cond.methodLink "NameOrchardLaw" (112 : Nat) ({ cls := "NameOrchardModel", name := "best", desc := "(II)I" } : Jvm.MethodName)) ∈ lw_all := lw_g (lw_at lw_m11 4 rfl) rfl
theorem q2531 : (Jvm.Cond.methodLink "NameOrchardLaw" (118 : Nat) ({ cls := "NameOrchardModel", name := "thief", desc := "(III)I" } : Jvm.MethodName)) ∈ lw_all := lw_g (lw_at lw_m11 8 rfl) rfl
theorem q2542 : (Jvm.Cond.methodLink "NameOrchardLaw" (125 : Nat) ({ cls := "NameOrchardModel", name := "hide", desc := "(II)I" } : Jvm.MethodName)) ∈ lw_all := lw_g (lw_at lw_m11 19 rfl) rfl
theorem q2547 : (Jvm.Cond.methodLink "NameOrchardLaw" (129 : Nat) ({ cls := "NameOrchardModel", name := "banns", desc := "(III)I" } : Jvm.MethodName)) ∈ lw_all := lw_g (lw_at lw_m11 24 rfl) rfl
theorem q2555 : (Jvm.Cond.methodLink "NameOrchardLaw" (133 : Nat) ({ cls := "NameOrchardModel", name := "years", desc := "(III)I" } : Jvm.MethodName)) ∈ lw_all := lw_g (lw_at lw_m11 32 rfl) rfl
theorem q2574 : (Jvm.Cond.methodLink "NameOrchardLaw" (137 : Nat) ({ cls := "NameOrchardModel", name := "mark", desc := "(IZ)Z" } : Jvm.MethodName)) ∈ lw_all := lw_g (lw_at lw_m11 51 rfl) rfl
theorem q2582 : (Jvm.Cond.methodLink "NameOrchardLaw" (141 : Nat) ({ cls := "NameOrchardModel", name := "count", desc := "(I)I" } : Jvm.MethodName)) ∈ lw_all := lw_g (lw_at lw_m11 59 rfl) rfl
theorem q2586 : (Jvm.Cond.constantLong "NameOrchardLaw" (19 : Nat) (4294967295 : Int64)) ∈ lw_all := lw_g (lw_at lw_m11 63 rfl) rfl
