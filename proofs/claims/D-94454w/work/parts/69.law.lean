set_option maxRecDepth 100000
def dkwL_law_49 : List UInt8 := [96, 46, 182, 0, 198, 159, 0, 5, 3, 172, 132, 4, 6, 167, 250, 239, 4, 172]
abbrev dktL_law_49 : List UInt8 := dkwL_law_49 ++ []
def dkwL_law_48 : List UInt8 := [46, 182, 0, 194, 159, 0, 30, 3, 172, 43, 42, 21, 4, 4, 96, 46, 182, 0, 195, 44, 42, 21, 4, 4]
abbrev dktL_law_48 : List UInt8 := dkwL_law_48 ++ dktL_law_49
def dkwL_law_47 : List UInt8 := [182, 0, 190, 159, 0, 55, 3, 172, 43, 42, 21, 4, 4, 96, 46, 182, 0, 191, 44, 42, 21, 4, 4, 96]
abbrev dktL_law_47 : List UInt8 := dkwL_law_47 ++ dktL_law_48
def dkwL_law_46 : List UInt8 := [159, 0, 80, 3, 172, 43, 42, 21, 4, 4, 96, 46, 182, 0, 187, 44, 42, 21, 4, 4, 96, 46]
abbrev dktL_law_46 : List UInt8 := dkwL_law_46 ++ dktL_law_47
def dkwL_law_45 : List UInt8 := [172, 43, 182, 0, 179, 44, 182, 0, 182, 159, 0, 93, 3, 172, 43, 182, 0, 183, 44, 182, 0, 186]
abbrev dktL_law_45 : List UInt8 := dkwL_law_45 ++ dktL_law_46
def dkwL_law_44 : List UInt8 := [182, 0, 171, 44, 182, 0, 174, 159, 0, 119, 3, 172, 43, 182, 0, 175, 44, 182, 0, 178, 159, 0, 106, 3]
abbrev dktL_law_44 : List UInt8 := dkwL_law_44 ++ dktL_law_45
def dkwL_law_43 : List UInt8 := [21, 4, 4, 96, 46, 182, 0, 167, 44, 42, 21, 4, 4, 96, 46, 182, 0, 170, 159, 0, 132, 3, 172, 43]
abbrev dktL_law_43 : List UInt8 := dkwL_law_43 ++ dktL_law_44
def dkwL_law_42 : List UInt8 := [182, 0, 162, 159, 0, 170, 3, 172, 43, 182, 0, 163, 44, 182, 0, 166, 159, 0, 157, 3, 172, 43, 42]
abbrev dktL_law_42 : List UInt8 := dkwL_law_42 ++ dktL_law_43
def dkwL_law_41 : List UInt8 := [159, 0, 195, 3, 172, 43, 42, 21, 4, 4, 96, 46, 182, 0, 159, 44, 42, 21, 4, 4, 96, 46]
abbrev dktL_law_41 : List UInt8 := dkwL_law_41 ++ dktL_law_42
def dkwL_law_40 : List UInt8 := [21, 4, 5, 96, 46, 182, 0, 155, 44, 42, 21, 4, 4, 96, 46, 42, 21, 4, 5, 96, 46, 182, 0, 158]
abbrev dktL_law_40 : List UInt8 := dkwL_law_40 ++ dktL_law_41
def dkwL_law_39 : List UInt8 := [3, 172, 43, 182, 0, 151, 44, 182, 0, 154, 159, 0, 232, 3, 172, 43, 42, 21, 4, 4, 96, 46, 42]
abbrev dktL_law_39 : List UInt8 := dkwL_law_39 ++ dktL_law_40
def dkwL_law_38 : List UInt8 := [172, 43, 42, 21, 4, 4, 96, 46, 182, 0, 147, 44, 42, 21, 4, 4, 96, 46, 182, 0, 150, 159, 0, 245]
abbrev dktL_law_38 : List UInt8 := dkwL_law_38 ++ dktL_law_39
def dkwL_law_37 : List UInt8 := [182, 0, 139, 44, 182, 0, 142, 159, 1, 27, 3, 172, 43, 182, 0, 143, 44, 182, 0, 146, 159, 1, 14, 3]
abbrev dktL_law_37 : List UInt8 := dkwL_law_37 ++ dktL_law_38
def dkwL_law_36 : List UInt8 := [46, 182, 0, 134, 159, 1, 53, 3, 172, 43, 182, 0, 135, 44, 182, 0, 138, 159, 1, 40, 3, 172, 43]
abbrev dktL_law_36 : List UInt8 := dkwL_law_36 ++ dktL_law_37
def dkwL_law_35 : List UInt8 := [182, 0, 130, 159, 1, 78, 3, 172, 43, 42, 21, 4, 4, 96, 46, 182, 0, 131, 44, 42, 21, 4, 4, 96]
abbrev dktL_law_35 : List UInt8 := dkwL_law_35 ++ dktL_law_36
def dkwL_law_34 : List UInt8 := [21, 4, 4, 96, 46, 42, 21, 4, 5, 96, 46, 182, 0, 126, 159, 1, 91, 3, 172, 43, 182, 0, 127, 44]
abbrev dktL_law_34 : List UInt8 := dkwL_law_34 ++ dktL_law_35
def dkwL_law_33 : List UInt8 := [159, 1, 128, 3, 172, 43, 42, 21, 4, 4, 96, 46, 42, 21, 4, 5, 96, 46, 182, 0, 123, 44, 42]
abbrev dktL_law_33 : List UInt8 := dkwL_law_33 ++ dktL_law_34
def dkwL_law_32 : List UInt8 := [5, 96, 46, 182, 0, 118, 44, 42, 21, 4, 4, 96, 46, 42, 21, 4, 5, 96, 46, 182, 0, 122]
abbrev dktL_law_32 : List UInt8 := dkwL_law_32 ++ dktL_law_33
def dkwL_law_31 : List UInt8 := [42, 21, 4, 4, 96, 46, 182, 0, 117, 159, 1, 165, 3, 172, 43, 42, 21, 4, 4, 96, 46, 42, 21, 4]
abbrev dktL_law_31 : List UInt8 := dkwL_law_31 ++ dktL_law_32
def dkwL_law_30 : List UInt8 := [43, 182, 0, 110, 44, 182, 0, 113, 159, 1, 190, 3, 172, 43, 42, 21, 4, 4, 96, 46, 182, 0, 114, 44]
abbrev dktL_law_30 : List UInt8 := dkwL_law_30 ++ dktL_law_31
def dkwL_law_29 : List UInt8 := [4, 96, 46, 182, 0, 105, 159, 1, 216, 3, 172, 43, 182, 0, 106, 44, 182, 0, 109, 159, 1, 203, 3, 172]
abbrev dktL_law_29 : List UInt8 := dkwL_law_29 ++ dktL_law_30
def dkwL_law_28 : List UInt8 := [96, 46, 182, 0, 101, 159, 1, 241, 3, 172, 43, 42, 21, 4, 4, 96, 46, 182, 0, 102, 44, 42, 21, 4]
abbrev dktL_law_28 : List UInt8 := dkwL_law_28 ++ dktL_law_29
def dkwL_law_27 : List UInt8 := [46, 182, 0, 97, 159, 2, 10, 3, 172, 43, 42, 21, 4, 4, 96, 46, 182, 0, 98, 44, 42, 21, 4, 4]
abbrev dktL_law_27 : List UInt8 := dkwL_law_27 ++ dktL_law_28
def dkwL_law_26 : List UInt8 := [6, 96, 46, 182, 0, 93, 44, 42, 21, 4, 4, 96, 46, 42, 21, 4, 5, 96, 46, 42, 21, 4, 6, 96]
abbrev dktL_law_26 : List UInt8 := dkwL_law_26 ++ dktL_law_27
def dkwL_law_25 : List UInt8 := [182, 0, 92, 159, 2, 59, 3, 172, 43, 42, 21, 4, 4, 96, 46, 42, 21, 4, 5, 96, 46, 42, 21, 4]
abbrev dktL_law_25 : List UInt8 := dkwL_law_25 ++ dktL_law_26
def dkwL_law_24 : List UInt8 := [182, 0, 85, 44, 42, 21, 4, 4, 96, 46, 182, 0, 88, 159, 2, 72, 3, 172, 43, 182, 0, 89, 44]
abbrev dktL_law_24 : List UInt8 := dkwL_law_24 ++ dktL_law_25
def dkwL_law_23 : List UInt8 := [3, 172, 43, 182, 0, 81, 44, 182, 0, 84, 159, 2, 97, 3, 172, 43, 42, 21, 4, 4, 96, 46]
abbrev dktL_law_23 : List UInt8 := dkwL_law_23 ++ dktL_law_24
def dkwL_law_22 : List UInt8 := [172, 43, 42, 21, 4, 4, 96, 46, 182, 0, 76, 44, 42, 21, 4, 4, 96, 46, 182, 0, 80, 159, 2, 110]
abbrev dktL_law_22 : List UInt8 := dkwL_law_22 ++ dktL_law_23
def dkwL_law_21 : List UInt8 := [182, 0, 68, 44, 182, 0, 71, 159, 2, 148, 3, 172, 43, 182, 0, 72, 44, 182, 0, 75, 159, 2, 135, 3]
abbrev dktL_law_21 : List UInt8 := dkwL_law_21 ++ dktL_law_22
def dkwL_law_20 : List UInt8 := [46, 42, 21, 4, 6, 96, 46, 42, 21, 4, 7, 96, 46, 182, 0, 67, 159, 2, 161, 3, 172, 43]
abbrev dktL_law_20 : List UInt8 := dkwL_law_20 ++ dktL_law_21
def dkwL_law_19 : List UInt8 := [6, 96, 46, 42, 21, 4, 7, 96, 46, 182, 0, 64, 44, 42, 21, 4, 4, 96, 46, 42, 21, 4, 5, 96]
abbrev dktL_law_19 : List UInt8 := dkwL_law_19 ++ dktL_law_20
def dkwL_law_18 : List UInt8 := [182, 0, 63, 159, 2, 222, 3, 172, 43, 42, 21, 4, 4, 96, 46, 42, 21, 4, 5, 96, 46, 42, 21, 4]
abbrev dktL_law_18 : List UInt8 := dkwL_law_18 ++ dktL_law_19
def dkwL_law_17 : List UInt8 := [96, 46, 42, 21, 4, 5, 96, 46, 182, 0, 60, 44, 42, 21, 4, 4, 96, 46, 42, 21, 4, 5, 96, 46]
abbrev dktL_law_17 : List UInt8 := dkwL_law_17 ++ dktL_law_18
def dkwL_law_16 : List UInt8 := [21, 4, 4, 96, 46, 42, 21, 4, 5, 96, 46, 182, 0, 59, 159, 3, 3, 3, 172, 43, 42, 21, 4, 4]
abbrev dktL_law_16 : List UInt8 := dkwL_law_16 ++ dktL_law_17
def dkwL_law_15 : List UInt8 := [159, 3, 40, 3, 172, 43, 42, 21, 4, 4, 96, 46, 42, 21, 4, 5, 96, 46, 182, 0, 56, 44, 42]
abbrev dktL_law_15 : List UInt8 := dkwL_law_15 ++ dktL_law_16
def dkwL_law_14 : List UInt8 := [4, 96, 46, 42, 21, 4, 5, 96, 46, 42, 21, 4, 6, 96, 46, 42, 21, 4, 7, 96, 46, 182, 0, 55]
abbrev dktL_law_14 : List UInt8 := dkwL_law_14 ++ dktL_law_15
def dkwL_law_13 : List UInt8 := [21, 4, 5, 96, 46, 42, 21, 4, 6, 96, 46, 42, 21, 4, 7, 96, 46, 182, 0, 51, 44, 42, 21, 4]
abbrev dktL_law_13 : List UInt8 := dkwL_law_13 ++ dktL_law_14
def dkwL_law_12 : List UInt8 := [45, 3, 47, 21, 6, 133, 148, 153, 0, 5, 3, 172, 167, 3, 99, 43, 42, 21, 4, 4, 96, 46, 42]
abbrev dktL_law_12 : List UInt8 := dkwL_law_12 ++ dktL_law_13
def dkwL_law_11 : List UInt8 := [5, 96, 46, 182, 0, 47, 54, 6, 44, 182, 0, 48, 21, 5, 159, 0, 5, 3, 172, 21, 5, 154, 0, 15]
abbrev dktL_law_11 : List UInt8 := dkwL_law_11 ++ dktL_law_12
def dkwL_law_10 : List UInt8 := [96, 46, 42, 21, 4, 5, 96, 46, 45, 184, 0, 42, 54, 5, 44, 42, 21, 4, 4, 96, 46, 42, 21, 4]
abbrev dktL_law_10 : List UInt8 := dkwL_law_10 ++ dktL_law_11
def dkwL_law_9 : List UInt8 := [21, 4, 4, 96, 46, 42, 21, 4, 5, 96, 46, 182, 0, 41, 159, 3, 169, 3, 172, 43, 42, 21, 4, 4]
abbrev dktL_law_9 : List UInt8 := dkwL_law_9 ++ dktL_law_10
def dkwL_law_8 : List UInt8 := [159, 3, 206, 3, 172, 43, 42, 21, 4, 4, 96, 46, 42, 21, 4, 5, 96, 46, 182, 0, 38, 44, 42]
abbrev dktL_law_8 : List UInt8 := dkwL_law_8 ++ dktL_law_9
def dkwL_law_7 : List UInt8 := [3, 172, 43, 182, 0, 29, 44, 182, 0, 33, 159, 3, 219, 3, 172, 43, 182, 0, 34, 44, 182, 0, 37]
abbrev dktL_law_7 : List UInt8 := dkwL_law_7 ++ dktL_law_8
def dkwL_law_6 : List UInt8 := [172, 43, 42, 21, 4, 4, 96, 46, 182, 0, 24, 44, 42, 21, 4, 4, 96, 46, 182, 0, 28, 159, 3, 232]
abbrev dktL_law_6 : List UInt8 := dkwL_law_6 ++ dktL_law_7
def dkwL_law_5 : List UInt8 := [21, 4, 6, 96, 46, 42, 21, 4, 7, 96, 46, 42, 21, 4, 8, 96, 46, 182, 0, 23, 159, 4, 1, 3]
abbrev dktL_law_5 : List UInt8 := dkwL_law_5 ++ dktL_law_6
def dkwL_law_4 : List UInt8 := [46, 42, 21, 4, 8, 96, 46, 182, 0, 19, 44, 42, 21, 4, 4, 96, 46, 42, 21, 4, 5, 96, 46, 42]
abbrev dktL_law_4 : List UInt8 := dkwL_law_4 ++ dktL_law_5
def dkwL_law_3 : List UInt8 := [43, 42, 21, 4, 4, 96, 46, 42, 21, 4, 5, 96, 46, 42, 21, 4, 6, 96, 46, 42, 21, 4, 7, 96]
abbrev dktL_law_3 : List UInt8 := dkwL_law_3 ++ dktL_law_4
def dkwL_law_2 : List UInt8 := [170, 0, 0, 0, 0, 0, 4, 253, 0, 0, 0, 0, 0, 0, 0, 41, 0, 0, 0, 184, 0, 0, 1, 1, 0, 0, 1, 26, 0, 0, 1, 39, 0, 0, 1, 52, 0, 0, 1, 89, 0, 0, 1, 157, 0, 0, 1, 218, 0, 0, 1, 255, 0, 0, 2, 36, 0, 0, 2, 97, 0, 0, 2, 110, 0, 0, 2, 123, 0, 0, 2, 148, 0, 0, 2, 161, 0, 0, 2, 186, 0, 0, 2, 199, 0, 0, 2, 248, 0, 0, 3, 17, 0, 0, 3, 42, 0, 0, 3, 55, 0, 0, 3, 68, 0, 0, 3, 93, 0, 0, 3, 130, 0, 0, 3, 167, 0, 0, 3, 180, 0, 0, 3, 205, 0, 0, 3, 218, 0, 0, 3, 231, 0, 0, 3, 244, 0, 0, 4, 13, 0, 0, 4, 26, 0, 0, 4, 63, 0, 0, 4, 88, 0, 0, 4, 101, 0, 0, 4, 126, 0, 0, 4, 139, 0, 0, 4, 152, 0, 0, 4, 165, 0, 0, 4, 178, 0, 0, 4, 203, 0, 0, 4, 228]
abbrev dktL_law_2 : List UInt8 := dkwL_law_2 ++ dktL_law_3
def dkwL_law_1 : List UInt8 := [21, 4, 42, 190, 16, 6, 100, 163, 5, 13, 42, 21, 4, 46, 16, 63, 126]
abbrev dktL_law_1 : List UInt8 := dkwL_law_1 ++ dktL_law_2
def dkwL_law_0 : List UInt8 := [187, 0, 8, 89, 183, 0, 15, 76, 187, 0, 16, 89, 183, 0, 18, 77, 4, 188, 11, 78, 3, 54, 4]
abbrev dktL_law_0 : List UInt8 := dkwL_law_0 ++ dktL_law_1
theorem dksL_law_0 : cL_law.data.toList.drop 0 = dktL_law_0 := by decide +kernel
theorem dksL_law_1 : cL_law.data.toList.drop 23 = dktL_law_1 := dk_seg dksL_law_0 23 rfl rfl
theorem dksL_law_2 : cL_law.data.toList.drop 40 = dktL_law_2 := dk_seg dksL_law_1 17 rfl rfl
theorem dksL_law_3 : cL_law.data.toList.drop 224 = dktL_law_3 := dk_seg dksL_law_2 184 rfl rfl
theorem dksL_law_4 : cL_law.data.toList.drop 248 = dktL_law_4 := dk_seg dksL_law_3 24 rfl rfl
theorem dksL_law_5 : cL_law.data.toList.drop 272 = dktL_law_5 := dk_seg dksL_law_4 24 rfl rfl
theorem dksL_law_6 : cL_law.data.toList.drop 296 = dktL_law_6 := dk_seg dksL_law_5 24 rfl rfl
theorem dksL_law_7 : cL_law.data.toList.drop 320 = dktL_law_7 := dk_seg dksL_law_6 24 rfl rfl
theorem dksL_law_8 : cL_law.data.toList.drop 343 = dktL_law_8 := dk_seg dksL_law_7 23 rfl rfl
theorem dksL_law_9 : cL_law.data.toList.drop 366 = dktL_law_9 := dk_seg dksL_law_8 23 rfl rfl
theorem dksL_law_10 : cL_law.data.toList.drop 390 = dktL_law_10 := dk_seg dksL_law_9 24 rfl rfl
theorem dksL_law_11 : cL_law.data.toList.drop 414 = dktL_law_11 := dk_seg dksL_law_10 24 rfl rfl
theorem dksL_law_12 : cL_law.data.toList.drop 438 = dktL_law_12 := dk_seg dksL_law_11 24 rfl rfl
theorem dksL_law_13 : cL_law.data.toList.drop 461 = dktL_law_13 := dk_seg dksL_law_12 23 rfl rfl
theorem dksL_law_14 : cL_law.data.toList.drop 485 = dktL_law_14 := dk_seg dksL_law_13 24 rfl rfl
theorem dksL_law_15 : cL_law.data.toList.drop 509 = dktL_law_15 := dk_seg dksL_law_14 24 rfl rfl
theorem dksL_law_16 : cL_law.data.toList.drop 532 = dktL_law_16 := dk_seg dksL_law_15 23 rfl rfl
theorem dksL_law_17 : cL_law.data.toList.drop 556 = dktL_law_17 := dk_seg dksL_law_16 24 rfl rfl
theorem dksL_law_18 : cL_law.data.toList.drop 580 = dktL_law_18 := dk_seg dksL_law_17 24 rfl rfl
theorem dksL_law_19 : cL_law.data.toList.drop 604 = dktL_law_19 := dk_seg dksL_law_18 24 rfl rfl
theorem dksL_law_20 : cL_law.data.toList.drop 628 = dktL_law_20 := dk_seg dksL_law_19 24 rfl rfl
theorem dksL_law_21 : cL_law.data.toList.drop 650 = dktL_law_21 := dk_seg dksL_law_20 22 rfl rfl
theorem dksL_law_22 : cL_law.data.toList.drop 674 = dktL_law_22 := dk_seg dksL_law_21 24 rfl rfl
theorem dksL_law_23 : cL_law.data.toList.drop 698 = dktL_law_23 := dk_seg dksL_law_22 24 rfl rfl
theorem dksL_law_24 : cL_law.data.toList.drop 720 = dktL_law_24 := dk_seg dksL_law_23 22 rfl rfl
theorem dksL_law_25 : cL_law.data.toList.drop 743 = dktL_law_25 := dk_seg dksL_law_24 23 rfl rfl
theorem dksL_law_26 : cL_law.data.toList.drop 767 = dktL_law_26 := dk_seg dksL_law_25 24 rfl rfl
theorem dksL_law_27 : cL_law.data.toList.drop 791 = dktL_law_27 := dk_seg dksL_law_26 24 rfl rfl
theorem dksL_law_28 : cL_law.data.toList.drop 815 = dktL_law_28 := dk_seg dksL_law_27 24 rfl rfl
theorem dksL_law_29 : cL_law.data.toList.drop 839 = dktL_law_29 := dk_seg dksL_law_28 24 rfl rfl
theorem dksL_law_30 : cL_law.data.toList.drop 863 = dktL_law_30 := dk_seg dksL_law_29 24 rfl rfl
theorem dksL_law_31 : cL_law.data.toList.drop 887 = dktL_law_31 := dk_seg dksL_law_30 24 rfl rfl
theorem dksL_law_32 : cL_law.data.toList.drop 911 = dktL_law_32 := dk_seg dksL_law_31 24 rfl rfl
theorem dksL_law_33 : cL_law.data.toList.drop 933 = dktL_law_33 := dk_seg dksL_law_32 22 rfl rfl
theorem dksL_law_34 : cL_law.data.toList.drop 956 = dktL_law_34 := dk_seg dksL_law_33 23 rfl rfl
theorem dksL_law_35 : cL_law.data.toList.drop 980 = dktL_law_35 := dk_seg dksL_law_34 24 rfl rfl
theorem dksL_law_36 : cL_law.data.toList.drop 1004 = dktL_law_36 := dk_seg dksL_law_35 24 rfl rfl
theorem dksL_law_37 : cL_law.data.toList.drop 1027 = dktL_law_37 := dk_seg dksL_law_36 23 rfl rfl
theorem dksL_law_38 : cL_law.data.toList.drop 1051 = dktL_law_38 := dk_seg dksL_law_37 24 rfl rfl
theorem dksL_law_39 : cL_law.data.toList.drop 1075 = dktL_law_39 := dk_seg dksL_law_38 24 rfl rfl
theorem dksL_law_40 : cL_law.data.toList.drop 1098 = dktL_law_40 := dk_seg dksL_law_39 23 rfl rfl
theorem dksL_law_41 : cL_law.data.toList.drop 1122 = dktL_law_41 := dk_seg dksL_law_40 24 rfl rfl
theorem dksL_law_42 : cL_law.data.toList.drop 1144 = dktL_law_42 := dk_seg dksL_law_41 22 rfl rfl
theorem dksL_law_43 : cL_law.data.toList.drop 1167 = dktL_law_43 := dk_seg dksL_law_42 23 rfl rfl
theorem dksL_law_44 : cL_law.data.toList.drop 1191 = dktL_law_44 := dk_seg dksL_law_43 24 rfl rfl
theorem dksL_law_45 : cL_law.data.toList.drop 1215 = dktL_law_45 := dk_seg dksL_law_44 24 rfl rfl
theorem dksL_law_46 : cL_law.data.toList.drop 1237 = dktL_law_46 := dk_seg dksL_law_45 22 rfl rfl
theorem dksL_law_47 : cL_law.data.toList.drop 1259 = dktL_law_47 := dk_seg dksL_law_46 22 rfl rfl
theorem dksL_law_48 : cL_law.data.toList.drop 1283 = dktL_law_48 := dk_seg dksL_law_47 24 rfl rfl
theorem dksL_law_49 : cL_law.data.toList.drop 1307 = dktL_law_49 := dk_seg dksL_law_48 24 rfl rfl
theorem dL_law_0 : decode cL_law 0 = .ok (.new 8, 3) := dk_187 0 8 (dk_at dksL_law_0 0 rfl rfl)
theorem dL_law_3 : decode cL_law 3 = .ok (.dup, 1) := dk_89 (dk_at dksL_law_0 3 rfl rfl)
theorem dL_law_4 : decode cL_law 4 = .ok (.invokespecial 15, 3) := dk_183 0 15 (dk_at dksL_law_0 4 rfl rfl)
theorem dL_law_7 : decode cL_law 7 = .ok (.astore_n 1, 1) := dk_76 (dk_at dksL_law_0 7 rfl rfl)
theorem dL_law_8 : decode cL_law 8 = .ok (.new 16, 3) := dk_187 0 16 (dk_at dksL_law_0 8 rfl rfl)
theorem dL_law_11 : decode cL_law 11 = .ok (.dup, 1) := dk_89 (dk_at dksL_law_0 11 rfl rfl)
theorem dL_law_12 : decode cL_law 12 = .ok (.invokespecial 18, 3) := dk_183 0 18 (dk_at dksL_law_0 12 rfl rfl)
theorem dL_law_15 : decode cL_law 15 = .ok (.astore_n 2, 1) := dk_77 (dk_at dksL_law_0 15 rfl rfl)
theorem dL_law_16 : decode cL_law 16 = .ok (.iconst 1, 1) := dk_4 (dk_at dksL_law_0 16 rfl rfl)
theorem dL_law_17 : decode cL_law 17 = .ok (.newarray .long, 2) := dk_188_11 (dk_at dksL_law_0 17 rfl rfl)
theorem dL_law_19 : decode cL_law 19 = .ok (.astore_n 3, 1) := dk_78 (dk_at dksL_law_0 19 rfl rfl)
theorem dL_law_20 : decode cL_law 20 = .ok (.iconst 0, 1) := dk_3 (dk_at dksL_law_0 20 rfl rfl)
theorem dL_law_21 : decode cL_law 21 = .ok (.istore 4, 2) := dk_54 4 (dk_at dksL_law_0 21 rfl rfl)
theorem dL_law_23 : decode cL_law 23 = .ok (.iload 4, 2) := dk_21 4 (dk_at dksL_law_1 0 rfl rfl)
theorem dL_law_25 : decode cL_law 25 = .ok (.aload_n 0, 1) := dk_42 (dk_at dksL_law_1 2 rfl rfl)
theorem dL_law_26 : decode cL_law 26 = .ok (.arraylength, 1) := dk_190 (dk_at dksL_law_1 3 rfl rfl)
theorem dL_law_27 : decode cL_law 27 = .ok (.bipush 6, 2) := dk_16 6 (dk_at dksL_law_1 4 rfl rfl)
theorem dL_law_29 : decode cL_law 29 = .ok (.isub, 1) := dk_100 (dk_at dksL_law_1 6 rfl rfl)
theorem dL_law_30 : decode cL_law 30 = .ok (.if_icmp .gt 1293, 3) := dk_163 5 13 (dk_at dksL_law_1 7 rfl rfl)
theorem dL_law_33 : decode cL_law 33 = .ok (.aload_n 0, 1) := dk_42 (dk_at dksL_law_1 10 rfl rfl)
theorem dL_law_34 : decode cL_law 34 = .ok (.iload 4, 2) := dk_21 4 (dk_at dksL_law_1 11 rfl rfl)
theorem dL_law_36 : decode cL_law 36 = .ok (.iaload, 1) := dk_46 (dk_at dksL_law_1 13 rfl rfl)
theorem dL_law_37 : decode cL_law 37 = .ok (.bipush 63, 2) := dk_16 63 (dk_at dksL_law_1 14 rfl rfl)
theorem dL_law_39 : decode cL_law 39 = .ok (.iand, 1) := dk_126 (dk_at dksL_law_1 16 rfl rfl)
theorem dL_law_40 : decode cL_law 40 = .ok (.tableswitch 1277 0 41 #[184, 257, 282, 295, 308, 345, 413, 474, 511, 548, 609, 622, 635, 660, 673, 698, 711, 760, 785, 810, 823, 836, 861, 898, 935, 948, 973, 986, 999, 1012, 1037, 1050, 1087, 1112, 1125, 1150, 1163, 1176, 1189, 1202, 1227, 1252], 184) := by decide +kernel
theorem dL_law_224 : decode cL_law 224 = .ok (.aload_n 1, 1) := dk_43 (dk_at dksL_law_3 0 rfl rfl)
theorem dL_law_225 : decode cL_law 225 = .ok (.aload_n 0, 1) := dk_42 (dk_at dksL_law_3 1 rfl rfl)
theorem dL_law_226 : decode cL_law 226 = .ok (.iload 4, 2) := dk_21 4 (dk_at dksL_law_3 2 rfl rfl)
theorem dL_law_228 : decode cL_law 228 = .ok (.iconst 1, 1) := dk_4 (dk_at dksL_law_3 4 rfl rfl)
theorem dL_law_229 : decode cL_law 229 = .ok (.iadd, 1) := dk_96 (dk_at dksL_law_3 5 rfl rfl)
theorem dL_law_230 : decode cL_law 230 = .ok (.iaload, 1) := dk_46 (dk_at dksL_law_3 6 rfl rfl)
theorem dL_law_231 : decode cL_law 231 = .ok (.aload_n 0, 1) := dk_42 (dk_at dksL_law_3 7 rfl rfl)
theorem dL_law_232 : decode cL_law 232 = .ok (.iload 4, 2) := dk_21 4 (dk_at dksL_law_3 8 rfl rfl)
theorem dL_law_234 : decode cL_law 234 = .ok (.iconst 2, 1) := dk_5 (dk_at dksL_law_3 10 rfl rfl)
theorem dL_law_235 : decode cL_law 235 = .ok (.iadd, 1) := dk_96 (dk_at dksL_law_3 11 rfl rfl)
theorem dL_law_236 : decode cL_law 236 = .ok (.iaload, 1) := dk_46 (dk_at dksL_law_3 12 rfl rfl)
theorem dL_law_237 : decode cL_law 237 = .ok (.aload_n 0, 1) := dk_42 (dk_at dksL_law_3 13 rfl rfl)
theorem dL_law_238 : decode cL_law 238 = .ok (.iload 4, 2) := dk_21 4 (dk_at dksL_law_3 14 rfl rfl)
theorem dL_law_240 : decode cL_law 240 = .ok (.iconst 3, 1) := dk_6 (dk_at dksL_law_3 16 rfl rfl)
theorem dL_law_241 : decode cL_law 241 = .ok (.iadd, 1) := dk_96 (dk_at dksL_law_3 17 rfl rfl)
theorem dL_law_242 : decode cL_law 242 = .ok (.iaload, 1) := dk_46 (dk_at dksL_law_3 18 rfl rfl)
theorem dL_law_243 : decode cL_law 243 = .ok (.aload_n 0, 1) := dk_42 (dk_at dksL_law_3 19 rfl rfl)
theorem dL_law_244 : decode cL_law 244 = .ok (.iload 4, 2) := dk_21 4 (dk_at dksL_law_3 20 rfl rfl)
theorem dL_law_246 : decode cL_law 246 = .ok (.iconst 4, 1) := dk_7 (dk_at dksL_law_3 22 rfl rfl)
theorem dL_law_247 : decode cL_law 247 = .ok (.iadd, 1) := dk_96 (dk_at dksL_law_3 23 rfl rfl)
theorem dL_law_248 : decode cL_law 248 = .ok (.iaload, 1) := dk_46 (dk_at dksL_law_4 0 rfl rfl)
theorem dL_law_249 : decode cL_law 249 = .ok (.aload_n 0, 1) := dk_42 (dk_at dksL_law_4 1 rfl rfl)
theorem dL_law_250 : decode cL_law 250 = .ok (.iload 4, 2) := dk_21 4 (dk_at dksL_law_4 2 rfl rfl)
theorem dL_law_252 : decode cL_law 252 = .ok (.iconst 5, 1) := dk_8 (dk_at dksL_law_4 4 rfl rfl)
theorem dL_law_253 : decode cL_law 253 = .ok (.iadd, 1) := dk_96 (dk_at dksL_law_4 5 rfl rfl)
theorem dL_law_254 : decode cL_law 254 = .ok (.iaload, 1) := dk_46 (dk_at dksL_law_4 6 rfl rfl)
theorem dL_law_255 : decode cL_law 255 = .ok (.invokevirtual 19, 3) := dk_182 0 19 (dk_at dksL_law_4 7 rfl rfl)
theorem dL_law_258 : decode cL_law 258 = .ok (.aload_n 2, 1) := dk_44 (dk_at dksL_law_4 10 rfl rfl)
theorem dL_law_259 : decode cL_law 259 = .ok (.aload_n 0, 1) := dk_42 (dk_at dksL_law_4 11 rfl rfl)
theorem dL_law_260 : decode cL_law 260 = .ok (.iload 4, 2) := dk_21 4 (dk_at dksL_law_4 12 rfl rfl)
theorem dL_law_262 : decode cL_law 262 = .ok (.iconst 1, 1) := dk_4 (dk_at dksL_law_4 14 rfl rfl)
theorem dL_law_263 : decode cL_law 263 = .ok (.iadd, 1) := dk_96 (dk_at dksL_law_4 15 rfl rfl)
theorem dL_law_264 : decode cL_law 264 = .ok (.iaload, 1) := dk_46 (dk_at dksL_law_4 16 rfl rfl)
theorem dL_law_265 : decode cL_law 265 = .ok (.aload_n 0, 1) := dk_42 (dk_at dksL_law_4 17 rfl rfl)
theorem dL_law_266 : decode cL_law 266 = .ok (.iload 4, 2) := dk_21 4 (dk_at dksL_law_4 18 rfl rfl)
theorem dL_law_268 : decode cL_law 268 = .ok (.iconst 2, 1) := dk_5 (dk_at dksL_law_4 20 rfl rfl)
theorem dL_law_269 : decode cL_law 269 = .ok (.iadd, 1) := dk_96 (dk_at dksL_law_4 21 rfl rfl)
theorem dL_law_270 : decode cL_law 270 = .ok (.iaload, 1) := dk_46 (dk_at dksL_law_4 22 rfl rfl)
theorem dL_law_271 : decode cL_law 271 = .ok (.aload_n 0, 1) := dk_42 (dk_at dksL_law_4 23 rfl rfl)
theorem dL_law_272 : decode cL_law 272 = .ok (.iload 4, 2) := dk_21 4 (dk_at dksL_law_5 0 rfl rfl)
theorem dL_law_274 : decode cL_law 274 = .ok (.iconst 3, 1) := dk_6 (dk_at dksL_law_5 2 rfl rfl)
theorem dL_law_275 : decode cL_law 275 = .ok (.iadd, 1) := dk_96 (dk_at dksL_law_5 3 rfl rfl)
theorem dL_law_276 : decode cL_law 276 = .ok (.iaload, 1) := dk_46 (dk_at dksL_law_5 4 rfl rfl)
theorem dL_law_277 : decode cL_law 277 = .ok (.aload_n 0, 1) := dk_42 (dk_at dksL_law_5 5 rfl rfl)
theorem dL_law_278 : decode cL_law 278 = .ok (.iload 4, 2) := dk_21 4 (dk_at dksL_law_5 6 rfl rfl)
theorem dL_law_280 : decode cL_law 280 = .ok (.iconst 4, 1) := dk_7 (dk_at dksL_law_5 8 rfl rfl)
theorem dL_law_281 : decode cL_law 281 = .ok (.iadd, 1) := dk_96 (dk_at dksL_law_5 9 rfl rfl)
theorem dL_law_282 : decode cL_law 282 = .ok (.iaload, 1) := dk_46 (dk_at dksL_law_5 10 rfl rfl)
theorem dL_law_283 : decode cL_law 283 = .ok (.aload_n 0, 1) := dk_42 (dk_at dksL_law_5 11 rfl rfl)
theorem dL_law_284 : decode cL_law 284 = .ok (.iload 4, 2) := dk_21 4 (dk_at dksL_law_5 12 rfl rfl)
theorem dL_law_286 : decode cL_law 286 = .ok (.iconst 5, 1) := dk_8 (dk_at dksL_law_5 14 rfl rfl)
theorem dL_law_287 : decode cL_law 287 = .ok (.iadd, 1) := dk_96 (dk_at dksL_law_5 15 rfl rfl)
theorem dL_law_288 : decode cL_law 288 = .ok (.iaload, 1) := dk_46 (dk_at dksL_law_5 16 rfl rfl)
theorem dL_law_289 : decode cL_law 289 = .ok (.invokevirtual 23, 3) := dk_182 0 23 (dk_at dksL_law_5 17 rfl rfl)
theorem dL_law_292 : decode cL_law 292 = .ok (.if_icmp .eq 1025, 3) := dk_159 4 1 (dk_at dksL_law_5 20 rfl rfl)
theorem dL_law_295 : decode cL_law 295 = .ok (.iconst 0, 1) := dk_3 (dk_at dksL_law_5 23 rfl rfl)
theorem dL_law_296 : decode cL_law 296 = .ok (.ireturn, 1) := dk_172 (dk_at dksL_law_6 0 rfl rfl)
theorem dL_law_297 : decode cL_law 297 = .ok (.aload_n 1, 1) := dk_43 (dk_at dksL_law_6 1 rfl rfl)
theorem dL_law_298 : decode cL_law 298 = .ok (.aload_n 0, 1) := dk_42 (dk_at dksL_law_6 2 rfl rfl)
theorem dL_law_299 : decode cL_law 299 = .ok (.iload 4, 2) := dk_21 4 (dk_at dksL_law_6 3 rfl rfl)
theorem dL_law_301 : decode cL_law 301 = .ok (.iconst 1, 1) := dk_4 (dk_at dksL_law_6 5 rfl rfl)
theorem dL_law_302 : decode cL_law 302 = .ok (.iadd, 1) := dk_96 (dk_at dksL_law_6 6 rfl rfl)
theorem dL_law_303 : decode cL_law 303 = .ok (.iaload, 1) := dk_46 (dk_at dksL_law_6 7 rfl rfl)
theorem dL_law_304 : decode cL_law 304 = .ok (.invokevirtual 24, 3) := dk_182 0 24 (dk_at dksL_law_6 8 rfl rfl)
theorem dL_law_307 : decode cL_law 307 = .ok (.aload_n 2, 1) := dk_44 (dk_at dksL_law_6 11 rfl rfl)
theorem dL_law_308 : decode cL_law 308 = .ok (.aload_n 0, 1) := dk_42 (dk_at dksL_law_6 12 rfl rfl)
theorem dL_law_309 : decode cL_law 309 = .ok (.iload 4, 2) := dk_21 4 (dk_at dksL_law_6 13 rfl rfl)
theorem dL_law_311 : decode cL_law 311 = .ok (.iconst 1, 1) := dk_4 (dk_at dksL_law_6 15 rfl rfl)
theorem dL_law_312 : decode cL_law 312 = .ok (.iadd, 1) := dk_96 (dk_at dksL_law_6 16 rfl rfl)
theorem dL_law_313 : decode cL_law 313 = .ok (.iaload, 1) := dk_46 (dk_at dksL_law_6 17 rfl rfl)
theorem dL_law_314 : decode cL_law 314 = .ok (.invokevirtual 28, 3) := dk_182 0 28 (dk_at dksL_law_6 18 rfl rfl)
theorem dL_law_317 : decode cL_law 317 = .ok (.if_icmp .eq 1000, 3) := dk_159 3 232 (dk_at dksL_law_6 21 rfl rfl)
theorem dL_law_320 : decode cL_law 320 = .ok (.iconst 0, 1) := dk_3 (dk_at dksL_law_7 0 rfl rfl)
theorem dL_law_321 : decode cL_law 321 = .ok (.ireturn, 1) := dk_172 (dk_at dksL_law_7 1 rfl rfl)
theorem dL_law_322 : decode cL_law 322 = .ok (.aload_n 1, 1) := dk_43 (dk_at dksL_law_7 2 rfl rfl)
theorem dL_law_323 : decode cL_law 323 = .ok (.invokevirtual 29, 3) := dk_182 0 29 (dk_at dksL_law_7 3 rfl rfl)
theorem dL_law_326 : decode cL_law 326 = .ok (.aload_n 2, 1) := dk_44 (dk_at dksL_law_7 6 rfl rfl)
theorem dL_law_327 : decode cL_law 327 = .ok (.invokevirtual 33, 3) := dk_182 0 33 (dk_at dksL_law_7 7 rfl rfl)
theorem dL_law_330 : decode cL_law 330 = .ok (.if_icmp .eq 987, 3) := dk_159 3 219 (dk_at dksL_law_7 10 rfl rfl)
theorem dL_law_333 : decode cL_law 333 = .ok (.iconst 0, 1) := dk_3 (dk_at dksL_law_7 13 rfl rfl)
theorem dL_law_334 : decode cL_law 334 = .ok (.ireturn, 1) := dk_172 (dk_at dksL_law_7 14 rfl rfl)
theorem dL_law_335 : decode cL_law 335 = .ok (.aload_n 1, 1) := dk_43 (dk_at dksL_law_7 15 rfl rfl)
theorem dL_law_336 : decode cL_law 336 = .ok (.invokevirtual 34, 3) := dk_182 0 34 (dk_at dksL_law_7 16 rfl rfl)
theorem dL_law_339 : decode cL_law 339 = .ok (.aload_n 2, 1) := dk_44 (dk_at dksL_law_7 19 rfl rfl)
theorem dL_law_340 : decode cL_law 340 = .ok (.invokevirtual 37, 3) := dk_182 0 37 (dk_at dksL_law_7 20 rfl rfl)
theorem dL_law_343 : decode cL_law 343 = .ok (.if_icmp .eq 974, 3) := dk_159 3 206 (dk_at dksL_law_8 0 rfl rfl)
theorem dL_law_346 : decode cL_law 346 = .ok (.iconst 0, 1) := dk_3 (dk_at dksL_law_8 3 rfl rfl)
theorem dL_law_347 : decode cL_law 347 = .ok (.ireturn, 1) := dk_172 (dk_at dksL_law_8 4 rfl rfl)
theorem dL_law_348 : decode cL_law 348 = .ok (.aload_n 1, 1) := dk_43 (dk_at dksL_law_8 5 rfl rfl)
theorem dL_law_349 : decode cL_law 349 = .ok (.aload_n 0, 1) := dk_42 (dk_at dksL_law_8 6 rfl rfl)
theorem dL_law_350 : decode cL_law 350 = .ok (.iload 4, 2) := dk_21 4 (dk_at dksL_law_8 7 rfl rfl)
theorem dL_law_352 : decode cL_law 352 = .ok (.iconst 1, 1) := dk_4 (dk_at dksL_law_8 9 rfl rfl)
theorem dL_law_353 : decode cL_law 353 = .ok (.iadd, 1) := dk_96 (dk_at dksL_law_8 10 rfl rfl)
theorem dL_law_354 : decode cL_law 354 = .ok (.iaload, 1) := dk_46 (dk_at dksL_law_8 11 rfl rfl)
theorem dL_law_355 : decode cL_law 355 = .ok (.aload_n 0, 1) := dk_42 (dk_at dksL_law_8 12 rfl rfl)
theorem dL_law_356 : decode cL_law 356 = .ok (.iload 4, 2) := dk_21 4 (dk_at dksL_law_8 13 rfl rfl)
theorem dL_law_358 : decode cL_law 358 = .ok (.iconst 2, 1) := dk_5 (dk_at dksL_law_8 15 rfl rfl)
theorem dL_law_359 : decode cL_law 359 = .ok (.iadd, 1) := dk_96 (dk_at dksL_law_8 16 rfl rfl)
theorem dL_law_360 : decode cL_law 360 = .ok (.iaload, 1) := dk_46 (dk_at dksL_law_8 17 rfl rfl)
theorem dL_law_361 : decode cL_law 361 = .ok (.invokevirtual 38, 3) := dk_182 0 38 (dk_at dksL_law_8 18 rfl rfl)
theorem dL_law_364 : decode cL_law 364 = .ok (.aload_n 2, 1) := dk_44 (dk_at dksL_law_8 21 rfl rfl)
theorem dL_law_365 : decode cL_law 365 = .ok (.aload_n 0, 1) := dk_42 (dk_at dksL_law_8 22 rfl rfl)
theorem dL_law_366 : decode cL_law 366 = .ok (.iload 4, 2) := dk_21 4 (dk_at dksL_law_9 0 rfl rfl)
theorem dL_law_368 : decode cL_law 368 = .ok (.iconst 1, 1) := dk_4 (dk_at dksL_law_9 2 rfl rfl)
theorem dL_law_369 : decode cL_law 369 = .ok (.iadd, 1) := dk_96 (dk_at dksL_law_9 3 rfl rfl)
theorem dL_law_370 : decode cL_law 370 = .ok (.iaload, 1) := dk_46 (dk_at dksL_law_9 4 rfl rfl)
theorem dL_law_371 : decode cL_law 371 = .ok (.aload_n 0, 1) := dk_42 (dk_at dksL_law_9 5 rfl rfl)
theorem dL_law_372 : decode cL_law 372 = .ok (.iload 4, 2) := dk_21 4 (dk_at dksL_law_9 6 rfl rfl)
theorem dL_law_374 : decode cL_law 374 = .ok (.iconst 2, 1) := dk_5 (dk_at dksL_law_9 8 rfl rfl)
theorem dL_law_375 : decode cL_law 375 = .ok (.iadd, 1) := dk_96 (dk_at dksL_law_9 9 rfl rfl)
theorem dL_law_376 : decode cL_law 376 = .ok (.iaload, 1) := dk_46 (dk_at dksL_law_9 10 rfl rfl)
theorem dL_law_377 : decode cL_law 377 = .ok (.invokevirtual 41, 3) := dk_182 0 41 (dk_at dksL_law_9 11 rfl rfl)
theorem dL_law_380 : decode cL_law 380 = .ok (.if_icmp .eq 937, 3) := dk_159 3 169 (dk_at dksL_law_9 14 rfl rfl)
theorem dL_law_383 : decode cL_law 383 = .ok (.iconst 0, 1) := dk_3 (dk_at dksL_law_9 17 rfl rfl)
theorem dL_law_384 : decode cL_law 384 = .ok (.ireturn, 1) := dk_172 (dk_at dksL_law_9 18 rfl rfl)
theorem dL_law_385 : decode cL_law 385 = .ok (.aload_n 1, 1) := dk_43 (dk_at dksL_law_9 19 rfl rfl)
theorem dL_law_386 : decode cL_law 386 = .ok (.aload_n 0, 1) := dk_42 (dk_at dksL_law_9 20 rfl rfl)
theorem dL_law_387 : decode cL_law 387 = .ok (.iload 4, 2) := dk_21 4 (dk_at dksL_law_9 21 rfl rfl)
theorem dL_law_389 : decode cL_law 389 = .ok (.iconst 1, 1) := dk_4 (dk_at dksL_law_9 23 rfl rfl)
theorem dL_law_390 : decode cL_law 390 = .ok (.iadd, 1) := dk_96 (dk_at dksL_law_10 0 rfl rfl)
theorem dL_law_391 : decode cL_law 391 = .ok (.iaload, 1) := dk_46 (dk_at dksL_law_10 1 rfl rfl)
theorem dL_law_392 : decode cL_law 392 = .ok (.aload_n 0, 1) := dk_42 (dk_at dksL_law_10 2 rfl rfl)
theorem dL_law_393 : decode cL_law 393 = .ok (.iload 4, 2) := dk_21 4 (dk_at dksL_law_10 3 rfl rfl)
theorem dL_law_395 : decode cL_law 395 = .ok (.iconst 2, 1) := dk_5 (dk_at dksL_law_10 5 rfl rfl)
theorem dL_law_396 : decode cL_law 396 = .ok (.iadd, 1) := dk_96 (dk_at dksL_law_10 6 rfl rfl)
theorem dL_law_397 : decode cL_law 397 = .ok (.iaload, 1) := dk_46 (dk_at dksL_law_10 7 rfl rfl)
theorem dL_law_398 : decode cL_law 398 = .ok (.aload_n 3, 1) := dk_45 (dk_at dksL_law_10 8 rfl rfl)
theorem dL_law_399 : decode cL_law 399 = .ok (.invokestatic 42, 3) := dk_184 0 42 (dk_at dksL_law_10 9 rfl rfl)
theorem dL_law_402 : decode cL_law 402 = .ok (.istore 5, 2) := dk_54 5 (dk_at dksL_law_10 12 rfl rfl)
theorem dL_law_404 : decode cL_law 404 = .ok (.aload_n 2, 1) := dk_44 (dk_at dksL_law_10 14 rfl rfl)
theorem dL_law_405 : decode cL_law 405 = .ok (.aload_n 0, 1) := dk_42 (dk_at dksL_law_10 15 rfl rfl)
theorem dL_law_406 : decode cL_law 406 = .ok (.iload 4, 2) := dk_21 4 (dk_at dksL_law_10 16 rfl rfl)
theorem dL_law_408 : decode cL_law 408 = .ok (.iconst 1, 1) := dk_4 (dk_at dksL_law_10 18 rfl rfl)
theorem dL_law_409 : decode cL_law 409 = .ok (.iadd, 1) := dk_96 (dk_at dksL_law_10 19 rfl rfl)
theorem dL_law_410 : decode cL_law 410 = .ok (.iaload, 1) := dk_46 (dk_at dksL_law_10 20 rfl rfl)
theorem dL_law_411 : decode cL_law 411 = .ok (.aload_n 0, 1) := dk_42 (dk_at dksL_law_10 21 rfl rfl)
theorem dL_law_412 : decode cL_law 412 = .ok (.iload 4, 2) := dk_21 4 (dk_at dksL_law_10 22 rfl rfl)
theorem dL_law_414 : decode cL_law 414 = .ok (.iconst 2, 1) := dk_5 (dk_at dksL_law_11 0 rfl rfl)
theorem dL_law_415 : decode cL_law 415 = .ok (.iadd, 1) := dk_96 (dk_at dksL_law_11 1 rfl rfl)
theorem dL_law_416 : decode cL_law 416 = .ok (.iaload, 1) := dk_46 (dk_at dksL_law_11 2 rfl rfl)
theorem dL_law_417 : decode cL_law 417 = .ok (.invokevirtual 47, 3) := dk_182 0 47 (dk_at dksL_law_11 3 rfl rfl)
theorem dL_law_420 : decode cL_law 420 = .ok (.istore 6, 2) := dk_54 6 (dk_at dksL_law_11 6 rfl rfl)
theorem dL_law_422 : decode cL_law 422 = .ok (.aload_n 2, 1) := dk_44 (dk_at dksL_law_11 8 rfl rfl)
theorem dL_law_423 : decode cL_law 423 = .ok (.invokevirtual 48, 3) := dk_182 0 48 (dk_at dksL_law_11 9 rfl rfl)
theorem dL_law_426 : decode cL_law 426 = .ok (.iload 5, 2) := dk_21 5 (dk_at dksL_law_11 12 rfl rfl)
theorem dL_law_428 : decode cL_law 428 = .ok (.if_icmp .eq 5, 3) := dk_159 0 5 (dk_at dksL_law_11 14 rfl rfl)
theorem dL_law_431 : decode cL_law 431 = .ok (.iconst 0, 1) := dk_3 (dk_at dksL_law_11 17 rfl rfl)
theorem dL_law_432 : decode cL_law 432 = .ok (.ireturn, 1) := dk_172 (dk_at dksL_law_11 18 rfl rfl)
theorem dL_law_433 : decode cL_law 433 = .ok (.iload 5, 2) := dk_21 5 (dk_at dksL_law_11 19 rfl rfl)
theorem dL_law_435 : decode cL_law 435 = .ok (.ifCond .ne 15, 3) := dk_154 0 15 (dk_at dksL_law_11 21 rfl rfl)
theorem dL_law_438 : decode cL_law 438 = .ok (.aload_n 3, 1) := dk_45 (dk_at dksL_law_12 0 rfl rfl)
theorem dL_law_439 : decode cL_law 439 = .ok (.iconst 0, 1) := dk_3 (dk_at dksL_law_12 1 rfl rfl)
theorem dL_law_440 : decode cL_law 440 = .ok (.laload, 1) := dk_47 (dk_at dksL_law_12 2 rfl rfl)
theorem dL_law_441 : decode cL_law 441 = .ok (.iload 6, 2) := dk_21 6 (dk_at dksL_law_12 3 rfl rfl)
theorem dL_law_443 : decode cL_law 443 = .ok (.i2l, 1) := dk_133 (dk_at dksL_law_12 5 rfl rfl)
theorem dL_law_444 : decode cL_law 444 = .ok (.lcmp, 1) := dk_148 (dk_at dksL_law_12 6 rfl rfl)
theorem dL_law_445 : decode cL_law 445 = .ok (.ifCond .eq 5, 3) := dk_153 0 5 (dk_at dksL_law_12 7 rfl rfl)
theorem dL_law_448 : decode cL_law 448 = .ok (.iconst 0, 1) := dk_3 (dk_at dksL_law_12 10 rfl rfl)
theorem dL_law_449 : decode cL_law 449 = .ok (.ireturn, 1) := dk_172 (dk_at dksL_law_12 11 rfl rfl)
theorem dL_law_450 : decode cL_law 450 = .ok (.goto 867, 3) := dk_167 3 99 (dk_at dksL_law_12 12 rfl rfl)
theorem dL_law_453 : decode cL_law 453 = .ok (.aload_n 1, 1) := dk_43 (dk_at dksL_law_12 15 rfl rfl)
theorem dL_law_454 : decode cL_law 454 = .ok (.aload_n 0, 1) := dk_42 (dk_at dksL_law_12 16 rfl rfl)
theorem dL_law_455 : decode cL_law 455 = .ok (.iload 4, 2) := dk_21 4 (dk_at dksL_law_12 17 rfl rfl)
theorem dL_law_457 : decode cL_law 457 = .ok (.iconst 1, 1) := dk_4 (dk_at dksL_law_12 19 rfl rfl)
theorem dL_law_458 : decode cL_law 458 = .ok (.iadd, 1) := dk_96 (dk_at dksL_law_12 20 rfl rfl)
theorem dL_law_459 : decode cL_law 459 = .ok (.iaload, 1) := dk_46 (dk_at dksL_law_12 21 rfl rfl)
theorem dL_law_460 : decode cL_law 460 = .ok (.aload_n 0, 1) := dk_42 (dk_at dksL_law_12 22 rfl rfl)
theorem dL_law_461 : decode cL_law 461 = .ok (.iload 4, 2) := dk_21 4 (dk_at dksL_law_13 0 rfl rfl)
theorem dL_law_463 : decode cL_law 463 = .ok (.iconst 2, 1) := dk_5 (dk_at dksL_law_13 2 rfl rfl)
theorem dL_law_464 : decode cL_law 464 = .ok (.iadd, 1) := dk_96 (dk_at dksL_law_13 3 rfl rfl)
theorem dL_law_465 : decode cL_law 465 = .ok (.iaload, 1) := dk_46 (dk_at dksL_law_13 4 rfl rfl)
theorem dL_law_466 : decode cL_law 466 = .ok (.aload_n 0, 1) := dk_42 (dk_at dksL_law_13 5 rfl rfl)
theorem dL_law_467 : decode cL_law 467 = .ok (.iload 4, 2) := dk_21 4 (dk_at dksL_law_13 6 rfl rfl)
theorem dL_law_469 : decode cL_law 469 = .ok (.iconst 3, 1) := dk_6 (dk_at dksL_law_13 8 rfl rfl)
theorem dL_law_470 : decode cL_law 470 = .ok (.iadd, 1) := dk_96 (dk_at dksL_law_13 9 rfl rfl)
theorem dL_law_471 : decode cL_law 471 = .ok (.iaload, 1) := dk_46 (dk_at dksL_law_13 10 rfl rfl)
theorem dL_law_472 : decode cL_law 472 = .ok (.aload_n 0, 1) := dk_42 (dk_at dksL_law_13 11 rfl rfl)
theorem dL_law_473 : decode cL_law 473 = .ok (.iload 4, 2) := dk_21 4 (dk_at dksL_law_13 12 rfl rfl)
theorem dL_law_475 : decode cL_law 475 = .ok (.iconst 4, 1) := dk_7 (dk_at dksL_law_13 14 rfl rfl)
theorem dL_law_476 : decode cL_law 476 = .ok (.iadd, 1) := dk_96 (dk_at dksL_law_13 15 rfl rfl)
theorem dL_law_477 : decode cL_law 477 = .ok (.iaload, 1) := dk_46 (dk_at dksL_law_13 16 rfl rfl)
theorem dL_law_478 : decode cL_law 478 = .ok (.invokevirtual 51, 3) := dk_182 0 51 (dk_at dksL_law_13 17 rfl rfl)
theorem dL_law_481 : decode cL_law 481 = .ok (.aload_n 2, 1) := dk_44 (dk_at dksL_law_13 20 rfl rfl)
theorem dL_law_482 : decode cL_law 482 = .ok (.aload_n 0, 1) := dk_42 (dk_at dksL_law_13 21 rfl rfl)
theorem dL_law_483 : decode cL_law 483 = .ok (.iload 4, 2) := dk_21 4 (dk_at dksL_law_13 22 rfl rfl)
theorem dL_law_485 : decode cL_law 485 = .ok (.iconst 1, 1) := dk_4 (dk_at dksL_law_14 0 rfl rfl)
theorem dL_law_486 : decode cL_law 486 = .ok (.iadd, 1) := dk_96 (dk_at dksL_law_14 1 rfl rfl)
theorem dL_law_487 : decode cL_law 487 = .ok (.iaload, 1) := dk_46 (dk_at dksL_law_14 2 rfl rfl)
theorem dL_law_488 : decode cL_law 488 = .ok (.aload_n 0, 1) := dk_42 (dk_at dksL_law_14 3 rfl rfl)
theorem dL_law_489 : decode cL_law 489 = .ok (.iload 4, 2) := dk_21 4 (dk_at dksL_law_14 4 rfl rfl)
theorem dL_law_491 : decode cL_law 491 = .ok (.iconst 2, 1) := dk_5 (dk_at dksL_law_14 6 rfl rfl)
theorem dL_law_492 : decode cL_law 492 = .ok (.iadd, 1) := dk_96 (dk_at dksL_law_14 7 rfl rfl)
theorem dL_law_493 : decode cL_law 493 = .ok (.iaload, 1) := dk_46 (dk_at dksL_law_14 8 rfl rfl)
theorem dL_law_494 : decode cL_law 494 = .ok (.aload_n 0, 1) := dk_42 (dk_at dksL_law_14 9 rfl rfl)
theorem dL_law_495 : decode cL_law 495 = .ok (.iload 4, 2) := dk_21 4 (dk_at dksL_law_14 10 rfl rfl)
theorem dL_law_497 : decode cL_law 497 = .ok (.iconst 3, 1) := dk_6 (dk_at dksL_law_14 12 rfl rfl)
theorem dL_law_498 : decode cL_law 498 = .ok (.iadd, 1) := dk_96 (dk_at dksL_law_14 13 rfl rfl)
theorem dL_law_499 : decode cL_law 499 = .ok (.iaload, 1) := dk_46 (dk_at dksL_law_14 14 rfl rfl)
theorem dL_law_500 : decode cL_law 500 = .ok (.aload_n 0, 1) := dk_42 (dk_at dksL_law_14 15 rfl rfl)
theorem dL_law_501 : decode cL_law 501 = .ok (.iload 4, 2) := dk_21 4 (dk_at dksL_law_14 16 rfl rfl)
theorem dL_law_503 : decode cL_law 503 = .ok (.iconst 4, 1) := dk_7 (dk_at dksL_law_14 18 rfl rfl)
theorem dL_law_504 : decode cL_law 504 = .ok (.iadd, 1) := dk_96 (dk_at dksL_law_14 19 rfl rfl)
theorem dL_law_505 : decode cL_law 505 = .ok (.iaload, 1) := dk_46 (dk_at dksL_law_14 20 rfl rfl)
theorem dL_law_506 : decode cL_law 506 = .ok (.invokevirtual 55, 3) := dk_182 0 55 (dk_at dksL_law_14 21 rfl rfl)
theorem dL_law_509 : decode cL_law 509 = .ok (.if_icmp .eq 808, 3) := dk_159 3 40 (dk_at dksL_law_15 0 rfl rfl)
theorem dL_law_512 : decode cL_law 512 = .ok (.iconst 0, 1) := dk_3 (dk_at dksL_law_15 3 rfl rfl)
theorem dL_law_513 : decode cL_law 513 = .ok (.ireturn, 1) := dk_172 (dk_at dksL_law_15 4 rfl rfl)
theorem dL_law_514 : decode cL_law 514 = .ok (.aload_n 1, 1) := dk_43 (dk_at dksL_law_15 5 rfl rfl)
theorem dL_law_515 : decode cL_law 515 = .ok (.aload_n 0, 1) := dk_42 (dk_at dksL_law_15 6 rfl rfl)
theorem dL_law_516 : decode cL_law 516 = .ok (.iload 4, 2) := dk_21 4 (dk_at dksL_law_15 7 rfl rfl)
theorem dL_law_518 : decode cL_law 518 = .ok (.iconst 1, 1) := dk_4 (dk_at dksL_law_15 9 rfl rfl)
theorem dL_law_519 : decode cL_law 519 = .ok (.iadd, 1) := dk_96 (dk_at dksL_law_15 10 rfl rfl)
theorem dL_law_520 : decode cL_law 520 = .ok (.iaload, 1) := dk_46 (dk_at dksL_law_15 11 rfl rfl)
theorem dL_law_521 : decode cL_law 521 = .ok (.aload_n 0, 1) := dk_42 (dk_at dksL_law_15 12 rfl rfl)
theorem dL_law_522 : decode cL_law 522 = .ok (.iload 4, 2) := dk_21 4 (dk_at dksL_law_15 13 rfl rfl)
theorem dL_law_524 : decode cL_law 524 = .ok (.iconst 2, 1) := dk_5 (dk_at dksL_law_15 15 rfl rfl)
theorem dL_law_525 : decode cL_law 525 = .ok (.iadd, 1) := dk_96 (dk_at dksL_law_15 16 rfl rfl)
theorem dL_law_526 : decode cL_law 526 = .ok (.iaload, 1) := dk_46 (dk_at dksL_law_15 17 rfl rfl)
theorem dL_law_527 : decode cL_law 527 = .ok (.invokevirtual 56, 3) := dk_182 0 56 (dk_at dksL_law_15 18 rfl rfl)
theorem dL_law_530 : decode cL_law 530 = .ok (.aload_n 2, 1) := dk_44 (dk_at dksL_law_15 21 rfl rfl)
theorem dL_law_531 : decode cL_law 531 = .ok (.aload_n 0, 1) := dk_42 (dk_at dksL_law_15 22 rfl rfl)
theorem dL_law_532 : decode cL_law 532 = .ok (.iload 4, 2) := dk_21 4 (dk_at dksL_law_16 0 rfl rfl)
theorem dL_law_534 : decode cL_law 534 = .ok (.iconst 1, 1) := dk_4 (dk_at dksL_law_16 2 rfl rfl)
theorem dL_law_535 : decode cL_law 535 = .ok (.iadd, 1) := dk_96 (dk_at dksL_law_16 3 rfl rfl)
theorem dL_law_536 : decode cL_law 536 = .ok (.iaload, 1) := dk_46 (dk_at dksL_law_16 4 rfl rfl)
theorem dL_law_537 : decode cL_law 537 = .ok (.aload_n 0, 1) := dk_42 (dk_at dksL_law_16 5 rfl rfl)
theorem dL_law_538 : decode cL_law 538 = .ok (.iload 4, 2) := dk_21 4 (dk_at dksL_law_16 6 rfl rfl)
theorem dL_law_540 : decode cL_law 540 = .ok (.iconst 2, 1) := dk_5 (dk_at dksL_law_16 8 rfl rfl)
theorem dL_law_541 : decode cL_law 541 = .ok (.iadd, 1) := dk_96 (dk_at dksL_law_16 9 rfl rfl)
theorem dL_law_542 : decode cL_law 542 = .ok (.iaload, 1) := dk_46 (dk_at dksL_law_16 10 rfl rfl)
theorem dL_law_543 : decode cL_law 543 = .ok (.invokevirtual 59, 3) := dk_182 0 59 (dk_at dksL_law_16 11 rfl rfl)
theorem dL_law_546 : decode cL_law 546 = .ok (.if_icmp .eq 771, 3) := dk_159 3 3 (dk_at dksL_law_16 14 rfl rfl)
theorem dL_law_549 : decode cL_law 549 = .ok (.iconst 0, 1) := dk_3 (dk_at dksL_law_16 17 rfl rfl)
theorem dL_law_550 : decode cL_law 550 = .ok (.ireturn, 1) := dk_172 (dk_at dksL_law_16 18 rfl rfl)
theorem dL_law_551 : decode cL_law 551 = .ok (.aload_n 1, 1) := dk_43 (dk_at dksL_law_16 19 rfl rfl)
theorem dL_law_552 : decode cL_law 552 = .ok (.aload_n 0, 1) := dk_42 (dk_at dksL_law_16 20 rfl rfl)
theorem dL_law_553 : decode cL_law 553 = .ok (.iload 4, 2) := dk_21 4 (dk_at dksL_law_16 21 rfl rfl)
theorem dL_law_555 : decode cL_law 555 = .ok (.iconst 1, 1) := dk_4 (dk_at dksL_law_16 23 rfl rfl)
theorem dL_law_556 : decode cL_law 556 = .ok (.iadd, 1) := dk_96 (dk_at dksL_law_17 0 rfl rfl)
theorem dL_law_557 : decode cL_law 557 = .ok (.iaload, 1) := dk_46 (dk_at dksL_law_17 1 rfl rfl)
theorem dL_law_558 : decode cL_law 558 = .ok (.aload_n 0, 1) := dk_42 (dk_at dksL_law_17 2 rfl rfl)
theorem dL_law_559 : decode cL_law 559 = .ok (.iload 4, 2) := dk_21 4 (dk_at dksL_law_17 3 rfl rfl)
theorem dL_law_561 : decode cL_law 561 = .ok (.iconst 2, 1) := dk_5 (dk_at dksL_law_17 5 rfl rfl)
theorem dL_law_562 : decode cL_law 562 = .ok (.iadd, 1) := dk_96 (dk_at dksL_law_17 6 rfl rfl)
theorem dL_law_563 : decode cL_law 563 = .ok (.iaload, 1) := dk_46 (dk_at dksL_law_17 7 rfl rfl)
theorem dL_law_564 : decode cL_law 564 = .ok (.invokevirtual 60, 3) := dk_182 0 60 (dk_at dksL_law_17 8 rfl rfl)
theorem dL_law_567 : decode cL_law 567 = .ok (.aload_n 2, 1) := dk_44 (dk_at dksL_law_17 11 rfl rfl)
theorem dL_law_568 : decode cL_law 568 = .ok (.aload_n 0, 1) := dk_42 (dk_at dksL_law_17 12 rfl rfl)
theorem dL_law_569 : decode cL_law 569 = .ok (.iload 4, 2) := dk_21 4 (dk_at dksL_law_17 13 rfl rfl)
theorem dL_law_571 : decode cL_law 571 = .ok (.iconst 1, 1) := dk_4 (dk_at dksL_law_17 15 rfl rfl)
theorem dL_law_572 : decode cL_law 572 = .ok (.iadd, 1) := dk_96 (dk_at dksL_law_17 16 rfl rfl)
theorem dL_law_573 : decode cL_law 573 = .ok (.iaload, 1) := dk_46 (dk_at dksL_law_17 17 rfl rfl)
theorem dL_law_574 : decode cL_law 574 = .ok (.aload_n 0, 1) := dk_42 (dk_at dksL_law_17 18 rfl rfl)
theorem dL_law_575 : decode cL_law 575 = .ok (.iload 4, 2) := dk_21 4 (dk_at dksL_law_17 19 rfl rfl)
theorem dL_law_577 : decode cL_law 577 = .ok (.iconst 2, 1) := dk_5 (dk_at dksL_law_17 21 rfl rfl)
theorem dL_law_578 : decode cL_law 578 = .ok (.iadd, 1) := dk_96 (dk_at dksL_law_17 22 rfl rfl)
theorem dL_law_579 : decode cL_law 579 = .ok (.iaload, 1) := dk_46 (dk_at dksL_law_17 23 rfl rfl)
theorem dL_law_580 : decode cL_law 580 = .ok (.invokevirtual 63, 3) := dk_182 0 63 (dk_at dksL_law_18 0 rfl rfl)
theorem dL_law_583 : decode cL_law 583 = .ok (.if_icmp .eq 734, 3) := dk_159 2 222 (dk_at dksL_law_18 3 rfl rfl)
theorem dL_law_586 : decode cL_law 586 = .ok (.iconst 0, 1) := dk_3 (dk_at dksL_law_18 6 rfl rfl)
theorem dL_law_587 : decode cL_law 587 = .ok (.ireturn, 1) := dk_172 (dk_at dksL_law_18 7 rfl rfl)
theorem dL_law_588 : decode cL_law 588 = .ok (.aload_n 1, 1) := dk_43 (dk_at dksL_law_18 8 rfl rfl)
theorem dL_law_589 : decode cL_law 589 = .ok (.aload_n 0, 1) := dk_42 (dk_at dksL_law_18 9 rfl rfl)
theorem dL_law_590 : decode cL_law 590 = .ok (.iload 4, 2) := dk_21 4 (dk_at dksL_law_18 10 rfl rfl)
theorem dL_law_592 : decode cL_law 592 = .ok (.iconst 1, 1) := dk_4 (dk_at dksL_law_18 12 rfl rfl)
theorem dL_law_593 : decode cL_law 593 = .ok (.iadd, 1) := dk_96 (dk_at dksL_law_18 13 rfl rfl)
theorem dL_law_594 : decode cL_law 594 = .ok (.iaload, 1) := dk_46 (dk_at dksL_law_18 14 rfl rfl)
theorem dL_law_595 : decode cL_law 595 = .ok (.aload_n 0, 1) := dk_42 (dk_at dksL_law_18 15 rfl rfl)
theorem dL_law_596 : decode cL_law 596 = .ok (.iload 4, 2) := dk_21 4 (dk_at dksL_law_18 16 rfl rfl)
theorem dL_law_598 : decode cL_law 598 = .ok (.iconst 2, 1) := dk_5 (dk_at dksL_law_18 18 rfl rfl)
theorem dL_law_599 : decode cL_law 599 = .ok (.iadd, 1) := dk_96 (dk_at dksL_law_18 19 rfl rfl)
theorem dL_law_600 : decode cL_law 600 = .ok (.iaload, 1) := dk_46 (dk_at dksL_law_18 20 rfl rfl)
theorem dL_law_601 : decode cL_law 601 = .ok (.aload_n 0, 1) := dk_42 (dk_at dksL_law_18 21 rfl rfl)
theorem dL_law_602 : decode cL_law 602 = .ok (.iload 4, 2) := dk_21 4 (dk_at dksL_law_18 22 rfl rfl)
theorem dL_law_604 : decode cL_law 604 = .ok (.iconst 3, 1) := dk_6 (dk_at dksL_law_19 0 rfl rfl)
theorem dL_law_605 : decode cL_law 605 = .ok (.iadd, 1) := dk_96 (dk_at dksL_law_19 1 rfl rfl)
theorem dL_law_606 : decode cL_law 606 = .ok (.iaload, 1) := dk_46 (dk_at dksL_law_19 2 rfl rfl)
theorem dL_law_607 : decode cL_law 607 = .ok (.aload_n 0, 1) := dk_42 (dk_at dksL_law_19 3 rfl rfl)
theorem dL_law_608 : decode cL_law 608 = .ok (.iload 4, 2) := dk_21 4 (dk_at dksL_law_19 4 rfl rfl)
theorem dL_law_610 : decode cL_law 610 = .ok (.iconst 4, 1) := dk_7 (dk_at dksL_law_19 6 rfl rfl)
theorem dL_law_611 : decode cL_law 611 = .ok (.iadd, 1) := dk_96 (dk_at dksL_law_19 7 rfl rfl)
theorem dL_law_612 : decode cL_law 612 = .ok (.iaload, 1) := dk_46 (dk_at dksL_law_19 8 rfl rfl)
theorem dL_law_613 : decode cL_law 613 = .ok (.invokevirtual 64, 3) := dk_182 0 64 (dk_at dksL_law_19 9 rfl rfl)
theorem dL_law_616 : decode cL_law 616 = .ok (.aload_n 2, 1) := dk_44 (dk_at dksL_law_19 12 rfl rfl)
theorem dL_law_617 : decode cL_law 617 = .ok (.aload_n 0, 1) := dk_42 (dk_at dksL_law_19 13 rfl rfl)
theorem dL_law_618 : decode cL_law 618 = .ok (.iload 4, 2) := dk_21 4 (dk_at dksL_law_19 14 rfl rfl)
theorem dL_law_620 : decode cL_law 620 = .ok (.iconst 1, 1) := dk_4 (dk_at dksL_law_19 16 rfl rfl)
theorem dL_law_621 : decode cL_law 621 = .ok (.iadd, 1) := dk_96 (dk_at dksL_law_19 17 rfl rfl)
theorem dL_law_622 : decode cL_law 622 = .ok (.iaload, 1) := dk_46 (dk_at dksL_law_19 18 rfl rfl)
theorem dL_law_623 : decode cL_law 623 = .ok (.aload_n 0, 1) := dk_42 (dk_at dksL_law_19 19 rfl rfl)
theorem dL_law_624 : decode cL_law 624 = .ok (.iload 4, 2) := dk_21 4 (dk_at dksL_law_19 20 rfl rfl)
theorem dL_law_626 : decode cL_law 626 = .ok (.iconst 2, 1) := dk_5 (dk_at dksL_law_19 22 rfl rfl)
theorem dL_law_627 : decode cL_law 627 = .ok (.iadd, 1) := dk_96 (dk_at dksL_law_19 23 rfl rfl)
theorem dL_law_628 : decode cL_law 628 = .ok (.iaload, 1) := dk_46 (dk_at dksL_law_20 0 rfl rfl)
theorem dL_law_629 : decode cL_law 629 = .ok (.aload_n 0, 1) := dk_42 (dk_at dksL_law_20 1 rfl rfl)
theorem dL_law_630 : decode cL_law 630 = .ok (.iload 4, 2) := dk_21 4 (dk_at dksL_law_20 2 rfl rfl)
theorem dL_law_632 : decode cL_law 632 = .ok (.iconst 3, 1) := dk_6 (dk_at dksL_law_20 4 rfl rfl)
theorem dL_law_633 : decode cL_law 633 = .ok (.iadd, 1) := dk_96 (dk_at dksL_law_20 5 rfl rfl)
theorem dL_law_634 : decode cL_law 634 = .ok (.iaload, 1) := dk_46 (dk_at dksL_law_20 6 rfl rfl)
theorem dL_law_635 : decode cL_law 635 = .ok (.aload_n 0, 1) := dk_42 (dk_at dksL_law_20 7 rfl rfl)
theorem dL_law_636 : decode cL_law 636 = .ok (.iload 4, 2) := dk_21 4 (dk_at dksL_law_20 8 rfl rfl)
theorem dL_law_638 : decode cL_law 638 = .ok (.iconst 4, 1) := dk_7 (dk_at dksL_law_20 10 rfl rfl)
theorem dL_law_639 : decode cL_law 639 = .ok (.iadd, 1) := dk_96 (dk_at dksL_law_20 11 rfl rfl)
theorem dL_law_640 : decode cL_law 640 = .ok (.iaload, 1) := dk_46 (dk_at dksL_law_20 12 rfl rfl)
theorem dL_law_641 : decode cL_law 641 = .ok (.invokevirtual 67, 3) := dk_182 0 67 (dk_at dksL_law_20 13 rfl rfl)
theorem dL_law_644 : decode cL_law 644 = .ok (.if_icmp .eq 673, 3) := dk_159 2 161 (dk_at dksL_law_20 16 rfl rfl)
theorem dL_law_647 : decode cL_law 647 = .ok (.iconst 0, 1) := dk_3 (dk_at dksL_law_20 19 rfl rfl)
theorem dL_law_648 : decode cL_law 648 = .ok (.ireturn, 1) := dk_172 (dk_at dksL_law_20 20 rfl rfl)
theorem dL_law_649 : decode cL_law 649 = .ok (.aload_n 1, 1) := dk_43 (dk_at dksL_law_20 21 rfl rfl)
theorem dL_law_650 : decode cL_law 650 = .ok (.invokevirtual 68, 3) := dk_182 0 68 (dk_at dksL_law_21 0 rfl rfl)
theorem dL_law_653 : decode cL_law 653 = .ok (.aload_n 2, 1) := dk_44 (dk_at dksL_law_21 3 rfl rfl)
theorem dL_law_654 : decode cL_law 654 = .ok (.invokevirtual 71, 3) := dk_182 0 71 (dk_at dksL_law_21 4 rfl rfl)
theorem dL_law_657 : decode cL_law 657 = .ok (.if_icmp .eq 660, 3) := dk_159 2 148 (dk_at dksL_law_21 7 rfl rfl)
theorem dL_law_660 : decode cL_law 660 = .ok (.iconst 0, 1) := dk_3 (dk_at dksL_law_21 10 rfl rfl)
theorem dL_law_661 : decode cL_law 661 = .ok (.ireturn, 1) := dk_172 (dk_at dksL_law_21 11 rfl rfl)
theorem dL_law_662 : decode cL_law 662 = .ok (.aload_n 1, 1) := dk_43 (dk_at dksL_law_21 12 rfl rfl)
theorem dL_law_663 : decode cL_law 663 = .ok (.invokevirtual 72, 3) := dk_182 0 72 (dk_at dksL_law_21 13 rfl rfl)
theorem dL_law_666 : decode cL_law 666 = .ok (.aload_n 2, 1) := dk_44 (dk_at dksL_law_21 16 rfl rfl)
theorem dL_law_667 : decode cL_law 667 = .ok (.invokevirtual 75, 3) := dk_182 0 75 (dk_at dksL_law_21 17 rfl rfl)
theorem dL_law_670 : decode cL_law 670 = .ok (.if_icmp .eq 647, 3) := dk_159 2 135 (dk_at dksL_law_21 20 rfl rfl)
theorem dL_law_673 : decode cL_law 673 = .ok (.iconst 0, 1) := dk_3 (dk_at dksL_law_21 23 rfl rfl)
theorem dL_law_674 : decode cL_law 674 = .ok (.ireturn, 1) := dk_172 (dk_at dksL_law_22 0 rfl rfl)
theorem dL_law_675 : decode cL_law 675 = .ok (.aload_n 1, 1) := dk_43 (dk_at dksL_law_22 1 rfl rfl)
theorem dL_law_676 : decode cL_law 676 = .ok (.aload_n 0, 1) := dk_42 (dk_at dksL_law_22 2 rfl rfl)
theorem dL_law_677 : decode cL_law 677 = .ok (.iload 4, 2) := dk_21 4 (dk_at dksL_law_22 3 rfl rfl)
theorem dL_law_679 : decode cL_law 679 = .ok (.iconst 1, 1) := dk_4 (dk_at dksL_law_22 5 rfl rfl)
theorem dL_law_680 : decode cL_law 680 = .ok (.iadd, 1) := dk_96 (dk_at dksL_law_22 6 rfl rfl)
theorem dL_law_681 : decode cL_law 681 = .ok (.iaload, 1) := dk_46 (dk_at dksL_law_22 7 rfl rfl)
theorem dL_law_682 : decode cL_law 682 = .ok (.invokevirtual 76, 3) := dk_182 0 76 (dk_at dksL_law_22 8 rfl rfl)
theorem dL_law_685 : decode cL_law 685 = .ok (.aload_n 2, 1) := dk_44 (dk_at dksL_law_22 11 rfl rfl)
theorem dL_law_686 : decode cL_law 686 = .ok (.aload_n 0, 1) := dk_42 (dk_at dksL_law_22 12 rfl rfl)
theorem dL_law_687 : decode cL_law 687 = .ok (.iload 4, 2) := dk_21 4 (dk_at dksL_law_22 13 rfl rfl)
theorem dL_law_689 : decode cL_law 689 = .ok (.iconst 1, 1) := dk_4 (dk_at dksL_law_22 15 rfl rfl)
theorem dL_law_690 : decode cL_law 690 = .ok (.iadd, 1) := dk_96 (dk_at dksL_law_22 16 rfl rfl)
theorem dL_law_691 : decode cL_law 691 = .ok (.iaload, 1) := dk_46 (dk_at dksL_law_22 17 rfl rfl)
theorem dL_law_692 : decode cL_law 692 = .ok (.invokevirtual 80, 3) := dk_182 0 80 (dk_at dksL_law_22 18 rfl rfl)
theorem dL_law_695 : decode cL_law 695 = .ok (.if_icmp .eq 622, 3) := dk_159 2 110 (dk_at dksL_law_22 21 rfl rfl)
theorem dL_law_698 : decode cL_law 698 = .ok (.iconst 0, 1) := dk_3 (dk_at dksL_law_23 0 rfl rfl)
theorem dL_law_699 : decode cL_law 699 = .ok (.ireturn, 1) := dk_172 (dk_at dksL_law_23 1 rfl rfl)
theorem dL_law_700 : decode cL_law 700 = .ok (.aload_n 1, 1) := dk_43 (dk_at dksL_law_23 2 rfl rfl)
theorem dL_law_701 : decode cL_law 701 = .ok (.invokevirtual 81, 3) := dk_182 0 81 (dk_at dksL_law_23 3 rfl rfl)
theorem dL_law_704 : decode cL_law 704 = .ok (.aload_n 2, 1) := dk_44 (dk_at dksL_law_23 6 rfl rfl)
theorem dL_law_705 : decode cL_law 705 = .ok (.invokevirtual 84, 3) := dk_182 0 84 (dk_at dksL_law_23 7 rfl rfl)
theorem dL_law_708 : decode cL_law 708 = .ok (.if_icmp .eq 609, 3) := dk_159 2 97 (dk_at dksL_law_23 10 rfl rfl)
theorem dL_law_711 : decode cL_law 711 = .ok (.iconst 0, 1) := dk_3 (dk_at dksL_law_23 13 rfl rfl)
theorem dL_law_712 : decode cL_law 712 = .ok (.ireturn, 1) := dk_172 (dk_at dksL_law_23 14 rfl rfl)
theorem dL_law_713 : decode cL_law 713 = .ok (.aload_n 1, 1) := dk_43 (dk_at dksL_law_23 15 rfl rfl)
theorem dL_law_714 : decode cL_law 714 = .ok (.aload_n 0, 1) := dk_42 (dk_at dksL_law_23 16 rfl rfl)
theorem dL_law_715 : decode cL_law 715 = .ok (.iload 4, 2) := dk_21 4 (dk_at dksL_law_23 17 rfl rfl)
theorem dL_law_717 : decode cL_law 717 = .ok (.iconst 1, 1) := dk_4 (dk_at dksL_law_23 19 rfl rfl)
theorem dL_law_718 : decode cL_law 718 = .ok (.iadd, 1) := dk_96 (dk_at dksL_law_23 20 rfl rfl)
theorem dL_law_719 : decode cL_law 719 = .ok (.iaload, 1) := dk_46 (dk_at dksL_law_23 21 rfl rfl)
theorem dL_law_720 : decode cL_law 720 = .ok (.invokevirtual 85, 3) := dk_182 0 85 (dk_at dksL_law_24 0 rfl rfl)
theorem dL_law_723 : decode cL_law 723 = .ok (.aload_n 2, 1) := dk_44 (dk_at dksL_law_24 3 rfl rfl)
theorem dL_law_724 : decode cL_law 724 = .ok (.aload_n 0, 1) := dk_42 (dk_at dksL_law_24 4 rfl rfl)
theorem dL_law_725 : decode cL_law 725 = .ok (.iload 4, 2) := dk_21 4 (dk_at dksL_law_24 5 rfl rfl)
theorem dL_law_727 : decode cL_law 727 = .ok (.iconst 1, 1) := dk_4 (dk_at dksL_law_24 7 rfl rfl)
theorem dL_law_728 : decode cL_law 728 = .ok (.iadd, 1) := dk_96 (dk_at dksL_law_24 8 rfl rfl)
theorem dL_law_729 : decode cL_law 729 = .ok (.iaload, 1) := dk_46 (dk_at dksL_law_24 9 rfl rfl)
theorem dL_law_730 : decode cL_law 730 = .ok (.invokevirtual 88, 3) := dk_182 0 88 (dk_at dksL_law_24 10 rfl rfl)
theorem dL_law_733 : decode cL_law 733 = .ok (.if_icmp .eq 584, 3) := dk_159 2 72 (dk_at dksL_law_24 13 rfl rfl)
theorem dL_law_736 : decode cL_law 736 = .ok (.iconst 0, 1) := dk_3 (dk_at dksL_law_24 16 rfl rfl)
theorem dL_law_737 : decode cL_law 737 = .ok (.ireturn, 1) := dk_172 (dk_at dksL_law_24 17 rfl rfl)
theorem dL_law_738 : decode cL_law 738 = .ok (.aload_n 1, 1) := dk_43 (dk_at dksL_law_24 18 rfl rfl)
theorem dL_law_739 : decode cL_law 739 = .ok (.invokevirtual 89, 3) := dk_182 0 89 (dk_at dksL_law_24 19 rfl rfl)
theorem dL_law_742 : decode cL_law 742 = .ok (.aload_n 2, 1) := dk_44 (dk_at dksL_law_24 22 rfl rfl)
theorem dL_law_743 : decode cL_law 743 = .ok (.invokevirtual 92, 3) := dk_182 0 92 (dk_at dksL_law_25 0 rfl rfl)
theorem dL_law_746 : decode cL_law 746 = .ok (.if_icmp .eq 571, 3) := dk_159 2 59 (dk_at dksL_law_25 3 rfl rfl)
theorem dL_law_749 : decode cL_law 749 = .ok (.iconst 0, 1) := dk_3 (dk_at dksL_law_25 6 rfl rfl)
theorem dL_law_750 : decode cL_law 750 = .ok (.ireturn, 1) := dk_172 (dk_at dksL_law_25 7 rfl rfl)
theorem dL_law_751 : decode cL_law 751 = .ok (.aload_n 1, 1) := dk_43 (dk_at dksL_law_25 8 rfl rfl)
theorem dL_law_752 : decode cL_law 752 = .ok (.aload_n 0, 1) := dk_42 (dk_at dksL_law_25 9 rfl rfl)
theorem dL_law_753 : decode cL_law 753 = .ok (.iload 4, 2) := dk_21 4 (dk_at dksL_law_25 10 rfl rfl)
theorem dL_law_755 : decode cL_law 755 = .ok (.iconst 1, 1) := dk_4 (dk_at dksL_law_25 12 rfl rfl)
theorem dL_law_756 : decode cL_law 756 = .ok (.iadd, 1) := dk_96 (dk_at dksL_law_25 13 rfl rfl)
theorem dL_law_757 : decode cL_law 757 = .ok (.iaload, 1) := dk_46 (dk_at dksL_law_25 14 rfl rfl)
theorem dL_law_758 : decode cL_law 758 = .ok (.aload_n 0, 1) := dk_42 (dk_at dksL_law_25 15 rfl rfl)
theorem dL_law_759 : decode cL_law 759 = .ok (.iload 4, 2) := dk_21 4 (dk_at dksL_law_25 16 rfl rfl)
theorem dL_law_761 : decode cL_law 761 = .ok (.iconst 2, 1) := dk_5 (dk_at dksL_law_25 18 rfl rfl)
theorem dL_law_762 : decode cL_law 762 = .ok (.iadd, 1) := dk_96 (dk_at dksL_law_25 19 rfl rfl)
theorem dL_law_763 : decode cL_law 763 = .ok (.iaload, 1) := dk_46 (dk_at dksL_law_25 20 rfl rfl)
theorem dL_law_764 : decode cL_law 764 = .ok (.aload_n 0, 1) := dk_42 (dk_at dksL_law_25 21 rfl rfl)
theorem dL_law_765 : decode cL_law 765 = .ok (.iload 4, 2) := dk_21 4 (dk_at dksL_law_25 22 rfl rfl)
theorem dL_law_767 : decode cL_law 767 = .ok (.iconst 3, 1) := dk_6 (dk_at dksL_law_26 0 rfl rfl)
theorem dL_law_768 : decode cL_law 768 = .ok (.iadd, 1) := dk_96 (dk_at dksL_law_26 1 rfl rfl)
theorem dL_law_769 : decode cL_law 769 = .ok (.iaload, 1) := dk_46 (dk_at dksL_law_26 2 rfl rfl)
theorem dL_law_770 : decode cL_law 770 = .ok (.invokevirtual 93, 3) := dk_182 0 93 (dk_at dksL_law_26 3 rfl rfl)
theorem dL_law_773 : decode cL_law 773 = .ok (.aload_n 2, 1) := dk_44 (dk_at dksL_law_26 6 rfl rfl)
theorem dL_law_774 : decode cL_law 774 = .ok (.aload_n 0, 1) := dk_42 (dk_at dksL_law_26 7 rfl rfl)
theorem dL_law_775 : decode cL_law 775 = .ok (.iload 4, 2) := dk_21 4 (dk_at dksL_law_26 8 rfl rfl)
theorem dL_law_777 : decode cL_law 777 = .ok (.iconst 1, 1) := dk_4 (dk_at dksL_law_26 10 rfl rfl)
theorem dL_law_778 : decode cL_law 778 = .ok (.iadd, 1) := dk_96 (dk_at dksL_law_26 11 rfl rfl)
theorem dL_law_779 : decode cL_law 779 = .ok (.iaload, 1) := dk_46 (dk_at dksL_law_26 12 rfl rfl)
theorem dL_law_780 : decode cL_law 780 = .ok (.aload_n 0, 1) := dk_42 (dk_at dksL_law_26 13 rfl rfl)
theorem dL_law_781 : decode cL_law 781 = .ok (.iload 4, 2) := dk_21 4 (dk_at dksL_law_26 14 rfl rfl)
theorem dL_law_783 : decode cL_law 783 = .ok (.iconst 2, 1) := dk_5 (dk_at dksL_law_26 16 rfl rfl)
theorem dL_law_784 : decode cL_law 784 = .ok (.iadd, 1) := dk_96 (dk_at dksL_law_26 17 rfl rfl)
theorem dL_law_785 : decode cL_law 785 = .ok (.iaload, 1) := dk_46 (dk_at dksL_law_26 18 rfl rfl)
theorem dL_law_786 : decode cL_law 786 = .ok (.aload_n 0, 1) := dk_42 (dk_at dksL_law_26 19 rfl rfl)
theorem dL_law_787 : decode cL_law 787 = .ok (.iload 4, 2) := dk_21 4 (dk_at dksL_law_26 20 rfl rfl)
theorem dL_law_789 : decode cL_law 789 = .ok (.iconst 3, 1) := dk_6 (dk_at dksL_law_26 22 rfl rfl)
theorem dL_law_790 : decode cL_law 790 = .ok (.iadd, 1) := dk_96 (dk_at dksL_law_26 23 rfl rfl)
theorem dL_law_791 : decode cL_law 791 = .ok (.iaload, 1) := dk_46 (dk_at dksL_law_27 0 rfl rfl)
theorem dL_law_792 : decode cL_law 792 = .ok (.invokevirtual 97, 3) := dk_182 0 97 (dk_at dksL_law_27 1 rfl rfl)
theorem dL_law_795 : decode cL_law 795 = .ok (.if_icmp .eq 522, 3) := dk_159 2 10 (dk_at dksL_law_27 4 rfl rfl)
theorem dL_law_798 : decode cL_law 798 = .ok (.iconst 0, 1) := dk_3 (dk_at dksL_law_27 7 rfl rfl)
theorem dL_law_799 : decode cL_law 799 = .ok (.ireturn, 1) := dk_172 (dk_at dksL_law_27 8 rfl rfl)
theorem dL_law_800 : decode cL_law 800 = .ok (.aload_n 1, 1) := dk_43 (dk_at dksL_law_27 9 rfl rfl)
theorem dL_law_801 : decode cL_law 801 = .ok (.aload_n 0, 1) := dk_42 (dk_at dksL_law_27 10 rfl rfl)
theorem dL_law_802 : decode cL_law 802 = .ok (.iload 4, 2) := dk_21 4 (dk_at dksL_law_27 11 rfl rfl)
theorem dL_law_804 : decode cL_law 804 = .ok (.iconst 1, 1) := dk_4 (dk_at dksL_law_27 13 rfl rfl)
theorem dL_law_805 : decode cL_law 805 = .ok (.iadd, 1) := dk_96 (dk_at dksL_law_27 14 rfl rfl)
theorem dL_law_806 : decode cL_law 806 = .ok (.iaload, 1) := dk_46 (dk_at dksL_law_27 15 rfl rfl)
theorem dL_law_807 : decode cL_law 807 = .ok (.invokevirtual 98, 3) := dk_182 0 98 (dk_at dksL_law_27 16 rfl rfl)
theorem dL_law_810 : decode cL_law 810 = .ok (.aload_n 2, 1) := dk_44 (dk_at dksL_law_27 19 rfl rfl)
theorem dL_law_811 : decode cL_law 811 = .ok (.aload_n 0, 1) := dk_42 (dk_at dksL_law_27 20 rfl rfl)
theorem dL_law_812 : decode cL_law 812 = .ok (.iload 4, 2) := dk_21 4 (dk_at dksL_law_27 21 rfl rfl)
theorem dL_law_814 : decode cL_law 814 = .ok (.iconst 1, 1) := dk_4 (dk_at dksL_law_27 23 rfl rfl)
theorem dL_law_815 : decode cL_law 815 = .ok (.iadd, 1) := dk_96 (dk_at dksL_law_28 0 rfl rfl)
theorem dL_law_816 : decode cL_law 816 = .ok (.iaload, 1) := dk_46 (dk_at dksL_law_28 1 rfl rfl)
theorem dL_law_817 : decode cL_law 817 = .ok (.invokevirtual 101, 3) := dk_182 0 101 (dk_at dksL_law_28 2 rfl rfl)
theorem dL_law_820 : decode cL_law 820 = .ok (.if_icmp .eq 497, 3) := dk_159 1 241 (dk_at dksL_law_28 5 rfl rfl)
theorem dL_law_823 : decode cL_law 823 = .ok (.iconst 0, 1) := dk_3 (dk_at dksL_law_28 8 rfl rfl)
theorem dL_law_824 : decode cL_law 824 = .ok (.ireturn, 1) := dk_172 (dk_at dksL_law_28 9 rfl rfl)
theorem dL_law_825 : decode cL_law 825 = .ok (.aload_n 1, 1) := dk_43 (dk_at dksL_law_28 10 rfl rfl)
theorem dL_law_826 : decode cL_law 826 = .ok (.aload_n 0, 1) := dk_42 (dk_at dksL_law_28 11 rfl rfl)
theorem dL_law_827 : decode cL_law 827 = .ok (.iload 4, 2) := dk_21 4 (dk_at dksL_law_28 12 rfl rfl)
theorem dL_law_829 : decode cL_law 829 = .ok (.iconst 1, 1) := dk_4 (dk_at dksL_law_28 14 rfl rfl)
theorem dL_law_830 : decode cL_law 830 = .ok (.iadd, 1) := dk_96 (dk_at dksL_law_28 15 rfl rfl)
theorem dL_law_831 : decode cL_law 831 = .ok (.iaload, 1) := dk_46 (dk_at dksL_law_28 16 rfl rfl)
theorem dL_law_832 : decode cL_law 832 = .ok (.invokevirtual 102, 3) := dk_182 0 102 (dk_at dksL_law_28 17 rfl rfl)
theorem dL_law_835 : decode cL_law 835 = .ok (.aload_n 2, 1) := dk_44 (dk_at dksL_law_28 20 rfl rfl)
theorem dL_law_836 : decode cL_law 836 = .ok (.aload_n 0, 1) := dk_42 (dk_at dksL_law_28 21 rfl rfl)
theorem dL_law_837 : decode cL_law 837 = .ok (.iload 4, 2) := dk_21 4 (dk_at dksL_law_28 22 rfl rfl)
theorem dL_law_839 : decode cL_law 839 = .ok (.iconst 1, 1) := dk_4 (dk_at dksL_law_29 0 rfl rfl)
theorem dL_law_840 : decode cL_law 840 = .ok (.iadd, 1) := dk_96 (dk_at dksL_law_29 1 rfl rfl)
theorem dL_law_841 : decode cL_law 841 = .ok (.iaload, 1) := dk_46 (dk_at dksL_law_29 2 rfl rfl)
theorem dL_law_842 : decode cL_law 842 = .ok (.invokevirtual 105, 3) := dk_182 0 105 (dk_at dksL_law_29 3 rfl rfl)
theorem dL_law_845 : decode cL_law 845 = .ok (.if_icmp .eq 472, 3) := dk_159 1 216 (dk_at dksL_law_29 6 rfl rfl)
theorem dL_law_848 : decode cL_law 848 = .ok (.iconst 0, 1) := dk_3 (dk_at dksL_law_29 9 rfl rfl)
theorem dL_law_849 : decode cL_law 849 = .ok (.ireturn, 1) := dk_172 (dk_at dksL_law_29 10 rfl rfl)
theorem dL_law_850 : decode cL_law 850 = .ok (.aload_n 1, 1) := dk_43 (dk_at dksL_law_29 11 rfl rfl)
theorem dL_law_851 : decode cL_law 851 = .ok (.invokevirtual 106, 3) := dk_182 0 106 (dk_at dksL_law_29 12 rfl rfl)
theorem dL_law_854 : decode cL_law 854 = .ok (.aload_n 2, 1) := dk_44 (dk_at dksL_law_29 15 rfl rfl)
theorem dL_law_855 : decode cL_law 855 = .ok (.invokevirtual 109, 3) := dk_182 0 109 (dk_at dksL_law_29 16 rfl rfl)
theorem dL_law_858 : decode cL_law 858 = .ok (.if_icmp .eq 459, 3) := dk_159 1 203 (dk_at dksL_law_29 19 rfl rfl)
theorem dL_law_861 : decode cL_law 861 = .ok (.iconst 0, 1) := dk_3 (dk_at dksL_law_29 22 rfl rfl)
theorem dL_law_862 : decode cL_law 862 = .ok (.ireturn, 1) := dk_172 (dk_at dksL_law_29 23 rfl rfl)
theorem dL_law_863 : decode cL_law 863 = .ok (.aload_n 1, 1) := dk_43 (dk_at dksL_law_30 0 rfl rfl)
theorem dL_law_864 : decode cL_law 864 = .ok (.invokevirtual 110, 3) := dk_182 0 110 (dk_at dksL_law_30 1 rfl rfl)
theorem dL_law_867 : decode cL_law 867 = .ok (.aload_n 2, 1) := dk_44 (dk_at dksL_law_30 4 rfl rfl)
theorem dL_law_868 : decode cL_law 868 = .ok (.invokevirtual 113, 3) := dk_182 0 113 (dk_at dksL_law_30 5 rfl rfl)
theorem dL_law_871 : decode cL_law 871 = .ok (.if_icmp .eq 446, 3) := dk_159 1 190 (dk_at dksL_law_30 8 rfl rfl)
theorem dL_law_874 : decode cL_law 874 = .ok (.iconst 0, 1) := dk_3 (dk_at dksL_law_30 11 rfl rfl)
theorem dL_law_875 : decode cL_law 875 = .ok (.ireturn, 1) := dk_172 (dk_at dksL_law_30 12 rfl rfl)
theorem dL_law_876 : decode cL_law 876 = .ok (.aload_n 1, 1) := dk_43 (dk_at dksL_law_30 13 rfl rfl)
theorem dL_law_877 : decode cL_law 877 = .ok (.aload_n 0, 1) := dk_42 (dk_at dksL_law_30 14 rfl rfl)
theorem dL_law_878 : decode cL_law 878 = .ok (.iload 4, 2) := dk_21 4 (dk_at dksL_law_30 15 rfl rfl)
theorem dL_law_880 : decode cL_law 880 = .ok (.iconst 1, 1) := dk_4 (dk_at dksL_law_30 17 rfl rfl)
theorem dL_law_881 : decode cL_law 881 = .ok (.iadd, 1) := dk_96 (dk_at dksL_law_30 18 rfl rfl)
theorem dL_law_882 : decode cL_law 882 = .ok (.iaload, 1) := dk_46 (dk_at dksL_law_30 19 rfl rfl)
theorem dL_law_883 : decode cL_law 883 = .ok (.invokevirtual 114, 3) := dk_182 0 114 (dk_at dksL_law_30 20 rfl rfl)
theorem dL_law_886 : decode cL_law 886 = .ok (.aload_n 2, 1) := dk_44 (dk_at dksL_law_30 23 rfl rfl)
theorem dL_law_887 : decode cL_law 887 = .ok (.aload_n 0, 1) := dk_42 (dk_at dksL_law_31 0 rfl rfl)
theorem dL_law_888 : decode cL_law 888 = .ok (.iload 4, 2) := dk_21 4 (dk_at dksL_law_31 1 rfl rfl)
theorem dL_law_890 : decode cL_law 890 = .ok (.iconst 1, 1) := dk_4 (dk_at dksL_law_31 3 rfl rfl)
theorem dL_law_891 : decode cL_law 891 = .ok (.iadd, 1) := dk_96 (dk_at dksL_law_31 4 rfl rfl)
theorem dL_law_892 : decode cL_law 892 = .ok (.iaload, 1) := dk_46 (dk_at dksL_law_31 5 rfl rfl)
theorem dL_law_893 : decode cL_law 893 = .ok (.invokevirtual 117, 3) := dk_182 0 117 (dk_at dksL_law_31 6 rfl rfl)
theorem dL_law_896 : decode cL_law 896 = .ok (.if_icmp .eq 421, 3) := dk_159 1 165 (dk_at dksL_law_31 9 rfl rfl)
theorem dL_law_899 : decode cL_law 899 = .ok (.iconst 0, 1) := dk_3 (dk_at dksL_law_31 12 rfl rfl)
theorem dL_law_900 : decode cL_law 900 = .ok (.ireturn, 1) := dk_172 (dk_at dksL_law_31 13 rfl rfl)
theorem dL_law_901 : decode cL_law 901 = .ok (.aload_n 1, 1) := dk_43 (dk_at dksL_law_31 14 rfl rfl)
theorem dL_law_902 : decode cL_law 902 = .ok (.aload_n 0, 1) := dk_42 (dk_at dksL_law_31 15 rfl rfl)
theorem dL_law_903 : decode cL_law 903 = .ok (.iload 4, 2) := dk_21 4 (dk_at dksL_law_31 16 rfl rfl)
theorem dL_law_905 : decode cL_law 905 = .ok (.iconst 1, 1) := dk_4 (dk_at dksL_law_31 18 rfl rfl)
theorem dL_law_906 : decode cL_law 906 = .ok (.iadd, 1) := dk_96 (dk_at dksL_law_31 19 rfl rfl)
theorem dL_law_907 : decode cL_law 907 = .ok (.iaload, 1) := dk_46 (dk_at dksL_law_31 20 rfl rfl)
theorem dL_law_908 : decode cL_law 908 = .ok (.aload_n 0, 1) := dk_42 (dk_at dksL_law_31 21 rfl rfl)
theorem dL_law_909 : decode cL_law 909 = .ok (.iload 4, 2) := dk_21 4 (dk_at dksL_law_31 22 rfl rfl)
theorem dL_law_911 : decode cL_law 911 = .ok (.iconst 2, 1) := dk_5 (dk_at dksL_law_32 0 rfl rfl)
theorem dL_law_912 : decode cL_law 912 = .ok (.iadd, 1) := dk_96 (dk_at dksL_law_32 1 rfl rfl)
theorem dL_law_913 : decode cL_law 913 = .ok (.iaload, 1) := dk_46 (dk_at dksL_law_32 2 rfl rfl)
theorem dL_law_914 : decode cL_law 914 = .ok (.invokevirtual 118, 3) := dk_182 0 118 (dk_at dksL_law_32 3 rfl rfl)
theorem dL_law_917 : decode cL_law 917 = .ok (.aload_n 2, 1) := dk_44 (dk_at dksL_law_32 6 rfl rfl)
theorem dL_law_918 : decode cL_law 918 = .ok (.aload_n 0, 1) := dk_42 (dk_at dksL_law_32 7 rfl rfl)
theorem dL_law_919 : decode cL_law 919 = .ok (.iload 4, 2) := dk_21 4 (dk_at dksL_law_32 8 rfl rfl)
theorem dL_law_921 : decode cL_law 921 = .ok (.iconst 1, 1) := dk_4 (dk_at dksL_law_32 10 rfl rfl)
theorem dL_law_922 : decode cL_law 922 = .ok (.iadd, 1) := dk_96 (dk_at dksL_law_32 11 rfl rfl)
theorem dL_law_923 : decode cL_law 923 = .ok (.iaload, 1) := dk_46 (dk_at dksL_law_32 12 rfl rfl)
theorem dL_law_924 : decode cL_law 924 = .ok (.aload_n 0, 1) := dk_42 (dk_at dksL_law_32 13 rfl rfl)
theorem dL_law_925 : decode cL_law 925 = .ok (.iload 4, 2) := dk_21 4 (dk_at dksL_law_32 14 rfl rfl)
theorem dL_law_927 : decode cL_law 927 = .ok (.iconst 2, 1) := dk_5 (dk_at dksL_law_32 16 rfl rfl)
theorem dL_law_928 : decode cL_law 928 = .ok (.iadd, 1) := dk_96 (dk_at dksL_law_32 17 rfl rfl)
theorem dL_law_929 : decode cL_law 929 = .ok (.iaload, 1) := dk_46 (dk_at dksL_law_32 18 rfl rfl)
theorem dL_law_930 : decode cL_law 930 = .ok (.invokevirtual 122, 3) := dk_182 0 122 (dk_at dksL_law_32 19 rfl rfl)
theorem dL_law_933 : decode cL_law 933 = .ok (.if_icmp .eq 384, 3) := dk_159 1 128 (dk_at dksL_law_33 0 rfl rfl)
theorem dL_law_936 : decode cL_law 936 = .ok (.iconst 0, 1) := dk_3 (dk_at dksL_law_33 3 rfl rfl)
theorem dL_law_937 : decode cL_law 937 = .ok (.ireturn, 1) := dk_172 (dk_at dksL_law_33 4 rfl rfl)
theorem dL_law_938 : decode cL_law 938 = .ok (.aload_n 1, 1) := dk_43 (dk_at dksL_law_33 5 rfl rfl)
theorem dL_law_939 : decode cL_law 939 = .ok (.aload_n 0, 1) := dk_42 (dk_at dksL_law_33 6 rfl rfl)
theorem dL_law_940 : decode cL_law 940 = .ok (.iload 4, 2) := dk_21 4 (dk_at dksL_law_33 7 rfl rfl)
theorem dL_law_942 : decode cL_law 942 = .ok (.iconst 1, 1) := dk_4 (dk_at dksL_law_33 9 rfl rfl)
theorem dL_law_943 : decode cL_law 943 = .ok (.iadd, 1) := dk_96 (dk_at dksL_law_33 10 rfl rfl)
theorem dL_law_944 : decode cL_law 944 = .ok (.iaload, 1) := dk_46 (dk_at dksL_law_33 11 rfl rfl)
theorem dL_law_945 : decode cL_law 945 = .ok (.aload_n 0, 1) := dk_42 (dk_at dksL_law_33 12 rfl rfl)
theorem dL_law_946 : decode cL_law 946 = .ok (.iload 4, 2) := dk_21 4 (dk_at dksL_law_33 13 rfl rfl)
theorem dL_law_948 : decode cL_law 948 = .ok (.iconst 2, 1) := dk_5 (dk_at dksL_law_33 15 rfl rfl)
theorem dL_law_949 : decode cL_law 949 = .ok (.iadd, 1) := dk_96 (dk_at dksL_law_33 16 rfl rfl)
theorem dL_law_950 : decode cL_law 950 = .ok (.iaload, 1) := dk_46 (dk_at dksL_law_33 17 rfl rfl)
theorem dL_law_951 : decode cL_law 951 = .ok (.invokevirtual 123, 3) := dk_182 0 123 (dk_at dksL_law_33 18 rfl rfl)
theorem dL_law_954 : decode cL_law 954 = .ok (.aload_n 2, 1) := dk_44 (dk_at dksL_law_33 21 rfl rfl)
theorem dL_law_955 : decode cL_law 955 = .ok (.aload_n 0, 1) := dk_42 (dk_at dksL_law_33 22 rfl rfl)
theorem dL_law_956 : decode cL_law 956 = .ok (.iload 4, 2) := dk_21 4 (dk_at dksL_law_34 0 rfl rfl)
theorem dL_law_958 : decode cL_law 958 = .ok (.iconst 1, 1) := dk_4 (dk_at dksL_law_34 2 rfl rfl)
theorem dL_law_959 : decode cL_law 959 = .ok (.iadd, 1) := dk_96 (dk_at dksL_law_34 3 rfl rfl)
theorem dL_law_960 : decode cL_law 960 = .ok (.iaload, 1) := dk_46 (dk_at dksL_law_34 4 rfl rfl)
theorem dL_law_961 : decode cL_law 961 = .ok (.aload_n 0, 1) := dk_42 (dk_at dksL_law_34 5 rfl rfl)
theorem dL_law_962 : decode cL_law 962 = .ok (.iload 4, 2) := dk_21 4 (dk_at dksL_law_34 6 rfl rfl)
theorem dL_law_964 : decode cL_law 964 = .ok (.iconst 2, 1) := dk_5 (dk_at dksL_law_34 8 rfl rfl)
theorem dL_law_965 : decode cL_law 965 = .ok (.iadd, 1) := dk_96 (dk_at dksL_law_34 9 rfl rfl)
theorem dL_law_966 : decode cL_law 966 = .ok (.iaload, 1) := dk_46 (dk_at dksL_law_34 10 rfl rfl)
theorem dL_law_967 : decode cL_law 967 = .ok (.invokevirtual 126, 3) := dk_182 0 126 (dk_at dksL_law_34 11 rfl rfl)
theorem dL_law_970 : decode cL_law 970 = .ok (.if_icmp .eq 347, 3) := dk_159 1 91 (dk_at dksL_law_34 14 rfl rfl)
theorem dL_law_973 : decode cL_law 973 = .ok (.iconst 0, 1) := dk_3 (dk_at dksL_law_34 17 rfl rfl)
theorem dL_law_974 : decode cL_law 974 = .ok (.ireturn, 1) := dk_172 (dk_at dksL_law_34 18 rfl rfl)
theorem dL_law_975 : decode cL_law 975 = .ok (.aload_n 1, 1) := dk_43 (dk_at dksL_law_34 19 rfl rfl)
theorem dL_law_976 : decode cL_law 976 = .ok (.invokevirtual 127, 3) := dk_182 0 127 (dk_at dksL_law_34 20 rfl rfl)
theorem dL_law_979 : decode cL_law 979 = .ok (.aload_n 2, 1) := dk_44 (dk_at dksL_law_34 23 rfl rfl)
theorem dL_law_980 : decode cL_law 980 = .ok (.invokevirtual 130, 3) := dk_182 0 130 (dk_at dksL_law_35 0 rfl rfl)
theorem dL_law_983 : decode cL_law 983 = .ok (.if_icmp .eq 334, 3) := dk_159 1 78 (dk_at dksL_law_35 3 rfl rfl)
theorem dL_law_986 : decode cL_law 986 = .ok (.iconst 0, 1) := dk_3 (dk_at dksL_law_35 6 rfl rfl)
theorem dL_law_987 : decode cL_law 987 = .ok (.ireturn, 1) := dk_172 (dk_at dksL_law_35 7 rfl rfl)
theorem dL_law_988 : decode cL_law 988 = .ok (.aload_n 1, 1) := dk_43 (dk_at dksL_law_35 8 rfl rfl)
theorem dL_law_989 : decode cL_law 989 = .ok (.aload_n 0, 1) := dk_42 (dk_at dksL_law_35 9 rfl rfl)
theorem dL_law_990 : decode cL_law 990 = .ok (.iload 4, 2) := dk_21 4 (dk_at dksL_law_35 10 rfl rfl)
theorem dL_law_992 : decode cL_law 992 = .ok (.iconst 1, 1) := dk_4 (dk_at dksL_law_35 12 rfl rfl)
theorem dL_law_993 : decode cL_law 993 = .ok (.iadd, 1) := dk_96 (dk_at dksL_law_35 13 rfl rfl)
theorem dL_law_994 : decode cL_law 994 = .ok (.iaload, 1) := dk_46 (dk_at dksL_law_35 14 rfl rfl)
theorem dL_law_995 : decode cL_law 995 = .ok (.invokevirtual 131, 3) := dk_182 0 131 (dk_at dksL_law_35 15 rfl rfl)
theorem dL_law_998 : decode cL_law 998 = .ok (.aload_n 2, 1) := dk_44 (dk_at dksL_law_35 18 rfl rfl)
theorem dL_law_999 : decode cL_law 999 = .ok (.aload_n 0, 1) := dk_42 (dk_at dksL_law_35 19 rfl rfl)
theorem dL_law_1000 : decode cL_law 1000 = .ok (.iload 4, 2) := dk_21 4 (dk_at dksL_law_35 20 rfl rfl)
theorem dL_law_1002 : decode cL_law 1002 = .ok (.iconst 1, 1) := dk_4 (dk_at dksL_law_35 22 rfl rfl)
theorem dL_law_1003 : decode cL_law 1003 = .ok (.iadd, 1) := dk_96 (dk_at dksL_law_35 23 rfl rfl)
theorem dL_law_1004 : decode cL_law 1004 = .ok (.iaload, 1) := dk_46 (dk_at dksL_law_36 0 rfl rfl)
theorem dL_law_1005 : decode cL_law 1005 = .ok (.invokevirtual 134, 3) := dk_182 0 134 (dk_at dksL_law_36 1 rfl rfl)
theorem dL_law_1008 : decode cL_law 1008 = .ok (.if_icmp .eq 309, 3) := dk_159 1 53 (dk_at dksL_law_36 4 rfl rfl)
theorem dL_law_1011 : decode cL_law 1011 = .ok (.iconst 0, 1) := dk_3 (dk_at dksL_law_36 7 rfl rfl)
theorem dL_law_1012 : decode cL_law 1012 = .ok (.ireturn, 1) := dk_172 (dk_at dksL_law_36 8 rfl rfl)
theorem dL_law_1013 : decode cL_law 1013 = .ok (.aload_n 1, 1) := dk_43 (dk_at dksL_law_36 9 rfl rfl)
theorem dL_law_1014 : decode cL_law 1014 = .ok (.invokevirtual 135, 3) := dk_182 0 135 (dk_at dksL_law_36 10 rfl rfl)
theorem dL_law_1017 : decode cL_law 1017 = .ok (.aload_n 2, 1) := dk_44 (dk_at dksL_law_36 13 rfl rfl)
theorem dL_law_1018 : decode cL_law 1018 = .ok (.invokevirtual 138, 3) := dk_182 0 138 (dk_at dksL_law_36 14 rfl rfl)
theorem dL_law_1021 : decode cL_law 1021 = .ok (.if_icmp .eq 296, 3) := dk_159 1 40 (dk_at dksL_law_36 17 rfl rfl)
theorem dL_law_1024 : decode cL_law 1024 = .ok (.iconst 0, 1) := dk_3 (dk_at dksL_law_36 20 rfl rfl)
theorem dL_law_1025 : decode cL_law 1025 = .ok (.ireturn, 1) := dk_172 (dk_at dksL_law_36 21 rfl rfl)
theorem dL_law_1026 : decode cL_law 1026 = .ok (.aload_n 1, 1) := dk_43 (dk_at dksL_law_36 22 rfl rfl)
theorem dL_law_1027 : decode cL_law 1027 = .ok (.invokevirtual 139, 3) := dk_182 0 139 (dk_at dksL_law_37 0 rfl rfl)
theorem dL_law_1030 : decode cL_law 1030 = .ok (.aload_n 2, 1) := dk_44 (dk_at dksL_law_37 3 rfl rfl)
theorem dL_law_1031 : decode cL_law 1031 = .ok (.invokevirtual 142, 3) := dk_182 0 142 (dk_at dksL_law_37 4 rfl rfl)
theorem dL_law_1034 : decode cL_law 1034 = .ok (.if_icmp .eq 283, 3) := dk_159 1 27 (dk_at dksL_law_37 7 rfl rfl)
theorem dL_law_1037 : decode cL_law 1037 = .ok (.iconst 0, 1) := dk_3 (dk_at dksL_law_37 10 rfl rfl)
theorem dL_law_1038 : decode cL_law 1038 = .ok (.ireturn, 1) := dk_172 (dk_at dksL_law_37 11 rfl rfl)
theorem dL_law_1039 : decode cL_law 1039 = .ok (.aload_n 1, 1) := dk_43 (dk_at dksL_law_37 12 rfl rfl)
theorem dL_law_1040 : decode cL_law 1040 = .ok (.invokevirtual 143, 3) := dk_182 0 143 (dk_at dksL_law_37 13 rfl rfl)
theorem dL_law_1043 : decode cL_law 1043 = .ok (.aload_n 2, 1) := dk_44 (dk_at dksL_law_37 16 rfl rfl)
theorem dL_law_1044 : decode cL_law 1044 = .ok (.invokevirtual 146, 3) := dk_182 0 146 (dk_at dksL_law_37 17 rfl rfl)
theorem dL_law_1047 : decode cL_law 1047 = .ok (.if_icmp .eq 270, 3) := dk_159 1 14 (dk_at dksL_law_37 20 rfl rfl)
theorem dL_law_1050 : decode cL_law 1050 = .ok (.iconst 0, 1) := dk_3 (dk_at dksL_law_37 23 rfl rfl)
theorem dL_law_1051 : decode cL_law 1051 = .ok (.ireturn, 1) := dk_172 (dk_at dksL_law_38 0 rfl rfl)
theorem dL_law_1052 : decode cL_law 1052 = .ok (.aload_n 1, 1) := dk_43 (dk_at dksL_law_38 1 rfl rfl)
theorem dL_law_1053 : decode cL_law 1053 = .ok (.aload_n 0, 1) := dk_42 (dk_at dksL_law_38 2 rfl rfl)
theorem dL_law_1054 : decode cL_law 1054 = .ok (.iload 4, 2) := dk_21 4 (dk_at dksL_law_38 3 rfl rfl)
theorem dL_law_1056 : decode cL_law 1056 = .ok (.iconst 1, 1) := dk_4 (dk_at dksL_law_38 5 rfl rfl)
theorem dL_law_1057 : decode cL_law 1057 = .ok (.iadd, 1) := dk_96 (dk_at dksL_law_38 6 rfl rfl)
theorem dL_law_1058 : decode cL_law 1058 = .ok (.iaload, 1) := dk_46 (dk_at dksL_law_38 7 rfl rfl)
theorem dL_law_1059 : decode cL_law 1059 = .ok (.invokevirtual 147, 3) := dk_182 0 147 (dk_at dksL_law_38 8 rfl rfl)
theorem dL_law_1062 : decode cL_law 1062 = .ok (.aload_n 2, 1) := dk_44 (dk_at dksL_law_38 11 rfl rfl)
theorem dL_law_1063 : decode cL_law 1063 = .ok (.aload_n 0, 1) := dk_42 (dk_at dksL_law_38 12 rfl rfl)
theorem dL_law_1064 : decode cL_law 1064 = .ok (.iload 4, 2) := dk_21 4 (dk_at dksL_law_38 13 rfl rfl)
theorem dL_law_1066 : decode cL_law 1066 = .ok (.iconst 1, 1) := dk_4 (dk_at dksL_law_38 15 rfl rfl)
theorem dL_law_1067 : decode cL_law 1067 = .ok (.iadd, 1) := dk_96 (dk_at dksL_law_38 16 rfl rfl)
theorem dL_law_1068 : decode cL_law 1068 = .ok (.iaload, 1) := dk_46 (dk_at dksL_law_38 17 rfl rfl)
theorem dL_law_1069 : decode cL_law 1069 = .ok (.invokevirtual 150, 3) := dk_182 0 150 (dk_at dksL_law_38 18 rfl rfl)
theorem dL_law_1072 : decode cL_law 1072 = .ok (.if_icmp .eq 245, 3) := dk_159 0 245 (dk_at dksL_law_38 21 rfl rfl)
theorem dL_law_1075 : decode cL_law 1075 = .ok (.iconst 0, 1) := dk_3 (dk_at dksL_law_39 0 rfl rfl)
theorem dL_law_1076 : decode cL_law 1076 = .ok (.ireturn, 1) := dk_172 (dk_at dksL_law_39 1 rfl rfl)
theorem dL_law_1077 : decode cL_law 1077 = .ok (.aload_n 1, 1) := dk_43 (dk_at dksL_law_39 2 rfl rfl)
theorem dL_law_1078 : decode cL_law 1078 = .ok (.invokevirtual 151, 3) := dk_182 0 151 (dk_at dksL_law_39 3 rfl rfl)
theorem dL_law_1081 : decode cL_law 1081 = .ok (.aload_n 2, 1) := dk_44 (dk_at dksL_law_39 6 rfl rfl)
theorem dL_law_1082 : decode cL_law 1082 = .ok (.invokevirtual 154, 3) := dk_182 0 154 (dk_at dksL_law_39 7 rfl rfl)
theorem dL_law_1085 : decode cL_law 1085 = .ok (.if_icmp .eq 232, 3) := dk_159 0 232 (dk_at dksL_law_39 10 rfl rfl)
theorem dL_law_1088 : decode cL_law 1088 = .ok (.iconst 0, 1) := dk_3 (dk_at dksL_law_39 13 rfl rfl)
theorem dL_law_1089 : decode cL_law 1089 = .ok (.ireturn, 1) := dk_172 (dk_at dksL_law_39 14 rfl rfl)
theorem dL_law_1090 : decode cL_law 1090 = .ok (.aload_n 1, 1) := dk_43 (dk_at dksL_law_39 15 rfl rfl)
theorem dL_law_1091 : decode cL_law 1091 = .ok (.aload_n 0, 1) := dk_42 (dk_at dksL_law_39 16 rfl rfl)
theorem dL_law_1092 : decode cL_law 1092 = .ok (.iload 4, 2) := dk_21 4 (dk_at dksL_law_39 17 rfl rfl)
theorem dL_law_1094 : decode cL_law 1094 = .ok (.iconst 1, 1) := dk_4 (dk_at dksL_law_39 19 rfl rfl)
theorem dL_law_1095 : decode cL_law 1095 = .ok (.iadd, 1) := dk_96 (dk_at dksL_law_39 20 rfl rfl)
theorem dL_law_1096 : decode cL_law 1096 = .ok (.iaload, 1) := dk_46 (dk_at dksL_law_39 21 rfl rfl)
theorem dL_law_1097 : decode cL_law 1097 = .ok (.aload_n 0, 1) := dk_42 (dk_at dksL_law_39 22 rfl rfl)
theorem dL_law_1098 : decode cL_law 1098 = .ok (.iload 4, 2) := dk_21 4 (dk_at dksL_law_40 0 rfl rfl)
theorem dL_law_1100 : decode cL_law 1100 = .ok (.iconst 2, 1) := dk_5 (dk_at dksL_law_40 2 rfl rfl)
theorem dL_law_1101 : decode cL_law 1101 = .ok (.iadd, 1) := dk_96 (dk_at dksL_law_40 3 rfl rfl)
theorem dL_law_1102 : decode cL_law 1102 = .ok (.iaload, 1) := dk_46 (dk_at dksL_law_40 4 rfl rfl)
theorem dL_law_1103 : decode cL_law 1103 = .ok (.invokevirtual 155, 3) := dk_182 0 155 (dk_at dksL_law_40 5 rfl rfl)
theorem dL_law_1106 : decode cL_law 1106 = .ok (.aload_n 2, 1) := dk_44 (dk_at dksL_law_40 8 rfl rfl)
theorem dL_law_1107 : decode cL_law 1107 = .ok (.aload_n 0, 1) := dk_42 (dk_at dksL_law_40 9 rfl rfl)
theorem dL_law_1108 : decode cL_law 1108 = .ok (.iload 4, 2) := dk_21 4 (dk_at dksL_law_40 10 rfl rfl)
theorem dL_law_1110 : decode cL_law 1110 = .ok (.iconst 1, 1) := dk_4 (dk_at dksL_law_40 12 rfl rfl)
theorem dL_law_1111 : decode cL_law 1111 = .ok (.iadd, 1) := dk_96 (dk_at dksL_law_40 13 rfl rfl)
theorem dL_law_1112 : decode cL_law 1112 = .ok (.iaload, 1) := dk_46 (dk_at dksL_law_40 14 rfl rfl)
theorem dL_law_1113 : decode cL_law 1113 = .ok (.aload_n 0, 1) := dk_42 (dk_at dksL_law_40 15 rfl rfl)
theorem dL_law_1114 : decode cL_law 1114 = .ok (.iload 4, 2) := dk_21 4 (dk_at dksL_law_40 16 rfl rfl)
theorem dL_law_1116 : decode cL_law 1116 = .ok (.iconst 2, 1) := dk_5 (dk_at dksL_law_40 18 rfl rfl)
theorem dL_law_1117 : decode cL_law 1117 = .ok (.iadd, 1) := dk_96 (dk_at dksL_law_40 19 rfl rfl)
theorem dL_law_1118 : decode cL_law 1118 = .ok (.iaload, 1) := dk_46 (dk_at dksL_law_40 20 rfl rfl)
theorem dL_law_1119 : decode cL_law 1119 = .ok (.invokevirtual 158, 3) := dk_182 0 158 (dk_at dksL_law_40 21 rfl rfl)
theorem dL_law_1122 : decode cL_law 1122 = .ok (.if_icmp .eq 195, 3) := dk_159 0 195 (dk_at dksL_law_41 0 rfl rfl)
theorem dL_law_1125 : decode cL_law 1125 = .ok (.iconst 0, 1) := dk_3 (dk_at dksL_law_41 3 rfl rfl)
theorem dL_law_1126 : decode cL_law 1126 = .ok (.ireturn, 1) := dk_172 (dk_at dksL_law_41 4 rfl rfl)
theorem dL_law_1127 : decode cL_law 1127 = .ok (.aload_n 1, 1) := dk_43 (dk_at dksL_law_41 5 rfl rfl)
theorem dL_law_1128 : decode cL_law 1128 = .ok (.aload_n 0, 1) := dk_42 (dk_at dksL_law_41 6 rfl rfl)
theorem dL_law_1129 : decode cL_law 1129 = .ok (.iload 4, 2) := dk_21 4 (dk_at dksL_law_41 7 rfl rfl)
theorem dL_law_1131 : decode cL_law 1131 = .ok (.iconst 1, 1) := dk_4 (dk_at dksL_law_41 9 rfl rfl)
theorem dL_law_1132 : decode cL_law 1132 = .ok (.iadd, 1) := dk_96 (dk_at dksL_law_41 10 rfl rfl)
theorem dL_law_1133 : decode cL_law 1133 = .ok (.iaload, 1) := dk_46 (dk_at dksL_law_41 11 rfl rfl)
theorem dL_law_1134 : decode cL_law 1134 = .ok (.invokevirtual 159, 3) := dk_182 0 159 (dk_at dksL_law_41 12 rfl rfl)
theorem dL_law_1137 : decode cL_law 1137 = .ok (.aload_n 2, 1) := dk_44 (dk_at dksL_law_41 15 rfl rfl)
theorem dL_law_1138 : decode cL_law 1138 = .ok (.aload_n 0, 1) := dk_42 (dk_at dksL_law_41 16 rfl rfl)
theorem dL_law_1139 : decode cL_law 1139 = .ok (.iload 4, 2) := dk_21 4 (dk_at dksL_law_41 17 rfl rfl)
theorem dL_law_1141 : decode cL_law 1141 = .ok (.iconst 1, 1) := dk_4 (dk_at dksL_law_41 19 rfl rfl)
theorem dL_law_1142 : decode cL_law 1142 = .ok (.iadd, 1) := dk_96 (dk_at dksL_law_41 20 rfl rfl)
theorem dL_law_1143 : decode cL_law 1143 = .ok (.iaload, 1) := dk_46 (dk_at dksL_law_41 21 rfl rfl)
theorem dL_law_1144 : decode cL_law 1144 = .ok (.invokevirtual 162, 3) := dk_182 0 162 (dk_at dksL_law_42 0 rfl rfl)
theorem dL_law_1147 : decode cL_law 1147 = .ok (.if_icmp .eq 170, 3) := dk_159 0 170 (dk_at dksL_law_42 3 rfl rfl)
theorem dL_law_1150 : decode cL_law 1150 = .ok (.iconst 0, 1) := dk_3 (dk_at dksL_law_42 6 rfl rfl)
theorem dL_law_1151 : decode cL_law 1151 = .ok (.ireturn, 1) := dk_172 (dk_at dksL_law_42 7 rfl rfl)
theorem dL_law_1152 : decode cL_law 1152 = .ok (.aload_n 1, 1) := dk_43 (dk_at dksL_law_42 8 rfl rfl)
theorem dL_law_1153 : decode cL_law 1153 = .ok (.invokevirtual 163, 3) := dk_182 0 163 (dk_at dksL_law_42 9 rfl rfl)
theorem dL_law_1156 : decode cL_law 1156 = .ok (.aload_n 2, 1) := dk_44 (dk_at dksL_law_42 12 rfl rfl)
theorem dL_law_1157 : decode cL_law 1157 = .ok (.invokevirtual 166, 3) := dk_182 0 166 (dk_at dksL_law_42 13 rfl rfl)
theorem dL_law_1160 : decode cL_law 1160 = .ok (.if_icmp .eq 157, 3) := dk_159 0 157 (dk_at dksL_law_42 16 rfl rfl)
theorem dL_law_1163 : decode cL_law 1163 = .ok (.iconst 0, 1) := dk_3 (dk_at dksL_law_42 19 rfl rfl)
theorem dL_law_1164 : decode cL_law 1164 = .ok (.ireturn, 1) := dk_172 (dk_at dksL_law_42 20 rfl rfl)
theorem dL_law_1165 : decode cL_law 1165 = .ok (.aload_n 1, 1) := dk_43 (dk_at dksL_law_42 21 rfl rfl)
theorem dL_law_1166 : decode cL_law 1166 = .ok (.aload_n 0, 1) := dk_42 (dk_at dksL_law_42 22 rfl rfl)
theorem dL_law_1167 : decode cL_law 1167 = .ok (.iload 4, 2) := dk_21 4 (dk_at dksL_law_43 0 rfl rfl)
theorem dL_law_1169 : decode cL_law 1169 = .ok (.iconst 1, 1) := dk_4 (dk_at dksL_law_43 2 rfl rfl)
theorem dL_law_1170 : decode cL_law 1170 = .ok (.iadd, 1) := dk_96 (dk_at dksL_law_43 3 rfl rfl)
theorem dL_law_1171 : decode cL_law 1171 = .ok (.iaload, 1) := dk_46 (dk_at dksL_law_43 4 rfl rfl)
theorem dL_law_1172 : decode cL_law 1172 = .ok (.invokevirtual 167, 3) := dk_182 0 167 (dk_at dksL_law_43 5 rfl rfl)
theorem dL_law_1175 : decode cL_law 1175 = .ok (.aload_n 2, 1) := dk_44 (dk_at dksL_law_43 8 rfl rfl)
theorem dL_law_1176 : decode cL_law 1176 = .ok (.aload_n 0, 1) := dk_42 (dk_at dksL_law_43 9 rfl rfl)
theorem dL_law_1177 : decode cL_law 1177 = .ok (.iload 4, 2) := dk_21 4 (dk_at dksL_law_43 10 rfl rfl)
theorem dL_law_1179 : decode cL_law 1179 = .ok (.iconst 1, 1) := dk_4 (dk_at dksL_law_43 12 rfl rfl)
theorem dL_law_1180 : decode cL_law 1180 = .ok (.iadd, 1) := dk_96 (dk_at dksL_law_43 13 rfl rfl)
theorem dL_law_1181 : decode cL_law 1181 = .ok (.iaload, 1) := dk_46 (dk_at dksL_law_43 14 rfl rfl)
theorem dL_law_1182 : decode cL_law 1182 = .ok (.invokevirtual 170, 3) := dk_182 0 170 (dk_at dksL_law_43 15 rfl rfl)
theorem dL_law_1185 : decode cL_law 1185 = .ok (.if_icmp .eq 132, 3) := dk_159 0 132 (dk_at dksL_law_43 18 rfl rfl)
theorem dL_law_1188 : decode cL_law 1188 = .ok (.iconst 0, 1) := dk_3 (dk_at dksL_law_43 21 rfl rfl)
theorem dL_law_1189 : decode cL_law 1189 = .ok (.ireturn, 1) := dk_172 (dk_at dksL_law_43 22 rfl rfl)
theorem dL_law_1190 : decode cL_law 1190 = .ok (.aload_n 1, 1) := dk_43 (dk_at dksL_law_43 23 rfl rfl)
theorem dL_law_1191 : decode cL_law 1191 = .ok (.invokevirtual 171, 3) := dk_182 0 171 (dk_at dksL_law_44 0 rfl rfl)
theorem dL_law_1194 : decode cL_law 1194 = .ok (.aload_n 2, 1) := dk_44 (dk_at dksL_law_44 3 rfl rfl)
theorem dL_law_1195 : decode cL_law 1195 = .ok (.invokevirtual 174, 3) := dk_182 0 174 (dk_at dksL_law_44 4 rfl rfl)
theorem dL_law_1198 : decode cL_law 1198 = .ok (.if_icmp .eq 119, 3) := dk_159 0 119 (dk_at dksL_law_44 7 rfl rfl)
theorem dL_law_1201 : decode cL_law 1201 = .ok (.iconst 0, 1) := dk_3 (dk_at dksL_law_44 10 rfl rfl)
theorem dL_law_1202 : decode cL_law 1202 = .ok (.ireturn, 1) := dk_172 (dk_at dksL_law_44 11 rfl rfl)
theorem dL_law_1203 : decode cL_law 1203 = .ok (.aload_n 1, 1) := dk_43 (dk_at dksL_law_44 12 rfl rfl)
theorem dL_law_1204 : decode cL_law 1204 = .ok (.invokevirtual 175, 3) := dk_182 0 175 (dk_at dksL_law_44 13 rfl rfl)
theorem dL_law_1207 : decode cL_law 1207 = .ok (.aload_n 2, 1) := dk_44 (dk_at dksL_law_44 16 rfl rfl)
theorem dL_law_1208 : decode cL_law 1208 = .ok (.invokevirtual 178, 3) := dk_182 0 178 (dk_at dksL_law_44 17 rfl rfl)
theorem dL_law_1211 : decode cL_law 1211 = .ok (.if_icmp .eq 106, 3) := dk_159 0 106 (dk_at dksL_law_44 20 rfl rfl)
theorem dL_law_1214 : decode cL_law 1214 = .ok (.iconst 0, 1) := dk_3 (dk_at dksL_law_44 23 rfl rfl)
theorem dL_law_1215 : decode cL_law 1215 = .ok (.ireturn, 1) := dk_172 (dk_at dksL_law_45 0 rfl rfl)
theorem dL_law_1216 : decode cL_law 1216 = .ok (.aload_n 1, 1) := dk_43 (dk_at dksL_law_45 1 rfl rfl)
theorem dL_law_1217 : decode cL_law 1217 = .ok (.invokevirtual 179, 3) := dk_182 0 179 (dk_at dksL_law_45 2 rfl rfl)
theorem dL_law_1220 : decode cL_law 1220 = .ok (.aload_n 2, 1) := dk_44 (dk_at dksL_law_45 5 rfl rfl)
theorem dL_law_1221 : decode cL_law 1221 = .ok (.invokevirtual 182, 3) := dk_182 0 182 (dk_at dksL_law_45 6 rfl rfl)
theorem dL_law_1224 : decode cL_law 1224 = .ok (.if_icmp .eq 93, 3) := dk_159 0 93 (dk_at dksL_law_45 9 rfl rfl)
theorem dL_law_1227 : decode cL_law 1227 = .ok (.iconst 0, 1) := dk_3 (dk_at dksL_law_45 12 rfl rfl)
theorem dL_law_1228 : decode cL_law 1228 = .ok (.ireturn, 1) := dk_172 (dk_at dksL_law_45 13 rfl rfl)
theorem dL_law_1229 : decode cL_law 1229 = .ok (.aload_n 1, 1) := dk_43 (dk_at dksL_law_45 14 rfl rfl)
theorem dL_law_1230 : decode cL_law 1230 = .ok (.invokevirtual 183, 3) := dk_182 0 183 (dk_at dksL_law_45 15 rfl rfl)
theorem dL_law_1233 : decode cL_law 1233 = .ok (.aload_n 2, 1) := dk_44 (dk_at dksL_law_45 18 rfl rfl)
theorem dL_law_1234 : decode cL_law 1234 = .ok (.invokevirtual 186, 3) := dk_182 0 186 (dk_at dksL_law_45 19 rfl rfl)
theorem dL_law_1237 : decode cL_law 1237 = .ok (.if_icmp .eq 80, 3) := dk_159 0 80 (dk_at dksL_law_46 0 rfl rfl)
theorem dL_law_1240 : decode cL_law 1240 = .ok (.iconst 0, 1) := dk_3 (dk_at dksL_law_46 3 rfl rfl)
theorem dL_law_1241 : decode cL_law 1241 = .ok (.ireturn, 1) := dk_172 (dk_at dksL_law_46 4 rfl rfl)
theorem dL_law_1242 : decode cL_law 1242 = .ok (.aload_n 1, 1) := dk_43 (dk_at dksL_law_46 5 rfl rfl)
theorem dL_law_1243 : decode cL_law 1243 = .ok (.aload_n 0, 1) := dk_42 (dk_at dksL_law_46 6 rfl rfl)
theorem dL_law_1244 : decode cL_law 1244 = .ok (.iload 4, 2) := dk_21 4 (dk_at dksL_law_46 7 rfl rfl)
theorem dL_law_1246 : decode cL_law 1246 = .ok (.iconst 1, 1) := dk_4 (dk_at dksL_law_46 9 rfl rfl)
theorem dL_law_1247 : decode cL_law 1247 = .ok (.iadd, 1) := dk_96 (dk_at dksL_law_46 10 rfl rfl)
theorem dL_law_1248 : decode cL_law 1248 = .ok (.iaload, 1) := dk_46 (dk_at dksL_law_46 11 rfl rfl)
theorem dL_law_1249 : decode cL_law 1249 = .ok (.invokevirtual 187, 3) := dk_182 0 187 (dk_at dksL_law_46 12 rfl rfl)
theorem dL_law_1252 : decode cL_law 1252 = .ok (.aload_n 2, 1) := dk_44 (dk_at dksL_law_46 15 rfl rfl)
theorem dL_law_1253 : decode cL_law 1253 = .ok (.aload_n 0, 1) := dk_42 (dk_at dksL_law_46 16 rfl rfl)
theorem dL_law_1254 : decode cL_law 1254 = .ok (.iload 4, 2) := dk_21 4 (dk_at dksL_law_46 17 rfl rfl)
theorem dL_law_1256 : decode cL_law 1256 = .ok (.iconst 1, 1) := dk_4 (dk_at dksL_law_46 19 rfl rfl)
theorem dL_law_1257 : decode cL_law 1257 = .ok (.iadd, 1) := dk_96 (dk_at dksL_law_46 20 rfl rfl)
theorem dL_law_1258 : decode cL_law 1258 = .ok (.iaload, 1) := dk_46 (dk_at dksL_law_46 21 rfl rfl)
theorem dL_law_1259 : decode cL_law 1259 = .ok (.invokevirtual 190, 3) := dk_182 0 190 (dk_at dksL_law_47 0 rfl rfl)
theorem dL_law_1262 : decode cL_law 1262 = .ok (.if_icmp .eq 55, 3) := dk_159 0 55 (dk_at dksL_law_47 3 rfl rfl)
theorem dL_law_1265 : decode cL_law 1265 = .ok (.iconst 0, 1) := dk_3 (dk_at dksL_law_47 6 rfl rfl)
theorem dL_law_1266 : decode cL_law 1266 = .ok (.ireturn, 1) := dk_172 (dk_at dksL_law_47 7 rfl rfl)
theorem dL_law_1267 : decode cL_law 1267 = .ok (.aload_n 1, 1) := dk_43 (dk_at dksL_law_47 8 rfl rfl)
theorem dL_law_1268 : decode cL_law 1268 = .ok (.aload_n 0, 1) := dk_42 (dk_at dksL_law_47 9 rfl rfl)
theorem dL_law_1269 : decode cL_law 1269 = .ok (.iload 4, 2) := dk_21 4 (dk_at dksL_law_47 10 rfl rfl)
theorem dL_law_1271 : decode cL_law 1271 = .ok (.iconst 1, 1) := dk_4 (dk_at dksL_law_47 12 rfl rfl)
theorem dL_law_1272 : decode cL_law 1272 = .ok (.iadd, 1) := dk_96 (dk_at dksL_law_47 13 rfl rfl)
theorem dL_law_1273 : decode cL_law 1273 = .ok (.iaload, 1) := dk_46 (dk_at dksL_law_47 14 rfl rfl)
theorem dL_law_1274 : decode cL_law 1274 = .ok (.invokevirtual 191, 3) := dk_182 0 191 (dk_at dksL_law_47 15 rfl rfl)
theorem dL_law_1277 : decode cL_law 1277 = .ok (.aload_n 2, 1) := dk_44 (dk_at dksL_law_47 18 rfl rfl)
theorem dL_law_1278 : decode cL_law 1278 = .ok (.aload_n 0, 1) := dk_42 (dk_at dksL_law_47 19 rfl rfl)
theorem dL_law_1279 : decode cL_law 1279 = .ok (.iload 4, 2) := dk_21 4 (dk_at dksL_law_47 20 rfl rfl)
theorem dL_law_1281 : decode cL_law 1281 = .ok (.iconst 1, 1) := dk_4 (dk_at dksL_law_47 22 rfl rfl)
theorem dL_law_1282 : decode cL_law 1282 = .ok (.iadd, 1) := dk_96 (dk_at dksL_law_47 23 rfl rfl)
theorem dL_law_1283 : decode cL_law 1283 = .ok (.iaload, 1) := dk_46 (dk_at dksL_law_48 0 rfl rfl)
theorem dL_law_1284 : decode cL_law 1284 = .ok (.invokevirtual 194, 3) := dk_182 0 194 (dk_at dksL_law_48 1 rfl rfl)
theorem dL_law_1287 : decode cL_law 1287 = .ok (.if_icmp .eq 30, 3) := dk_159 0 30 (dk_at dksL_law_48 4 rfl rfl)
theorem dL_law_1290 : decode cL_law 1290 = .ok (.iconst 0, 1) := dk_3 (dk_at dksL_law_48 7 rfl rfl)
theorem dL_law_1291 : decode cL_law 1291 = .ok (.ireturn, 1) := dk_172 (dk_at dksL_law_48 8 rfl rfl)
theorem dL_law_1292 : decode cL_law 1292 = .ok (.aload_n 1, 1) := dk_43 (dk_at dksL_law_48 9 rfl rfl)
theorem dL_law_1293 : decode cL_law 1293 = .ok (.aload_n 0, 1) := dk_42 (dk_at dksL_law_48 10 rfl rfl)
theorem dL_law_1294 : decode cL_law 1294 = .ok (.iload 4, 2) := dk_21 4 (dk_at dksL_law_48 11 rfl rfl)
theorem dL_law_1296 : decode cL_law 1296 = .ok (.iconst 1, 1) := dk_4 (dk_at dksL_law_48 13 rfl rfl)
theorem dL_law_1297 : decode cL_law 1297 = .ok (.iadd, 1) := dk_96 (dk_at dksL_law_48 14 rfl rfl)
theorem dL_law_1298 : decode cL_law 1298 = .ok (.iaload, 1) := dk_46 (dk_at dksL_law_48 15 rfl rfl)
theorem dL_law_1299 : decode cL_law 1299 = .ok (.invokevirtual 195, 3) := dk_182 0 195 (dk_at dksL_law_48 16 rfl rfl)
theorem dL_law_1302 : decode cL_law 1302 = .ok (.aload_n 2, 1) := dk_44 (dk_at dksL_law_48 19 rfl rfl)
theorem dL_law_1303 : decode cL_law 1303 = .ok (.aload_n 0, 1) := dk_42 (dk_at dksL_law_48 20 rfl rfl)
theorem dL_law_1304 : decode cL_law 1304 = .ok (.iload 4, 2) := dk_21 4 (dk_at dksL_law_48 21 rfl rfl)
theorem dL_law_1306 : decode cL_law 1306 = .ok (.iconst 1, 1) := dk_4 (dk_at dksL_law_48 23 rfl rfl)
theorem dL_law_1307 : decode cL_law 1307 = .ok (.iadd, 1) := dk_96 (dk_at dksL_law_49 0 rfl rfl)
theorem dL_law_1308 : decode cL_law 1308 = .ok (.iaload, 1) := dk_46 (dk_at dksL_law_49 1 rfl rfl)
theorem dL_law_1309 : decode cL_law 1309 = .ok (.invokevirtual 198, 3) := dk_182 0 198 (dk_at dksL_law_49 2 rfl rfl)
theorem dL_law_1312 : decode cL_law 1312 = .ok (.if_icmp .eq 5, 3) := dk_159 0 5 (dk_at dksL_law_49 5 rfl rfl)
theorem dL_law_1315 : decode cL_law 1315 = .ok (.iconst 0, 1) := dk_3 (dk_at dksL_law_49 8 rfl rfl)
theorem dL_law_1316 : decode cL_law 1316 = .ok (.ireturn, 1) := dk_172 (dk_at dksL_law_49 9 rfl rfl)
theorem dL_law_1317 : decode cL_law 1317 = .ok (.iinc 4 6, 3) := dk_132 4 6 (dk_at dksL_law_49 10 rfl rfl)
theorem dL_law_1320 : decode cL_law 1320 = .ok (.goto (-1297), 3) := dk_167 250 239 (dk_at dksL_law_49 13 rfl rfl)
theorem dL_law_1323 : decode cL_law 1323 = .ok (.iconst 1, 1) := dk_4 (dk_at dksL_law_49 16 rfl rfl)
theorem dL_law_1324 : decode cL_law 1324 = .ok (.ireturn, 1) := dk_172 (dk_at dksL_law_49 17 rfl rfl)
/-! ===== the law: a run of it as a chain of heaps ===== -/
noncomputable def Mo.pt {α : Type} (v : α) (h1 : gH) : α → Mo Unit := fun x => ⟨fun h => @ite _ (x = v ∧ h = h1) (Classical.propDecidable _) (some ((), h1)) none, fun h r h' e => by
  dsimp only at e
  by_cases z : x = v ∧ h = h1
  · rw [if_pos z] at e; cases e; rw [z.2]; exact gLe.rf
  · rw [if_neg z] at e; cases e⟩
theorem Mo.pt_run {α : Type} {v x : α} {h1 h : gH} : (Mo.pt v h1 x).1 h = @ite _ (x = v ∧ h = h1) (Classical.propDecidable _) (some ((), h1)) none := rfl
theorem Mo.pt_bind {α : Type} {f : Mo α} {v : α} {h h1 : gH} (e : f.1 h = some (v, h1)) : (Mo.bind f (Mo.pt v h1)).1 h = some ((), h1) := by
  rw [Mo.bind_of e, Mo.pt_run, if_pos ⟨rfl, rfl⟩]
theorem Mo.pt_some {α : Type} {v x : α} {h1 h h' : gH} {u : Unit} (e : (Mo.pt v h1 x).1 h = some (u, h')) : x = v ∧ h = h1 ∧ h' = h1 := by
  rw [Mo.pt_run] at e
  by_cases z : x = v ∧ h = h1
  · rw [if_pos z] at e; cases e; exact ⟨z.1, z.2, rfl⟩
  · rw [if_neg z] at e; cases e
/-- a call of the class, then the same of the reference, with one answer -/
def LS2 {α : Type} (am : Nat) (f : Mo α) (F : TM α) (h h' : gH) : Prop := ∃ (v : α) (h1 hn : gH) (ms ms' : MS), f.1 h = some (v, h1) ∧ h1 = mkM am hn ms ∧ F ms = some (v, ms') ∧ h' = mkM am hn ms'
theorem LS2.le {α : Type} {am : Nat} {f : Mo α} {F : TM α} {h h' : gH} (s : LS2 am f F h h') : gLe h h' := by
  obtain ⟨v, h1, hn, ms, ms', e1, rfl, e3, rfl⟩ := s
  exact (f.2 _ _ _ e1).tr mLe
section
variable {K : gK} {cc : ByteArray} {nL : Nat} {own nm : String} {ret : Option FieldType} {fr lo : Nat} {h : gH} {pc : Nat} {lv : List (Nat × Value)} {st : List Value}
theorem v_refV (X : gX K cc nL own nm ret fr lo) {am : Nat} {hn : gH} {ms ms' : MS} {As : List Value} {α : Type} {F : TM α} {ov : α → Option Value} {v : α} {y : MethodName} {cy : ByteArray} {nLy fry loy : Nat} {rety : Option FieldType} (e : F ms = some (v, ms')) (hle : gLe (mkM am hn ms') (kh1 K)) (ct : gCtM (kG K) am y cy nLy rety fry loy (.ref am :: As) F ov) {index n : Nat} (hw : GoodIn lw_all (wsV own index RX10 y (ws_ y cy nLy rety))) (hdn : y.cls = RX10 ∧ y.cls ≠ "java/lang/invoke/MethodHandle" ∧ y.cls ≠ "java/lang/invoke/VarHandle" ∧ (parseMethodDescriptor y.desc).map (fun d => d.parameters.length) = some n) (hn0 : As.length = n)
    (hR : fry + 1 ≤ fr ∧ 8 + (nLy + 11) + loy ≤ lo) {st0 : List Value} (hst : st0 = As.reverse ++ .ref am :: st) (hW8 : (st.map fun v => v.category).sum ≤ 8) (hdg : decode cc pc = .ok (.invokevirtual index, 3))
    (kk : V K nL (mkM am hn ms') (pc + 3) lv ((ov v).toList ++ st)) : V K nL (mkM am hn ms) pc lv st0 := by
  have hc : (Mo.bind (chk [8] am) (fun _ => Mo.gr (mkM am hn ms) (mkM am hn ms') v mLe)).1 (mkM am hn ms) = some (v, mkM am hn ms') := by
    have e1 : (chk [8] am).1 (mkM am hn ms) = some ((), mkM am hn ms) := by
      unfold chk Mo.rd gOk
      simp only [mkM_o]
      simp
    rw [Mo.bind_of e1]
    exact Mo.gr_of
  refine v_callV (ci := 8) (f0 := fun _ => Mo.gr (mkM am hn ms) (mkM am hn ms') v mLe) X (Mo.pt_bind hc) hle (fun l hl h r h' e => ct hn ms v ms' ‹F ms = some (v, ms')› l hl h r h' (chk_some e).2) gCl_X10 hw hdn hn0 hR hst hW8 hdg (fun v2 h2 hd => ?_)
  obtain ⟨rfl, rfl, -⟩ := Mo.pt_some hd
  exact kk
theorem v_xlen (X : gX K cc nL own nm ret fr lo) {b L : Nat} {xs : Nat → Int32} (hB : va_T .int b L (fun j => .int (xs j)) (gY (kG K)) (ks K) (ks K).heap) (hdg : decode cc pc = .ok (.arraylength, 1)) (k : V K nL h (pc + 1) lv (.int (nI L) :: st)) : V K nL h pc lv (.ref b :: st) :=
  fun ls hl H locs cells slots rp => va_tlen X.hx X.hb hB rp.2.1 rfl hdg (k ls hl H locs cells slots rp)
theorem v_xald (X : gX K cc nL own nm ret fr lo) {b L : Nat} {xs : Nat → Int32} (hB : va_T .int b L (fun j => .int (xs j)) (gY (kG K)) (ks K) (ks K).heap) {i : Nat} (hi : i < L) (hi2 : i < 2 ^ 31) (hdg : decode cc pc = .ok (.iaload, 1)) (k : V K nL h (pc + 1) lv (.int (xs i) :: st)) : V K nL h pc lv (.int (nI i) :: .ref b :: st) :=
  fun ls hl H locs cells slots rp => va_ti X.hx X.hb hB rp.2.1 (i := nI i) (fun z => z.elim (nI_pos hi2) (fun z => by rw [nI_clamp hi2] at z; omega)) (by rw [nI_clamp hi2]) hdg (k ls hl H locs cells slots rp)
theorem nI_plus (i k : Nat) : nI i + nI k = nI (i + k) := by
  unfold nI
  rw [Int32.ofNat_add]
theorem v_arg (X : gX K cc nL own nm ret fr lo) {b L i : Nat} {xs : Nat → Int32} (hB : va_T .int b L (fun j => .int (xs j)) (gY (kG K)) (ks K) (ks K).heap) (k : Nat) (hi : i + k < L) (hi2 : i + k < 2 ^ 31) (q0 q4 : Nat) (h0 : lv[q0]? = some (0, .ref b)) (h4 : lv[q4]? = some (4, .int (nI i))) {n : Int} (hv : Int32.ofInt n = nI k) (d0 : decode cc pc = .ok (.aload_n 0, 1)) (d1 : decode cc (pc + 1) = .ok (.iload 4, 2)) (d2 : decode cc (pc + 3) = .ok (.iconst n, 1)) (d3 : decode cc (pc + 4) = .ok (.iadd, 1)) (d4 : decode cc (pc + 5) = .ok (.iaload, 1))
    (kk : V K nL h (pc + 6) lv (.int (xs (i + k)) :: st)) : V K nL h pc lv st := by
  refine v_aload_n X d0 q0 0 rfl h0 ?_
  refine v_iload X d1 q4 h4 ?_
  refine v_iconst X d2 hv ?_
  refine v_iadd X d3 ?_
  rw [nI_plus]
  exact v_xald X hB hi hi2 d4 kk
end
theorem law_cmp {i L : Nat} (hi : i ≤ 400) (hL : L ≤ 400) : (nI L - 6 < nI i) ↔ L < i + 6 := by
  have e6 : (6 : Int32).toInt = 6 := by decide
  rw [Int32.lt_iff_toInt_lt, Int32.toInt_sub, nI_toInt (by omega), nI_toInt (by omega), e6]
  have e : ((L : Int) - 6).bmod (2 ^ 32) = L - 6 := by
    rw [Int.bmod_eq_of_le] <;> omega
  rw [e]
  omega
theorem lg_cmp_self (x : Int64) : lg_cmp x x = 0 := by
  unfold lg_cmp
  simp
section
variable {K : gK} {b L ax am ao i : Nat} {xs : Nat → Int32} {h h' : gH}
def LS_0 (ax am ao : Nat) (a : Nat → Int32) (h h' : gH) : Prop := LS2 am (M_X1_feed ax (a 1) (a 2) (a 3) (a 4) (a 5)) (M_X10_feed (a 1) (a 2) (a 3) (a 4) (a 5)) h h'
set_option maxHeartbeats 4000000 in
theorem lawc_0 (X : gX K cL_law 7 "BitingDoorsLaw" "law" (some .boolean) 107 2665) (hB : va_T .int b L (fun j => .int (xs j)) (gY (kG K)) (ks K) (ks K).heap) (hL : L ≤ 384) (hi : i + 6 ≤ L) (hle : gLe h' (kh1 K)) (next : V K 7 h' 1317 [(0, .ref b), (1, .ref ax), (2, .ref am), (3, .ref ao), (4, .int (nI i))] []) (hS : LS_0 ax am ao (fun k => xs (i + k)) h h') : V K 7 h 224 [(0, .ref b), (1, .ref ax), (2, .ref am), (3, .ref ao), (4, .int (nI i))] [] := by
  obtain ⟨v, h1, hn, ms, ms', e1, rfl, e3, rfl⟩ := hS
  have LE1 : gLe (mkM am hn ms) (kh1 K) := ⟨hle.1, hle.2⟩
  refine v_aload_n X dL_law_224 1 1 rfl rfl ?_
  refine v_arg X hB 1 (by omega) (by omega) 0 4 rfl rfl (by decide) dL_law_225 dL_law_226 dL_law_228 dL_law_229 dL_law_230 ?_
  refine v_arg X hB 2 (by omega) (by omega) 0 4 rfl rfl (by decide) dL_law_231 dL_law_232 dL_law_234 dL_law_235 dL_law_236 ?_
  refine v_arg X hB 3 (by omega) (by omega) 0 4 rfl rfl (by decide) dL_law_237 dL_law_238 dL_law_240 dL_law_241 dL_law_242 ?_
  refine v_arg X hB 4 (by omega) (by omega) 0 4 rfl rfl (by decide) dL_law_243 dL_law_244 dL_law_246 dL_law_247 dL_law_248 ?_
  refine v_arg X hB 5 (by omega) (by omega) 0 4 rfl rfl (by decide) dL_law_249 dL_law_250 dL_law_252 dL_law_253 dL_law_254 ?_
  refine v_callV X (Mo.pt_bind e1) LE1 (ct_X1_feed _ ax (xs (i + 1)) (xs (i + 2)) (xs (i + 3)) (xs (i + 4)) (xs (i + 5))) gCl_X1 (lw_V q640 q641 q642 q109 q643) ⟨rfl, dn_X1_feed⟩ rfl ⟨by decide, by decide⟩ rfl (Nat.le_of_ble_eq_true rfl) dL_law_255 (fun v2 h2 hd => ?_)
  obtain ⟨rfl, rfl, -⟩ := Mo.pt_some hd
  show V K 7 _ 258 [(0, .ref b), (1, .ref ax), (2, .ref am), (3, .ref ao), (4, .int (nI i))] [.int _]
  refine v_aload_n X dL_law_258 2 2 rfl rfl ?_
  refine v_arg X hB 1 (by omega) (by omega) 0 4 rfl rfl (by decide) dL_law_259 dL_law_260 dL_law_262 dL_law_263 dL_law_264 ?_
  refine v_arg X hB 2 (by omega) (by omega) 0 4 rfl rfl (by decide) dL_law_265 dL_law_266 dL_law_268 dL_law_269 dL_law_270 ?_
  refine v_arg X hB 3 (by omega) (by omega) 0 4 rfl rfl (by decide) dL_law_271 dL_law_272 dL_law_274 dL_law_275 dL_law_276 ?_
  refine v_arg X hB 4 (by omega) (by omega) 0 4 rfl rfl (by decide) dL_law_277 dL_law_278 dL_law_280 dL_law_281 dL_law_282 ?_
  refine v_arg X hB 5 (by omega) (by omega) 0 4 rfl rfl (by decide) dL_law_283 dL_law_284 dL_law_286 dL_law_287 dL_law_288 ?_
  refine v_refV X e3 hle (ct_X10_feed _ am (xs (i + 1)) (xs (i + 2)) (xs (i + 3)) (xs (i + 4)) (xs (i + 5))) (lw_V q1848 q1849 q1850 q120 q1851) ⟨rfl, dn_X10_feed⟩ rfl ⟨by decide, by decide⟩ rfl (Nat.le_of_ble_eq_true rfl) dL_law_289 ?_
  show V K 7 _ 292 [(0, .ref b), (1, .ref ax), (2, .ref am), (3, .ref ao), (4, .int (nI i))] [.int _, .int _]
  exact v_icmp_eq (tgt := 1317) X dL_law_292 (by decide) (fun _ => next) (fun q => absurd rfl q)
def LS_1 (ax am ao : Nat) (a : Nat → Int32) (h h' : gH) : Prop := LS2 am (M_X1_end ax (a 1)) (M_X10_end (a 1)) h h'
set_option maxHeartbeats 4000000 in
theorem lawc_1 (X : gX K cL_law 7 "BitingDoorsLaw" "law" (some .boolean) 107 2665) (hB : va_T .int b L (fun j => .int (xs j)) (gY (kG K)) (ks K) (ks K).heap) (hL : L ≤ 384) (hi : i + 6 ≤ L) (hle : gLe h' (kh1 K)) (next : V K 7 h' 1317 [(0, .ref b), (1, .ref ax), (2, .ref am), (3, .ref ao), (4, .int (nI i))] []) (hS : LS_1 ax am ao (fun k => xs (i + k)) h h') : V K 7 h 297 [(0, .ref b), (1, .ref ax), (2, .ref am), (3, .ref ao), (4, .int (nI i))] [] := by
  obtain ⟨v, h1, hn, ms, ms', e1, rfl, e3, rfl⟩ := hS
  have LE1 : gLe (mkM am hn ms) (kh1 K) := ⟨hle.1, hle.2⟩
  refine v_aload_n X dL_law_297 1 1 rfl rfl ?_
  refine v_arg X hB 1 (by omega) (by omega) 0 4 rfl rfl (by decide) dL_law_298 dL_law_299 dL_law_301 dL_law_302 dL_law_303 ?_
  refine v_callV X (Mo.pt_bind e1) LE1 (ct_X1_end _ ax (xs (i + 1))) gCl_X1 (lw_V q648 q649 q650 q109 q651) ⟨rfl, dn_X1_end⟩ rfl ⟨by decide, by decide⟩ rfl (Nat.le_of_ble_eq_true rfl) dL_law_304 (fun v2 h2 hd => ?_)
  obtain ⟨rfl, rfl, -⟩ := Mo.pt_some hd
  show V K 7 _ 307 [(0, .ref b), (1, .ref ax), (2, .ref am), (3, .ref ao), (4, .int (nI i))] [.int (b2i _)]
  refine v_aload_n X dL_law_307 2 2 rfl rfl ?_
  refine v_arg X hB 1 (by omega) (by omega) 0 4 rfl rfl (by decide) dL_law_308 dL_law_309 dL_law_311 dL_law_312 dL_law_313 ?_
  refine v_refV X e3 hle (ct_X10_end _ am (xs (i + 1))) (lw_V q1856 q1857 q1858 q120 q1859) ⟨rfl, dn_X10_end⟩ rfl ⟨by decide, by decide⟩ rfl (Nat.le_of_ble_eq_true rfl) dL_law_314 ?_
  show V K 7 _ 317 [(0, .ref b), (1, .ref ax), (2, .ref am), (3, .ref ao), (4, .int (nI i))] [.int (b2i _), .int (b2i _)]
  exact v_icmp_eq (tgt := 1317) X dL_law_317 (by decide) (fun _ => next) (fun q => absurd rfl q)
def LS_2 (ax am ao : Nat) (a : Nat → Int32) (h h' : gH) : Prop := LS2 am (M_X1_house ax) (M_X10_house) h h'
set_option maxHeartbeats 4000000 in
theorem lawc_2 (X : gX K cL_law 7 "BitingDoorsLaw" "law" (some .boolean) 107 2665) (hB : va_T .int b L (fun j => .int (xs j)) (gY (kG K)) (ks K) (ks K).heap) (hL : L ≤ 384) (hi : i + 6 ≤ L) (hle : gLe h' (kh1 K)) (next : V K 7 h' 1317 [(0, .ref b), (1, .ref ax), (2, .ref am), (3, .ref ao), (4, .int (nI i))] []) (hS : LS_2 ax am ao (fun k => xs (i + k)) h h') : V K 7 h 322 [(0, .ref b), (1, .ref ax), (2, .ref am), (3, .ref ao), (4, .int (nI i))] [] := by
  obtain ⟨v, h1, hn, ms, ms', e1, rfl, e3, rfl⟩ := hS
  have LE1 : gLe (mkM am hn ms) (kh1 K) := ⟨hle.1, hle.2⟩
  refine v_aload_n X dL_law_322 1 1 rfl rfl ?_
  refine v_callVW X (Mo.pt_bind e1) LE1 (ct_X1_house _ ax ) gCl_X1 q652 q653 q654 q109 q655 dn_X1_house rfl ⟨by decide, by decide⟩ rfl (Nat.le_of_ble_eq_true rfl) dL_law_323 (fun v2 h2 hd => ?_)
  obtain ⟨rfl, rfl, -⟩ := Mo.pt_some hd
  show V K 7 _ 326 [(0, .ref b), (1, .ref ax), (2, .ref am), (3, .ref ao), (4, .int (nI i))] [.int _]
  refine v_aload_n X dL_law_326 2 2 rfl rfl ?_
  refine v_refV X e3 hle (ct_X10_house _ am) (lw_V q1860 q1861 q1862 q120 q1863) ⟨rfl, dn_X10_house⟩ rfl ⟨by decide, by decide⟩ rfl (Nat.le_of_ble_eq_true rfl) dL_law_327 ?_
  show V K 7 _ 330 [(0, .ref b), (1, .ref ax), (2, .ref am), (3, .ref ao), (4, .int (nI i))] [.int _, .int _]
  exact v_icmp_eq (tgt := 1317) X dL_law_330 (by decide) (fun _ => next) (fun q => absurd rfl q)
def LS_3 (ax am ao : Nat) (a : Nat → Int32) (h h' : gH) : Prop := LS2 am (M_X1_fault ax) (M_X10_fault) h h'
set_option maxHeartbeats 4000000 in
theorem lawc_3 (X : gX K cL_law 7 "BitingDoorsLaw" "law" (some .boolean) 107 2665) (hB : va_T .int b L (fun j => .int (xs j)) (gY (kG K)) (ks K) (ks K).heap) (hL : L ≤ 384) (hi : i + 6 ≤ L) (hle : gLe h' (kh1 K)) (next : V K 7 h' 1317 [(0, .ref b), (1, .ref ax), (2, .ref am), (3, .ref ao), (4, .int (nI i))] []) (hS : LS_3 ax am ao (fun k => xs (i + k)) h h') : V K 7 h 335 [(0, .ref b), (1, .ref ax), (2, .ref am), (3, .ref ao), (4, .int (nI i))] [] := by
  obtain ⟨v, h1, hn, ms, ms', e1, rfl, e3, rfl⟩ := hS
  have LE1 : gLe (mkM am hn ms) (kh1 K) := ⟨hle.1, hle.2⟩
  refine v_aload_n X dL_law_335 1 1 rfl rfl ?_
  refine v_callV X (Mo.pt_bind e1) LE1 (ct_X1_fault _ ax) gCl_X1 (lw_V q1011 q1012 q1013 q109 q1014) ⟨rfl, dn_X1_fault⟩ rfl ⟨by decide, by decide⟩ rfl (Nat.le_of_ble_eq_true rfl) dL_law_336 (fun v2 h2 hd => ?_)
  obtain ⟨rfl, rfl, -⟩ := Mo.pt_some hd
  show V K 7 _ 339 [(0, .ref b), (1, .ref ax), (2, .ref am), (3, .ref ao), (4, .int (nI i))] [.int _]
  refine v_aload_n X dL_law_339 2 2 rfl rfl ?_
  refine v_refV X e3 hle (ct_X10_fault _ am) (lw_V q1966 q1967 q1968 q120 q1969) ⟨rfl, dn_X10_fault⟩ rfl ⟨by decide, by decide⟩ rfl (Nat.le_of_ble_eq_true rfl) dL_law_340 ?_
  show V K 7 _ 343 [(0, .ref b), (1, .ref ax), (2, .ref am), (3, .ref ao), (4, .int (nI i))] [.int _, .int _]
  exact v_icmp_eq (tgt := 1317) X dL_law_343 (by decide) (fun _ => next) (fun q => absurd rfl q)
def LS_4 (ax am ao : Nat) (a : Nat → Int32) (h h' : gH) : Prop := LS2 am (M_X1_cell ax (a 1) (a 2)) (M_X10_cell (a 1) (a 2)) h h'
set_option maxHeartbeats 4000000 in
theorem lawc_4 (X : gX K cL_law 7 "BitingDoorsLaw" "law" (some .boolean) 107 2665) (hB : va_T .int b L (fun j => .int (xs j)) (gY (kG K)) (ks K) (ks K).heap) (hL : L ≤ 384) (hi : i + 6 ≤ L) (hle : gLe h' (kh1 K)) (next : V K 7 h' 1317 [(0, .ref b), (1, .ref ax), (2, .ref am), (3, .ref ao), (4, .int (nI i))] []) (hS : LS_4 ax am ao (fun k => xs (i + k)) h h') : V K 7 h 348 [(0, .ref b), (1, .ref ax), (2, .ref am), (3, .ref ao), (4, .int (nI i))] [] := by
  obtain ⟨v, h1, hn, ms, ms', e1, rfl, e3, rfl⟩ := hS
  have LE1 : gLe (mkM am hn ms) (kh1 K) := ⟨hle.1, hle.2⟩
  refine v_aload_n X dL_law_348 1 1 rfl rfl ?_
  refine v_arg X hB 1 (by omega) (by omega) 0 4 rfl rfl (by decide) dL_law_349 dL_law_350 dL_law_352 dL_law_353 dL_law_354 ?_
  refine v_arg X hB 2 (by omega) (by omega) 0 4 rfl rfl (by decide) dL_law_355 dL_law_356 dL_law_358 dL_law_359 dL_law_360 ?_
  refine v_callV X (Mo.pt_bind e1) LE1 (ct_X1_cell _ ax (xs (i + 1)) (xs (i + 2))) gCl_X1 (lw_V q1106 q1107 q1108 q109 q1109) ⟨rfl, dn_X1_cell⟩ rfl ⟨by decide, by decide⟩ rfl (Nat.le_of_ble_eq_true rfl) dL_law_361 (fun v2 h2 hd => ?_)
  obtain ⟨rfl, rfl, -⟩ := Mo.pt_some hd
  show V K 7 _ 364 [(0, .ref b), (1, .ref ax), (2, .ref am), (3, .ref ao), (4, .int (nI i))] [.int _]
  refine v_aload_n X dL_law_364 2 2 rfl rfl ?_
  refine v_arg X hB 1 (by omega) (by omega) 0 4 rfl rfl (by decide) dL_law_365 dL_law_366 dL_law_368 dL_law_369 dL_law_370 ?_
  refine v_arg X hB 2 (by omega) (by omega) 0 4 rfl rfl (by decide) dL_law_371 dL_law_372 dL_law_374 dL_law_375 dL_law_376 ?_
  refine v_refV X e3 hle (ct_X10_cell _ am (xs (i + 1)) (xs (i + 2))) (lw_V q1970 q1971 q1972 q120 q1973) ⟨rfl, dn_X10_cell⟩ rfl ⟨by decide, by decide⟩ rfl (Nat.le_of_ble_eq_true rfl) dL_law_377 ?_
  show V K 7 _ 380 [(0, .ref b), (1, .ref ax), (2, .ref am), (3, .ref ao), (4, .int (nI i))] [.int _, .int _]
  exact v_icmp_eq (tgt := 1317) X dL_law_380 (by decide) (fun _ => next) (fun q => absurd rfl q)
def LS_5 (ax am ao : Nat) (a : Nat → Int32) (h h' : gH) : Prop := ∃ (kv : Int32) (h1 hn : gH) (ms : MS) (bv : Int32) (ms2 ms3 : MS), (M_X0_door ax (a 1) (a 2) ao).1 h = some (kv, h1) ∧ h1 = mkM am hn ms ∧ M_X10_door (a 1) (a 2) ms = some (bv, ms2) ∧ M_X10_thrown ms2 = some (kv, ms3) ∧ h' = mkM am hn ms3 ∧ (kv = 0 → (aldL ao 0).1 (mkM am hn ms3) = some (bv.toInt64, mkM am hn ms3))
set_option maxHeartbeats 4000000 in
theorem lawc_5 (X : gX K cL_law 7 "BitingDoorsLaw" "law" (some .boolean) 107 2665) (hB : va_T .int b L (fun j => .int (xs j)) (gY (kG K)) (ks K) (ks K).heap) (hL : L ≤ 384) (hi : i + 6 ≤ L) (hle : gLe h' (kh1 K)) (next : V K 7 h' 1317 [(0, .ref b), (1, .ref ax), (2, .ref am), (3, .ref ao), (4, .int (nI i))] []) (hS : LS_5 ax am ao (fun k => xs (i + k)) h h') : V K 7 h 385 [(0, .ref b), (1, .ref ax), (2, .ref am), (3, .ref ao), (4, .int (nI i))] [] := by
  obtain ⟨kv, h1, hn, ms, bv, ms2, ms3, e1, rfl, e3, e4, rfl, e5⟩ := hS
  have LE1 : gLe (mkM am hn ms) (kh1 K) := ⟨hle.1, hle.2⟩
  have LE2 : gLe (mkM am hn ms2) (kh1 K) := ⟨hle.1, hle.2⟩
  refine v_aload_n X dL_law_385 1 1 rfl rfl ?_
  refine v_arg X hB 1 (by omega) (by omega) 0 4 rfl rfl (by decide) dL_law_386 dL_law_387 dL_law_389 dL_law_390 dL_law_391 ?_
  refine v_arg X hB 2 (by omega) (by omega) 0 4 rfl rfl (by decide) dL_law_392 dL_law_393 dL_law_395 dL_law_396 dL_law_397 ?_
  refine v_aload_n X dL_law_398 3 3 rfl rfl ?_
  refine v_callSW X (Mo.pt_bind e1) LE1 (ct_X0_door _ ax (xs (i + 1)) (xs (i + 2)) ao) q1610 q1611 q108 q1612 dn_X0_door rfl ⟨by decide, by decide⟩ rfl (Nat.le_of_ble_eq_true rfl) dL_law_399 (fun v2 h2 hd => ?_)
  obtain ⟨hv, rfl, -⟩ := Mo.pt_some hd
  rw [hv]
  clear hv hd
  show V K 7 _ 402 [(0, .ref b), (1, .ref ax), (2, .ref am), (3, .ref ao), (4, .int (nI i))] [.int kv]
  refine v_istore (lv2 := [(5, .int kv), (0, .ref b), (1, .ref ax), (2, .ref am), (3, .ref ao), (4, .int (nI i))]) X dL_law_402 (by decide) rfl ?_
  refine v_aload_n X dL_law_404 3 2 rfl rfl ?_
  refine v_arg X hB 1 (by omega) (by omega) 1 5 rfl rfl (by decide) dL_law_405 dL_law_406 dL_law_408 dL_law_409 dL_law_410 ?_
  refine v_arg X hB 2 (by omega) (by omega) 1 5 rfl rfl (by decide) dL_law_411 dL_law_412 dL_law_414 dL_law_415 dL_law_416 ?_
  refine v_refV X e3 LE2 (ct_X10_door _ am (xs (i + 1)) (xs (i + 2))) (lw_V q1978 q1979 q1980 q120 q1981) ⟨rfl, dn_X10_door⟩ rfl ⟨by decide, by decide⟩ rfl (Nat.le_of_ble_eq_true rfl) dL_law_417 ?_
  show V K 7 _ 420 [(5, .int kv), (0, .ref b), (1, .ref ax), (2, .ref am), (3, .ref ao), (4, .int (nI i))] [.int bv]
  refine v_istore (lv2 := [(6, .int bv), (5, .int kv), (0, .ref b), (1, .ref ax), (2, .ref am), (3, .ref ao), (4, .int (nI i))]) X dL_law_420 (by decide) rfl ?_
  refine v_aload_n X dL_law_422 4 2 rfl rfl ?_
  refine v_refV X e4 hle (ct_X10_thrown _ am) (lw_V q1844 q1845 q1846 q120 q1847) ⟨rfl, dn_X10_thrown⟩ rfl ⟨by decide, by decide⟩ rfl (Nat.le_of_ble_eq_true rfl) dL_law_423 ?_
  show V K 7 _ 426 [(6, .int bv), (5, .int kv), (0, .ref b), (1, .ref ax), (2, .ref am), (3, .ref ao), (4, .int (nI i))] [.int kv]
  refine v_iload X dL_law_426 1 rfl ?_
  refine v_icmp_eq (tgt := 433) X dL_law_428 (by decide) (fun _ => ?_) (fun q => absurd rfl q)
  refine v_iload X dL_law_433 1 rfl ?_
  refine v_if_ne (tgt := 450) X dL_law_435 (by decide) (fun _ => ?_) (fun q => ?_)
  · refine v_goto (tgt := 1317) X dL_law_450 (by decide) ?_
    exact v_loc [2, 3, 4, 5, 6] rfl next
  · refine v_aload_n X dL_law_438 5 3 rfl rfl ?_
    refine v_iconst (v := 0) X dL_law_439 (by decide) ?_
    refine v_lald X (Mo.pt_bind (e5 q)) dL_law_440 (fun w hd => ?_)
    obtain ⟨hw, -, -⟩ := Mo.pt_some hd
    rw [hw]
    refine v_iload X dL_law_441 0 rfl ?_
    refine v_i2l X dL_law_443 ?_
    refine v_lcmp X dL_law_444 ?_
    rw [lg_cmp_self]
    refine v_if_eq (tgt := 450) X dL_law_445 (by decide) (fun _ => ?_) (fun q => absurd rfl q)
    refine v_goto (tgt := 1317) X dL_law_450 (by decide) ?_
    exact v_loc [2, 3, 4, 5, 6] rfl next
def LS_6 (ax am ao : Nat) (a : Nat → Int32) (h h' : gH) : Prop := LS2 am (M_X1_leaf ax (a 1) (a 2) (a 3) (a 4)) (M_X10_leaf (a 1) (a 2) (a 3) (a 4)) h h'
set_option maxHeartbeats 4000000 in
theorem lawc_6 (X : gX K cL_law 7 "BitingDoorsLaw" "law" (some .boolean) 107 2665) (hB : va_T .int b L (fun j => .int (xs j)) (gY (kG K)) (ks K) (ks K).heap) (hL : L ≤ 384) (hi : i + 6 ≤ L) (hle : gLe h' (kh1 K)) (next : V K 7 h' 1317 [(0, .ref b), (1, .ref ax), (2, .ref am), (3, .ref ao), (4, .int (nI i))] []) (hS : LS_6 ax am ao (fun k => xs (i + k)) h h') : V K 7 h 453 [(0, .ref b), (1, .ref ax), (2, .ref am), (3, .ref ao), (4, .int (nI i))] [] := by
  obtain ⟨v, h1, hn, ms, ms', e1, rfl, e3, rfl⟩ := hS
  have LE1 : gLe (mkM am hn ms) (kh1 K) := ⟨hle.1, hle.2⟩
  refine v_aload_n X dL_law_453 1 1 rfl rfl ?_
  refine v_arg X hB 1 (by omega) (by omega) 0 4 rfl rfl (by decide) dL_law_454 dL_law_455 dL_law_457 dL_law_458 dL_law_459 ?_
  refine v_arg X hB 2 (by omega) (by omega) 0 4 rfl rfl (by decide) dL_law_460 dL_law_461 dL_law_463 dL_law_464 dL_law_465 ?_
  refine v_arg X hB 3 (by omega) (by omega) 0 4 rfl rfl (by decide) dL_law_466 dL_law_467 dL_law_469 dL_law_470 dL_law_471 ?_
  refine v_arg X hB 4 (by omega) (by omega) 0 4 rfl rfl (by decide) dL_law_472 dL_law_473 dL_law_475 dL_law_476 dL_law_477 ?_
  refine v_callV X (Mo.pt_bind e1) LE1 (ct_X1_leaf _ ax (xs (i + 1)) (xs (i + 2)) (xs (i + 3)) (xs (i + 4))) gCl_X1 (lw_V q1111 q1112 q1113 q109 q1114) ⟨rfl, dn_X1_leaf⟩ rfl ⟨by decide, by decide⟩ rfl (Nat.le_of_ble_eq_true rfl) dL_law_478 (fun v2 h2 hd => ?_)
  obtain ⟨rfl, rfl, -⟩ := Mo.pt_some hd
  show V K 7 _ 481 [(0, .ref b), (1, .ref ax), (2, .ref am), (3, .ref ao), (4, .int (nI i))] [.int _]
  refine v_aload_n X dL_law_481 2 2 rfl rfl ?_
  refine v_arg X hB 1 (by omega) (by omega) 0 4 rfl rfl (by decide) dL_law_482 dL_law_483 dL_law_485 dL_law_486 dL_law_487 ?_
  refine v_arg X hB 2 (by omega) (by omega) 0 4 rfl rfl (by decide) dL_law_488 dL_law_489 dL_law_491 dL_law_492 dL_law_493 ?_
  refine v_arg X hB 3 (by omega) (by omega) 0 4 rfl rfl (by decide) dL_law_494 dL_law_495 dL_law_497 dL_law_498 dL_law_499 ?_
  refine v_arg X hB 4 (by omega) (by omega) 0 4 rfl rfl (by decide) dL_law_500 dL_law_501 dL_law_503 dL_law_504 dL_law_505 ?_
  refine v_refV X e3 hle (ct_X10_leaf _ am (xs (i + 1)) (xs (i + 2)) (xs (i + 3)) (xs (i + 4))) (lw_V q1998 q1999 q2000 q120 q2001) ⟨rfl, dn_X10_leaf⟩ rfl ⟨by decide, by decide⟩ rfl (Nat.le_of_ble_eq_true rfl) dL_law_506 ?_
  show V K 7 _ 509 [(0, .ref b), (1, .ref ax), (2, .ref am), (3, .ref ao), (4, .int (nI i))] [.int _, .int _]
  exact v_icmp_eq (tgt := 1317) X dL_law_509 (by decide) (fun _ => next) (fun q => absurd rfl q)
def LS_7 (ax am ao : Nat) (a : Nat → Int32) (h h' : gH) : Prop := LS2 am (M_X1_can ax (a 1) (a 2)) (M_X10_can (a 1) (a 2)) h h'
set_option maxHeartbeats 4000000 in
theorem lawc_7 (X : gX K cL_law 7 "BitingDoorsLaw" "law" (some .boolean) 107 2665) (hB : va_T .int b L (fun j => .int (xs j)) (gY (kG K)) (ks K) (ks K).heap) (hL : L ≤ 384) (hi : i + 6 ≤ L) (hle : gLe h' (kh1 K)) (next : V K 7 h' 1317 [(0, .ref b), (1, .ref ax), (2, .ref am), (3, .ref ao), (4, .int (nI i))] []) (hS : LS_7 ax am ao (fun k => xs (i + k)) h h') : V K 7 h 514 [(0, .ref b), (1, .ref ax), (2, .ref am), (3, .ref ao), (4, .int (nI i))] [] := by
  obtain ⟨v, h1, hn, ms, ms', e1, rfl, e3, rfl⟩ := hS
  have LE1 : gLe (mkM am hn ms) (kh1 K) := ⟨hle.1, hle.2⟩
  refine v_aload_n X dL_law_514 1 1 rfl rfl ?_
  refine v_arg X hB 1 (by omega) (by omega) 0 4 rfl rfl (by decide) dL_law_515 dL_law_516 dL_law_518 dL_law_519 dL_law_520 ?_
  refine v_arg X hB 2 (by omega) (by omega) 0 4 rfl rfl (by decide) dL_law_521 dL_law_522 dL_law_524 dL_law_525 dL_law_526 ?_
  refine v_callV X (Mo.pt_bind e1) LE1 (ct_X1_can _ ax (xs (i + 1)) (xs (i + 2))) gCl_X1 (lw_V q1129 q1130 q1131 q109 q1132) ⟨rfl, dn_X1_can⟩ rfl ⟨by decide, by decide⟩ rfl (Nat.le_of_ble_eq_true rfl) dL_law_527 (fun v2 h2 hd => ?_)
  obtain ⟨rfl, rfl, -⟩ := Mo.pt_some hd
  show V K 7 _ 530 [(0, .ref b), (1, .ref ax), (2, .ref am), (3, .ref ao), (4, .int (nI i))] [.int _]
  refine v_aload_n X dL_law_530 2 2 rfl rfl ?_
  refine v_arg X hB 1 (by omega) (by omega) 0 4 rfl rfl (by decide) dL_law_531 dL_law_532 dL_law_534 dL_law_535 dL_law_536 ?_
  refine v_arg X hB 2 (by omega) (by omega) 0 4 rfl rfl (by decide) dL_law_537 dL_law_538 dL_law_540 dL_law_541 dL_law_542 ?_
  refine v_refV X e3 hle (ct_X10_can _ am (xs (i + 1)) (xs (i + 2))) (lw_V q2010 q2011 q2012 q120 q2013) ⟨rfl, dn_X10_can⟩ rfl ⟨by decide, by decide⟩ rfl (Nat.le_of_ble_eq_true rfl) dL_law_543 ?_
  show V K 7 _ 546 [(0, .ref b), (1, .ref ax), (2, .ref am), (3, .ref ao), (4, .int (nI i))] [.int _, .int _]
  exact v_icmp_eq (tgt := 1317) X dL_law_546 (by decide) (fun _ => next) (fun q => absurd rfl q)
def LS_8 (ax am ao : Nat) (a : Nat → Int32) (h h' : gH) : Prop := LS2 am (M_X1_fit ax (a 1) (a 2)) (M_X10_fit (a 1) (a 2)) h h'
set_option maxHeartbeats 4000000 in
theorem lawc_8 (X : gX K cL_law 7 "BitingDoorsLaw" "law" (some .boolean) 107 2665) (hB : va_T .int b L (fun j => .int (xs j)) (gY (kG K)) (ks K) (ks K).heap) (hL : L ≤ 384) (hi : i + 6 ≤ L) (hle : gLe h' (kh1 K)) (next : V K 7 h' 1317 [(0, .ref b), (1, .ref ax), (2, .ref am), (3, .ref ao), (4, .int (nI i))] []) (hS : LS_8 ax am ao (fun k => xs (i + k)) h h') : V K 7 h 551 [(0, .ref b), (1, .ref ax), (2, .ref am), (3, .ref ao), (4, .int (nI i))] [] := by
  obtain ⟨v, h1, hn, ms, ms', e1, rfl, e3, rfl⟩ := hS
  have LE1 : gLe (mkM am hn ms) (kh1 K) := ⟨hle.1, hle.2⟩
  refine v_aload_n X dL_law_551 1 1 rfl rfl ?_
  refine v_arg X hB 1 (by omega) (by omega) 0 4 rfl rfl (by decide) dL_law_552 dL_law_553 dL_law_555 dL_law_556 dL_law_557 ?_
  refine v_arg X hB 2 (by omega) (by omega) 0 4 rfl rfl (by decide) dL_law_558 dL_law_559 dL_law_561 dL_law_562 dL_law_563 ?_
  refine v_callV X (Mo.pt_bind e1) LE1 (ct_X1_fit _ ax (xs (i + 1)) (xs (i + 2))) gCl_X1 (lw_V q1133 q1134 q1135 q109 q1136) ⟨rfl, dn_X1_fit⟩ rfl ⟨by decide, by decide⟩ rfl (Nat.le_of_ble_eq_true rfl) dL_law_564 (fun v2 h2 hd => ?_)
  obtain ⟨rfl, rfl, -⟩ := Mo.pt_some hd
  show V K 7 _ 567 [(0, .ref b), (1, .ref ax), (2, .ref am), (3, .ref ao), (4, .int (nI i))] [.int _]
  refine v_aload_n X dL_law_567 2 2 rfl rfl ?_
  refine v_arg X hB 1 (by omega) (by omega) 0 4 rfl rfl (by decide) dL_law_568 dL_law_569 dL_law_571 dL_law_572 dL_law_573 ?_
  refine v_arg X hB 2 (by omega) (by omega) 0 4 rfl rfl (by decide) dL_law_574 dL_law_575 dL_law_577 dL_law_578 dL_law_579 ?_
  refine v_refV X e3 hle (ct_X10_fit _ am (xs (i + 1)) (xs (i + 2))) (lw_V q2018 q2019 q2020 q120 q2021) ⟨rfl, dn_X10_fit⟩ rfl ⟨by decide, by decide⟩ rfl (Nat.le_of_ble_eq_true rfl) dL_law_580 ?_
  show V K 7 _ 583 [(0, .ref b), (1, .ref ax), (2, .ref am), (3, .ref ao), (4, .int (nI i))] [.int _, .int _]
  exact v_icmp_eq (tgt := 1317) X dL_law_583 (by decide) (fun _ => next) (fun q => absurd rfl q)
def LS_9 (ax am ao : Nat) (a : Nat → Int32) (h h' : gH) : Prop := LS2 am (M_X1_bites ax (a 1) (a 2) (a 3) (a 4)) (M_X10_bites (a 1) (a 2) (a 3) (a 4)) h h'
set_option maxHeartbeats 4000000 in
theorem lawc_9 (X : gX K cL_law 7 "BitingDoorsLaw" "law" (some .boolean) 107 2665) (hB : va_T .int b L (fun j => .int (xs j)) (gY (kG K)) (ks K) (ks K).heap) (hL : L ≤ 384) (hi : i + 6 ≤ L) (hle : gLe h' (kh1 K)) (next : V K 7 h' 1317 [(0, .ref b), (1, .ref ax), (2, .ref am), (3, .ref ao), (4, .int (nI i))] []) (hS : LS_9 ax am ao (fun k => xs (i + k)) h h') : V K 7 h 588 [(0, .ref b), (1, .ref ax), (2, .ref am), (3, .ref ao), (4, .int (nI i))] [] := by
  obtain ⟨v, h1, hn, ms, ms', e1, rfl, e3, rfl⟩ := hS
  have LE1 : gLe (mkM am hn ms) (kh1 K) := ⟨hle.1, hle.2⟩
  refine v_aload_n X dL_law_588 1 1 rfl rfl ?_
  refine v_arg X hB 1 (by omega) (by omega) 0 4 rfl rfl (by decide) dL_law_589 dL_law_590 dL_law_592 dL_law_593 dL_law_594 ?_
  refine v_arg X hB 2 (by omega) (by omega) 0 4 rfl rfl (by decide) dL_law_595 dL_law_596 dL_law_598 dL_law_599 dL_law_600 ?_
  refine v_arg X hB 3 (by omega) (by omega) 0 4 rfl rfl (by decide) dL_law_601 dL_law_602 dL_law_604 dL_law_605 dL_law_606 ?_
  refine v_arg X hB 4 (by omega) (by omega) 0 4 rfl rfl (by decide) dL_law_607 dL_law_608 dL_law_610 dL_law_611 dL_law_612 ?_
  refine v_callV X (Mo.pt_bind e1) LE1 (ct_X1_bites _ ax (xs (i + 1)) (xs (i + 2)) (xs (i + 3)) (xs (i + 4))) gCl_X1 (lw_V q1146 q1147 q1148 q109 q1149) ⟨rfl, dn_X1_bites⟩ rfl ⟨by decide, by decide⟩ rfl (Nat.le_of_ble_eq_true rfl) dL_law_613 (fun v2 h2 hd => ?_)
  obtain ⟨rfl, rfl, -⟩ := Mo.pt_some hd
  show V K 7 _ 616 [(0, .ref b), (1, .ref ax), (2, .ref am), (3, .ref ao), (4, .int (nI i))] [.int _]
  refine v_aload_n X dL_law_616 2 2 rfl rfl ?_
  refine v_arg X hB 1 (by omega) (by omega) 0 4 rfl rfl (by decide) dL_law_617 dL_law_618 dL_law_620 dL_law_621 dL_law_622 ?_
  refine v_arg X hB 2 (by omega) (by omega) 0 4 rfl rfl (by decide) dL_law_623 dL_law_624 dL_law_626 dL_law_627 dL_law_628 ?_
  refine v_arg X hB 3 (by omega) (by omega) 0 4 rfl rfl (by decide) dL_law_629 dL_law_630 dL_law_632 dL_law_633 dL_law_634 ?_
  refine v_arg X hB 4 (by omega) (by omega) 0 4 rfl rfl (by decide) dL_law_635 dL_law_636 dL_law_638 dL_law_639 dL_law_640 ?_
  refine v_refV X e3 hle (ct_X10_bites _ am (xs (i + 1)) (xs (i + 2)) (xs (i + 3)) (xs (i + 4))) (lw_V q2026 q2027 q2028 q120 q2029) ⟨rfl, dn_X10_bites⟩ rfl ⟨by decide, by decide⟩ rfl (Nat.le_of_ble_eq_true rfl) dL_law_641 ?_
  show V K 7 _ 644 [(0, .ref b), (1, .ref ax), (2, .ref am), (3, .ref ao), (4, .int (nI i))] [.int _, .int _]
  exact v_icmp_eq (tgt := 1317) X dL_law_644 (by decide) (fun _ => next) (fun q => absurd rfl q)
def LS_10 (ax am ao : Nat) (a : Nat → Int32) (h h' : gH) : Prop := LS2 am (M_X1_clashes ax) (M_X10_clashes) h h'
set_option maxHeartbeats 4000000 in
theorem lawc_10 (X : gX K cL_law 7 "BitingDoorsLaw" "law" (some .boolean) 107 2665) (hB : va_T .int b L (fun j => .int (xs j)) (gY (kG K)) (ks K) (ks K).heap) (hL : L ≤ 384) (hi : i + 6 ≤ L) (hle : gLe h' (kh1 K)) (next : V K 7 h' 1317 [(0, .ref b), (1, .ref ax), (2, .ref am), (3, .ref ao), (4, .int (nI i))] []) (hS : LS_10 ax am ao (fun k => xs (i + k)) h h') : V K 7 h 649 [(0, .ref b), (1, .ref ax), (2, .ref am), (3, .ref ao), (4, .int (nI i))] [] := by
  obtain ⟨v, h1, hn, ms, ms', e1, rfl, e3, rfl⟩ := hS
  have LE1 : gLe (mkM am hn ms) (kh1 K) := ⟨hle.1, hle.2⟩
  refine v_aload_n X dL_law_649 1 1 rfl rfl ?_
  refine v_callV X (Mo.pt_bind e1) LE1 (ct_X1_clashes _ ax) gCl_X1 (lw_V q1151 q1152 q1153 q109 q1154) ⟨rfl, dn_X1_clashes⟩ rfl ⟨by decide, by decide⟩ rfl (Nat.le_of_ble_eq_true rfl) dL_law_650 (fun v2 h2 hd => ?_)
  obtain ⟨rfl, rfl, -⟩ := Mo.pt_some hd
  show V K 7 _ 653 [(0, .ref b), (1, .ref ax), (2, .ref am), (3, .ref ao), (4, .int (nI i))] [.int _]
  refine v_aload_n X dL_law_653 2 2 rfl rfl ?_
  refine v_refV X e3 hle (ct_X10_clashes _ am) (lw_V q2041 q2042 q2043 q120 q2044) ⟨rfl, dn_X10_clashes⟩ rfl ⟨by decide, by decide⟩ rfl (Nat.le_of_ble_eq_true rfl) dL_law_654 ?_
  show V K 7 _ 657 [(0, .ref b), (1, .ref ax), (2, .ref am), (3, .ref ao), (4, .int (nI i))] [.int _, .int _]
  exact v_icmp_eq (tgt := 1317) X dL_law_657 (by decide) (fun _ => next) (fun q => absurd rfl q)
def LS_11 (ax am ao : Nat) (a : Nat → Int32) (h h' : gH) : Prop := LS2 am (M_X1_cheapest ax) (M_X10_cheapest) h h'
set_option maxHeartbeats 4000000 in
theorem lawc_11 (X : gX K cL_law 7 "BitingDoorsLaw" "law" (some .boolean) 107 2665) (hB : va_T .int b L (fun j => .int (xs j)) (gY (kG K)) (ks K) (ks K).heap) (hL : L ≤ 384) (hi : i + 6 ≤ L) (hle : gLe h' (kh1 K)) (next : V K 7 h' 1317 [(0, .ref b), (1, .ref ax), (2, .ref am), (3, .ref ao), (4, .int (nI i))] []) (hS : LS_11 ax am ao (fun k => xs (i + k)) h h') : V K 7 h 662 [(0, .ref b), (1, .ref ax), (2, .ref am), (3, .ref ao), (4, .int (nI i))] [] := by
  obtain ⟨v, h1, hn, ms, ms', e1, rfl, e3, rfl⟩ := hS
  have LE1 : gLe (mkM am hn ms) (kh1 K) := ⟨hle.1, hle.2⟩
  refine v_aload_n X dL_law_662 1 1 rfl rfl ?_
  refine v_callV X (Mo.pt_bind e1) LE1 (ct_X1_cheapest _ ax) gCl_X1 (lw_V q1164 q1165 q1166 q109 q1167) ⟨rfl, dn_X1_cheapest⟩ rfl ⟨by decide, by decide⟩ rfl (Nat.le_of_ble_eq_true rfl) dL_law_663 (fun v2 h2 hd => ?_)
  obtain ⟨rfl, rfl, -⟩ := Mo.pt_some hd
  show V K 7 _ 666 [(0, .ref b), (1, .ref ax), (2, .ref am), (3, .ref ao), (4, .int (nI i))] [.int _]
  refine v_aload_n X dL_law_666 2 2 rfl rfl ?_
  refine v_refV X e3 hle (ct_X10_cheapest _ am) (lw_V q2053 q2054 q2055 q120 q2056) ⟨rfl, dn_X10_cheapest⟩ rfl ⟨by decide, by decide⟩ rfl (Nat.le_of_ble_eq_true rfl) dL_law_667 ?_
  show V K 7 _ 670 [(0, .ref b), (1, .ref ax), (2, .ref am), (3, .ref ao), (4, .int (nI i))] [.int _, .int _]
  exact v_icmp_eq (tgt := 1317) X dL_law_670 (by decide) (fun _ => next) (fun q => absurd rfl q)
def LS_12 (ax am ao : Nat) (a : Nat → Int32) (h h' : gH) : Prop := LS2 am (M_X1_hung ax (a 1)) (M_X10_hung (a 1)) h h'
set_option maxHeartbeats 4000000 in
theorem lawc_12 (X : gX K cL_law 7 "BitingDoorsLaw" "law" (some .boolean) 107 2665) (hB : va_T .int b L (fun j => .int (xs j)) (gY (kG K)) (ks K) (ks K).heap) (hL : L ≤ 384) (hi : i + 6 ≤ L) (hle : gLe h' (kh1 K)) (next : V K 7 h' 1317 [(0, .ref b), (1, .ref ax), (2, .ref am), (3, .ref ao), (4, .int (nI i))] []) (hS : LS_12 ax am ao (fun k => xs (i + k)) h h') : V K 7 h 675 [(0, .ref b), (1, .ref ax), (2, .ref am), (3, .ref ao), (4, .int (nI i))] [] := by
  obtain ⟨v, h1, hn, ms, ms', e1, rfl, e3, rfl⟩ := hS
  have LE1 : gLe (mkM am hn ms) (kh1 K) := ⟨hle.1, hle.2⟩
  refine v_aload_n X dL_law_675 1 1 rfl rfl ?_
  refine v_arg X hB 1 (by omega) (by omega) 0 4 rfl rfl (by decide) dL_law_676 dL_law_677 dL_law_679 dL_law_680 dL_law_681 ?_
  refine v_callV X (Mo.pt_bind e1) LE1 (ct_X1_hung _ ax (xs (i + 1))) gCl_X1 (lw_V q1194 q1195 q1196 q109 q1197) ⟨rfl, dn_X1_hung⟩ rfl ⟨by decide, by decide⟩ rfl (Nat.le_of_ble_eq_true rfl) dL_law_682 (fun v2 h2 hd => ?_)
  obtain ⟨rfl, rfl, -⟩ := Mo.pt_some hd
  show V K 7 _ 685 [(0, .ref b), (1, .ref ax), (2, .ref am), (3, .ref ao), (4, .int (nI i))] [.int _]
  refine v_aload_n X dL_law_685 2 2 rfl rfl ?_
  refine v_arg X hB 1 (by omega) (by omega) 0 4 rfl rfl (by decide) dL_law_686 dL_law_687 dL_law_689 dL_law_690 dL_law_691 ?_
  refine v_refV X e3 hle (ct_X10_hung _ am (xs (i + 1))) (lw_V q2073 q2074 q2075 q120 q2076) ⟨rfl, dn_X10_hung⟩ rfl ⟨by decide, by decide⟩ rfl (Nat.le_of_ble_eq_true rfl) dL_law_692 ?_
  show V K 7 _ 695 [(0, .ref b), (1, .ref ax), (2, .ref am), (3, .ref ao), (4, .int (nI i))] [.int _, .int _]
  exact v_icmp_eq (tgt := 1317) X dL_law_695 (by decide) (fun _ => next) (fun q => absurd rfl q)
def LS_13 (ax am ao : Nat) (a : Nat → Int32) (h h' : gH) : Prop := LS2 am (M_X1_fewest ax) (M_X10_fewest) h h'
set_option maxHeartbeats 4000000 in
theorem lawc_13 (X : gX K cL_law 7 "BitingDoorsLaw" "law" (some .boolean) 107 2665) (hB : va_T .int b L (fun j => .int (xs j)) (gY (kG K)) (ks K) (ks K).heap) (hL : L ≤ 384) (hi : i + 6 ≤ L) (hle : gLe h' (kh1 K)) (next : V K 7 h' 1317 [(0, .ref b), (1, .ref ax), (2, .ref am), (3, .ref ao), (4, .int (nI i))] []) (hS : LS_13 ax am ao (fun k => xs (i + k)) h h') : V K 7 h 700 [(0, .ref b), (1, .ref ax), (2, .ref am), (3, .ref ao), (4, .int (nI i))] [] := by
  obtain ⟨v, h1, hn, ms, ms', e1, rfl, e3, rfl⟩ := hS
  have LE1 : gLe (mkM am hn ms) (kh1 K) := ⟨hle.1, hle.2⟩
  refine v_aload_n X dL_law_700 1 1 rfl rfl ?_
  refine v_callV X (Mo.pt_bind e1) LE1 (ct_X1_fewest _ ax) gCl_X1 (lw_V q1198 q1199 q1200 q109 q1201) ⟨rfl, dn_X1_fewest⟩ rfl ⟨by decide, by decide⟩ rfl (Nat.le_of_ble_eq_true rfl) dL_law_701 (fun v2 h2 hd => ?_)
  obtain ⟨rfl, rfl, -⟩ := Mo.pt_some hd
  show V K 7 _ 704 [(0, .ref b), (1, .ref ax), (2, .ref am), (3, .ref ao), (4, .int (nI i))] [.int _]
  refine v_aload_n X dL_law_704 2 2 rfl rfl ?_
  refine v_refV X e3 hle (ct_X10_fewest _ am) (lw_V q2077 q2078 q2079 q120 q2080) ⟨rfl, dn_X10_fewest⟩ rfl ⟨by decide, by decide⟩ rfl (Nat.le_of_ble_eq_true rfl) dL_law_705 ?_
  show V K 7 _ 708 [(0, .ref b), (1, .ref ax), (2, .ref am), (3, .ref ao), (4, .int (nI i))] [.int _, .int _]
  exact v_icmp_eq (tgt := 1317) X dL_law_708 (by decide) (fun _ => next) (fun q => absurd rfl q)
def LS_14 (ax am ao : Nat) (a : Nat → Int32) (h h' : gH) : Prop := LS2 am (M_X1_fewestBy ax (a 1)) (M_X10_fewestBy (a 1)) h h'
set_option maxHeartbeats 4000000 in
theorem lawc_14 (X : gX K cL_law 7 "BitingDoorsLaw" "law" (some .boolean) 107 2665) (hB : va_T .int b L (fun j => .int (xs j)) (gY (kG K)) (ks K) (ks K).heap) (hL : L ≤ 384) (hi : i + 6 ≤ L) (hle : gLe h' (kh1 K)) (next : V K 7 h' 1317 [(0, .ref b), (1, .ref ax), (2, .ref am), (3, .ref ao), (4, .int (nI i))] []) (hS : LS_14 ax am ao (fun k => xs (i + k)) h h') : V K 7 h 713 [(0, .ref b), (1, .ref ax), (2, .ref am), (3, .ref ao), (4, .int (nI i))] [] := by
  obtain ⟨v, h1, hn, ms, ms', e1, rfl, e3, rfl⟩ := hS
  have LE1 : gLe (mkM am hn ms) (kh1 K) := ⟨hle.1, hle.2⟩
  refine v_aload_n X dL_law_713 1 1 rfl rfl ?_
  refine v_arg X hB 1 (by omega) (by omega) 0 4 rfl rfl (by decide) dL_law_714 dL_law_715 dL_law_717 dL_law_718 dL_law_719 ?_
  refine v_callV X (Mo.pt_bind e1) LE1 (ct_X1_fewestBy _ ax (xs (i + 1))) gCl_X1 (lw_V q1210 q1211 q1212 q109 q1213) ⟨rfl, dn_X1_fewestBy⟩ rfl ⟨by decide, by decide⟩ rfl (Nat.le_of_ble_eq_true rfl) dL_law_720 (fun v2 h2 hd => ?_)
  obtain ⟨rfl, rfl, -⟩ := Mo.pt_some hd
  show V K 7 _ 723 [(0, .ref b), (1, .ref ax), (2, .ref am), (3, .ref ao), (4, .int (nI i))] [.int _]
  refine v_aload_n X dL_law_723 2 2 rfl rfl ?_
  refine v_arg X hB 1 (by omega) (by omega) 0 4 rfl rfl (by decide) dL_law_724 dL_law_725 dL_law_727 dL_law_728 dL_law_729 ?_
  refine v_refV X e3 hle (ct_X10_fewestBy _ am (xs (i + 1))) (lw_V q2081 q2082 q2083 q120 q2084) ⟨rfl, dn_X10_fewestBy⟩ rfl ⟨by decide, by decide⟩ rfl (Nat.le_of_ble_eq_true rfl) dL_law_730 ?_
  show V K 7 _ 733 [(0, .ref b), (1, .ref ax), (2, .ref am), (3, .ref ao), (4, .int (nI i))] [.int _, .int _]
  exact v_icmp_eq (tgt := 1317) X dL_law_733 (by decide) (fun _ => next) (fun q => absurd rfl q)
def LS_15 (ax am ao : Nat) (a : Nat → Int32) (h h' : gH) : Prop := LS2 am (M_X1_ways ax) (M_X10_ways) h h'
set_option maxHeartbeats 4000000 in
theorem lawc_15 (X : gX K cL_law 7 "BitingDoorsLaw" "law" (some .boolean) 107 2665) (hB : va_T .int b L (fun j => .int (xs j)) (gY (kG K)) (ks K) (ks K).heap) (hL : L ≤ 384) (hi : i + 6 ≤ L) (hle : gLe h' (kh1 K)) (next : V K 7 h' 1317 [(0, .ref b), (1, .ref ax), (2, .ref am), (3, .ref ao), (4, .int (nI i))] []) (hS : LS_15 ax am ao (fun k => xs (i + k)) h h') : V K 7 h 738 [(0, .ref b), (1, .ref ax), (2, .ref am), (3, .ref ao), (4, .int (nI i))] [] := by
  obtain ⟨v, h1, hn, ms, ms', e1, rfl, e3, rfl⟩ := hS
  have LE1 : gLe (mkM am hn ms) (kh1 K) := ⟨hle.1, hle.2⟩
  refine v_aload_n X dL_law_738 1 1 rfl rfl ?_
  refine v_callV X (Mo.pt_bind e1) LE1 (ct_X1_ways _ ax) gCl_X1 (lw_V q1214 q1215 q1216 q109 q1217) ⟨rfl, dn_X1_ways⟩ rfl ⟨by decide, by decide⟩ rfl (Nat.le_of_ble_eq_true rfl) dL_law_739 (fun v2 h2 hd => ?_)
  obtain ⟨rfl, rfl, -⟩ := Mo.pt_some hd
  show V K 7 _ 742 [(0, .ref b), (1, .ref ax), (2, .ref am), (3, .ref ao), (4, .int (nI i))] [.int _]
  refine v_aload_n X dL_law_742 2 2 rfl rfl ?_
  refine v_refV X e3 hle (ct_X10_ways _ am) (lw_V q2085 q2086 q2087 q120 q2088) ⟨rfl, dn_X10_ways⟩ rfl ⟨by decide, by decide⟩ rfl (Nat.le_of_ble_eq_true rfl) dL_law_743 ?_
  show V K 7 _ 746 [(0, .ref b), (1, .ref ax), (2, .ref am), (3, .ref ao), (4, .int (nI i))] [.int _, .int _]
  exact v_icmp_eq (tgt := 1317) X dL_law_746 (by decide) (fun _ => next) (fun q => absurd rfl q)
def LS_16 (ax am ao : Nat) (a : Nat → Int32) (h h' : gH) : Prop := LS2 am (M_X1_forces ax (a 1) (a 2) (a 3)) (M_X10_forces (a 1) (a 2) (a 3)) h h'
set_option maxHeartbeats 4000000 in
theorem lawc_16 (X : gX K cL_law 7 "BitingDoorsLaw" "law" (some .boolean) 107 2665) (hB : va_T .int b L (fun j => .int (xs j)) (gY (kG K)) (ks K) (ks K).heap) (hL : L ≤ 384) (hi : i + 6 ≤ L) (hle : gLe h' (kh1 K)) (next : V K 7 h' 1317 [(0, .ref b), (1, .ref ax), (2, .ref am), (3, .ref ao), (4, .int (nI i))] []) (hS : LS_16 ax am ao (fun k => xs (i + k)) h h') : V K 7 h 751 [(0, .ref b), (1, .ref ax), (2, .ref am), (3, .ref ao), (4, .int (nI i))] [] := by
  obtain ⟨v, h1, hn, ms, ms', e1, rfl, e3, rfl⟩ := hS
  have LE1 : gLe (mkM am hn ms) (kh1 K) := ⟨hle.1, hle.2⟩
  refine v_aload_n X dL_law_751 1 1 rfl rfl ?_
  refine v_arg X hB 1 (by omega) (by omega) 0 4 rfl rfl (by decide) dL_law_752 dL_law_753 dL_law_755 dL_law_756 dL_law_757 ?_
  refine v_arg X hB 2 (by omega) (by omega) 0 4 rfl rfl (by decide) dL_law_758 dL_law_759 dL_law_761 dL_law_762 dL_law_763 ?_
  refine v_arg X hB 3 (by omega) (by omega) 0 4 rfl rfl (by decide) dL_law_764 dL_law_765 dL_law_767 dL_law_768 dL_law_769 ?_
  refine v_callV X (Mo.pt_bind e1) LE1 (ct_X1_forces _ ax (xs (i + 1)) (xs (i + 2)) (xs (i + 3))) gCl_X1 (lw_V q1222 q1223 q1224 q109 q1225) ⟨rfl, dn_X1_forces⟩ rfl ⟨by decide, by decide⟩ rfl (Nat.le_of_ble_eq_true rfl) dL_law_770 (fun v2 h2 hd => ?_)
  obtain ⟨rfl, rfl, -⟩ := Mo.pt_some hd
  show V K 7 _ 773 [(0, .ref b), (1, .ref ax), (2, .ref am), (3, .ref ao), (4, .int (nI i))] [.int _]
  refine v_aload_n X dL_law_773 2 2 rfl rfl ?_
  refine v_arg X hB 1 (by omega) (by omega) 0 4 rfl rfl (by decide) dL_law_774 dL_law_775 dL_law_777 dL_law_778 dL_law_779 ?_
  refine v_arg X hB 2 (by omega) (by omega) 0 4 rfl rfl (by decide) dL_law_780 dL_law_781 dL_law_783 dL_law_784 dL_law_785 ?_
  refine v_arg X hB 3 (by omega) (by omega) 0 4 rfl rfl (by decide) dL_law_786 dL_law_787 dL_law_789 dL_law_790 dL_law_791 ?_
  refine v_refV X e3 hle (ct_X10_forces _ am (xs (i + 1)) (xs (i + 2)) (xs (i + 3))) (lw_V q2093 q2094 q2095 q120 q2096) ⟨rfl, dn_X10_forces⟩ rfl ⟨by decide, by decide⟩ rfl (Nat.le_of_ble_eq_true rfl) dL_law_792 ?_
  show V K 7 _ 795 [(0, .ref b), (1, .ref ax), (2, .ref am), (3, .ref ao), (4, .int (nI i))] [.int _, .int _]
  exact v_icmp_eq (tgt := 1317) X dL_law_795 (by decide) (fun _ => next) (fun q => absurd rfl q)
def LS_17 (ax am ao : Nat) (a : Nat → Int32) (h h' : gH) : Prop := LS2 am (M_X1_forced ax (a 1)) (M_X10_forced (a 1)) h h'
set_option maxHeartbeats 4000000 in
theorem lawc_17 (X : gX K cL_law 7 "BitingDoorsLaw" "law" (some .boolean) 107 2665) (hB : va_T .int b L (fun j => .int (xs j)) (gY (kG K)) (ks K) (ks K).heap) (hL : L ≤ 384) (hi : i + 6 ≤ L) (hle : gLe h' (kh1 K)) (next : V K 7 h' 1317 [(0, .ref b), (1, .ref ax), (2, .ref am), (3, .ref ao), (4, .int (nI i))] []) (hS : LS_17 ax am ao (fun k => xs (i + k)) h h') : V K 7 h 800 [(0, .ref b), (1, .ref ax), (2, .ref am), (3, .ref ao), (4, .int (nI i))] [] := by
  obtain ⟨v, h1, hn, ms, ms', e1, rfl, e3, rfl⟩ := hS
  have LE1 : gLe (mkM am hn ms) (kh1 K) := ⟨hle.1, hle.2⟩
  refine v_aload_n X dL_law_800 1 1 rfl rfl ?_
  refine v_arg X hB 1 (by omega) (by omega) 0 4 rfl rfl (by decide) dL_law_801 dL_law_802 dL_law_804 dL_law_805 dL_law_806 ?_
  refine v_callV X (Mo.pt_bind e1) LE1 (ct_X1_forced _ ax (xs (i + 1))) gCl_X1 (lw_V q1241 q1242 q1243 q109 q1244) ⟨rfl, dn_X1_forced⟩ rfl ⟨by decide, by decide⟩ rfl (Nat.le_of_ble_eq_true rfl) dL_law_807 (fun v2 h2 hd => ?_)
  obtain ⟨rfl, rfl, -⟩ := Mo.pt_some hd
  show V K 7 _ 810 [(0, .ref b), (1, .ref ax), (2, .ref am), (3, .ref ao), (4, .int (nI i))] [.int _]
  refine v_aload_n X dL_law_810 2 2 rfl rfl ?_
  refine v_arg X hB 1 (by omega) (by omega) 0 4 rfl rfl (by decide) dL_law_811 dL_law_812 dL_law_814 dL_law_815 dL_law_816 ?_
  refine v_refV X e3 hle (ct_X10_forced _ am (xs (i + 1))) (lw_V q2112 q2113 q2114 q120 q2115) ⟨rfl, dn_X10_forced⟩ rfl ⟨by decide, by decide⟩ rfl (Nat.le_of_ble_eq_true rfl) dL_law_817 ?_
  show V K 7 _ 820 [(0, .ref b), (1, .ref ax), (2, .ref am), (3, .ref ao), (4, .int (nI i))] [.int _, .int _]
  exact v_icmp_eq (tgt := 1317) X dL_law_820 (by decide) (fun _ => next) (fun q => absurd rfl q)
def LS_18 (ax am ao : Nat) (a : Nat → Int32) (h h' : gH) : Prop := LS2 am (M_X1_forcedAt ax (a 1)) (M_X10_forcedAt (a 1)) h h'
set_option maxHeartbeats 4000000 in
theorem lawc_18 (X : gX K cL_law 7 "BitingDoorsLaw" "law" (some .boolean) 107 2665) (hB : va_T .int b L (fun j => .int (xs j)) (gY (kG K)) (ks K) (ks K).heap) (hL : L ≤ 384) (hi : i + 6 ≤ L) (hle : gLe h' (kh1 K)) (next : V K 7 h' 1317 [(0, .ref b), (1, .ref ax), (2, .ref am), (3, .ref ao), (4, .int (nI i))] []) (hS : LS_18 ax am ao (fun k => xs (i + k)) h h') : V K 7 h 825 [(0, .ref b), (1, .ref ax), (2, .ref am), (3, .ref ao), (4, .int (nI i))] [] := by
  obtain ⟨v, h1, hn, ms, ms', e1, rfl, e3, rfl⟩ := hS
  have LE1 : gLe (mkM am hn ms) (kh1 K) := ⟨hle.1, hle.2⟩
  refine v_aload_n X dL_law_825 1 1 rfl rfl ?_
  refine v_arg X hB 1 (by omega) (by omega) 0 4 rfl rfl (by decide) dL_law_826 dL_law_827 dL_law_829 dL_law_830 dL_law_831 ?_
  refine v_callV X (Mo.pt_bind e1) LE1 (ct_X1_forcedAt _ ax (xs (i + 1))) gCl_X1 (lw_V q1245 q1246 q1247 q109 q1248) ⟨rfl, dn_X1_forcedAt⟩ rfl ⟨by decide, by decide⟩ rfl (Nat.le_of_ble_eq_true rfl) dL_law_832 (fun v2 h2 hd => ?_)
  obtain ⟨rfl, rfl, -⟩ := Mo.pt_some hd
  show V K 7 _ 835 [(0, .ref b), (1, .ref ax), (2, .ref am), (3, .ref ao), (4, .int (nI i))] [.int _]
  refine v_aload_n X dL_law_835 2 2 rfl rfl ?_
  refine v_arg X hB 1 (by omega) (by omega) 0 4 rfl rfl (by decide) dL_law_836 dL_law_837 dL_law_839 dL_law_840 dL_law_841 ?_
  refine v_refV X e3 hle (ct_X10_forcedAt _ am (xs (i + 1))) (lw_V q2116 q2117 q2118 q120 q2119) ⟨rfl, dn_X10_forcedAt⟩ rfl ⟨by decide, by decide⟩ rfl (Nat.le_of_ble_eq_true rfl) dL_law_842 ?_
  show V K 7 _ 845 [(0, .ref b), (1, .ref ax), (2, .ref am), (3, .ref ao), (4, .int (nI i))] [.int _, .int _]
  exact v_icmp_eq (tgt := 1317) X dL_law_845 (by decide) (fun _ => next) (fun q => absurd rfl q)
def LS_19 (ax am ao : Nat) (a : Nat → Int32) (h h' : gH) : Prop := LS2 am (M_X1_stuck ax) (M_X10_stuck) h h'
set_option maxHeartbeats 4000000 in
theorem lawc_19 (X : gX K cL_law 7 "BitingDoorsLaw" "law" (some .boolean) 107 2665) (hB : va_T .int b L (fun j => .int (xs j)) (gY (kG K)) (ks K) (ks K).heap) (hL : L ≤ 384) (hi : i + 6 ≤ L) (hle : gLe h' (kh1 K)) (next : V K 7 h' 1317 [(0, .ref b), (1, .ref ax), (2, .ref am), (3, .ref ao), (4, .int (nI i))] []) (hS : LS_19 ax am ao (fun k => xs (i + k)) h h') : V K 7 h 850 [(0, .ref b), (1, .ref ax), (2, .ref am), (3, .ref ao), (4, .int (nI i))] [] := by
  obtain ⟨v, h1, hn, ms, ms', e1, rfl, e3, rfl⟩ := hS
  have LE1 : gLe (mkM am hn ms) (kh1 K) := ⟨hle.1, hle.2⟩
  refine v_aload_n X dL_law_850 1 1 rfl rfl ?_
  refine v_callV X (Mo.pt_bind e1) LE1 (ct_X1_stuck _ ax) gCl_X1 (lw_V q1249 q1250 q1251 q109 q1252) ⟨rfl, dn_X1_stuck⟩ rfl ⟨by decide, by decide⟩ rfl (Nat.le_of_ble_eq_true rfl) dL_law_851 (fun v2 h2 hd => ?_)
  obtain ⟨rfl, rfl, -⟩ := Mo.pt_some hd
  show V K 7 _ 854 [(0, .ref b), (1, .ref ax), (2, .ref am), (3, .ref ao), (4, .int (nI i))] [.int _]
  refine v_aload_n X dL_law_854 2 2 rfl rfl ?_
  refine v_refV X e3 hle (ct_X10_stuck _ am) (lw_V q2120 q2121 q2122 q120 q2123) ⟨rfl, dn_X10_stuck⟩ rfl ⟨by decide, by decide⟩ rfl (Nat.le_of_ble_eq_true rfl) dL_law_855 ?_
  show V K 7 _ 858 [(0, .ref b), (1, .ref ax), (2, .ref am), (3, .ref ao), (4, .int (nI i))] [.int _, .int _]
  exact v_icmp_eq (tgt := 1317) X dL_law_858 (by decide) (fun _ => next) (fun q => absurd rfl q)
def LS_20 (ax am ao : Nat) (a : Nat → Int32) (h h' : gH) : Prop := LS2 am (M_X1_joiner ax) (M_X10_joiner) h h'
set_option maxHeartbeats 4000000 in
theorem lawc_20 (X : gX K cL_law 7 "BitingDoorsLaw" "law" (some .boolean) 107 2665) (hB : va_T .int b L (fun j => .int (xs j)) (gY (kG K)) (ks K) (ks K).heap) (hL : L ≤ 384) (hi : i + 6 ≤ L) (hle : gLe h' (kh1 K)) (next : V K 7 h' 1317 [(0, .ref b), (1, .ref ax), (2, .ref am), (3, .ref ao), (4, .int (nI i))] []) (hS : LS_20 ax am ao (fun k => xs (i + k)) h h') : V K 7 h 863 [(0, .ref b), (1, .ref ax), (2, .ref am), (3, .ref ao), (4, .int (nI i))] [] := by
  obtain ⟨v, h1, hn, ms, ms', e1, rfl, e3, rfl⟩ := hS
  have LE1 : gLe (mkM am hn ms) (kh1 K) := ⟨hle.1, hle.2⟩
  refine v_aload_n X dL_law_863 1 1 rfl rfl ?_
  refine v_callV X (Mo.pt_bind e1) LE1 (ct_X1_joiner _ ax) gCl_X1 (lw_V q1257 q1258 q1259 q109 q1260) ⟨rfl, dn_X1_joiner⟩ rfl ⟨by decide, by decide⟩ rfl (Nat.le_of_ble_eq_true rfl) dL_law_864 (fun v2 h2 hd => ?_)
  obtain ⟨rfl, rfl, -⟩ := Mo.pt_some hd
  show V K 7 _ 867 [(0, .ref b), (1, .ref ax), (2, .ref am), (3, .ref ao), (4, .int (nI i))] [.int _]
  refine v_aload_n X dL_law_867 2 2 rfl rfl ?_
  refine v_refV X e3 hle (ct_X10_joiner _ am) (lw_V q2128 q2129 q2130 q120 q2131) ⟨rfl, dn_X10_joiner⟩ rfl ⟨by decide, by decide⟩ rfl (Nat.le_of_ble_eq_true rfl) dL_law_868 ?_
  show V K 7 _ 871 [(0, .ref b), (1, .ref ax), (2, .ref am), (3, .ref ao), (4, .int (nI i))] [.int _, .int _]
  exact v_icmp_eq (tgt := 1317) X dL_law_871 (by decide) (fun _ => next) (fun q => absurd rfl q)
def LS_21 (ax am ao : Nat) (a : Nat → Int32) (h h' : gH) : Prop := LS2 am (M_X1_joinerAt ax (a 1)) (M_X10_joinerAt (a 1)) h h'
set_option maxHeartbeats 4000000 in
theorem lawc_21 (X : gX K cL_law 7 "BitingDoorsLaw" "law" (some .boolean) 107 2665) (hB : va_T .int b L (fun j => .int (xs j)) (gY (kG K)) (ks K) (ks K).heap) (hL : L ≤ 384) (hi : i + 6 ≤ L) (hle : gLe h' (kh1 K)) (next : V K 7 h' 1317 [(0, .ref b), (1, .ref ax), (2, .ref am), (3, .ref ao), (4, .int (nI i))] []) (hS : LS_21 ax am ao (fun k => xs (i + k)) h h') : V K 7 h 876 [(0, .ref b), (1, .ref ax), (2, .ref am), (3, .ref ao), (4, .int (nI i))] [] := by
  obtain ⟨v, h1, hn, ms, ms', e1, rfl, e3, rfl⟩ := hS
  have LE1 : gLe (mkM am hn ms) (kh1 K) := ⟨hle.1, hle.2⟩
  refine v_aload_n X dL_law_876 1 1 rfl rfl ?_
  refine v_arg X hB 1 (by omega) (by omega) 0 4 rfl rfl (by decide) dL_law_877 dL_law_878 dL_law_880 dL_law_881 dL_law_882 ?_
  refine v_callV X (Mo.pt_bind e1) LE1 (ct_X1_joinerAt _ ax (xs (i + 1))) gCl_X1 (lw_V q1263 q1264 q1265 q109 q1266) ⟨rfl, dn_X1_joinerAt⟩ rfl ⟨by decide, by decide⟩ rfl (Nat.le_of_ble_eq_true rfl) dL_law_883 (fun v2 h2 hd => ?_)
  obtain ⟨rfl, rfl, -⟩ := Mo.pt_some hd
  show V K 7 _ 886 [(0, .ref b), (1, .ref ax), (2, .ref am), (3, .ref ao), (4, .int (nI i))] [.int _]
  refine v_aload_n X dL_law_886 2 2 rfl rfl ?_
  refine v_arg X hB 1 (by omega) (by omega) 0 4 rfl rfl (by decide) dL_law_887 dL_law_888 dL_law_890 dL_law_891 dL_law_892 ?_
  refine v_refV X e3 hle (ct_X10_joinerAt _ am (xs (i + 1))) (lw_V q2132 q2133 q2134 q120 q2135) ⟨rfl, dn_X10_joinerAt⟩ rfl ⟨by decide, by decide⟩ rfl (Nat.le_of_ble_eq_true rfl) dL_law_893 ?_
  show V K 7 _ 896 [(0, .ref b), (1, .ref ax), (2, .ref am), (3, .ref ao), (4, .int (nI i))] [.int _, .int _]
  exact v_icmp_eq (tgt := 1317) X dL_law_896 (by decide) (fun _ => next) (fun q => absurd rfl q)
def LS_22 (ax am ao : Nat) (a : Nat → Int32) (h h' : gH) : Prop := LS2 am (M_X1_rehang ax (a 1) (a 2)) (M_X10_rehang (a 1) (a 2)) h h'
set_option maxHeartbeats 4000000 in
theorem lawc_22 (X : gX K cL_law 7 "BitingDoorsLaw" "law" (some .boolean) 107 2665) (hB : va_T .int b L (fun j => .int (xs j)) (gY (kG K)) (ks K) (ks K).heap) (hL : L ≤ 384) (hi : i + 6 ≤ L) (hle : gLe h' (kh1 K)) (next : V K 7 h' 1317 [(0, .ref b), (1, .ref ax), (2, .ref am), (3, .ref ao), (4, .int (nI i))] []) (hS : LS_22 ax am ao (fun k => xs (i + k)) h h') : V K 7 h 901 [(0, .ref b), (1, .ref ax), (2, .ref am), (3, .ref ao), (4, .int (nI i))] [] := by
  obtain ⟨v, h1, hn, ms, ms', e1, rfl, e3, rfl⟩ := hS
  have LE1 : gLe (mkM am hn ms) (kh1 K) := ⟨hle.1, hle.2⟩
  refine v_aload_n X dL_law_901 1 1 rfl rfl ?_
  refine v_arg X hB 1 (by omega) (by omega) 0 4 rfl rfl (by decide) dL_law_902 dL_law_903 dL_law_905 dL_law_906 dL_law_907 ?_
  refine v_arg X hB 2 (by omega) (by omega) 0 4 rfl rfl (by decide) dL_law_908 dL_law_909 dL_law_911 dL_law_912 dL_law_913 ?_
  refine v_callV X (Mo.pt_bind e1) LE1 (ct_X1_rehang _ ax (xs (i + 1)) (xs (i + 2))) gCl_X1 (lw_V q1267 q1268 q1269 q109 q1270) ⟨rfl, dn_X1_rehang⟩ rfl ⟨by decide, by decide⟩ rfl (Nat.le_of_ble_eq_true rfl) dL_law_914 (fun v2 h2 hd => ?_)
  obtain ⟨rfl, rfl, -⟩ := Mo.pt_some hd
  show V K 7 _ 917 [(0, .ref b), (1, .ref ax), (2, .ref am), (3, .ref ao), (4, .int (nI i))] [.int (b2i _)]
  refine v_aload_n X dL_law_917 2 2 rfl rfl ?_
  refine v_arg X hB 1 (by omega) (by omega) 0 4 rfl rfl (by decide) dL_law_918 dL_law_919 dL_law_921 dL_law_922 dL_law_923 ?_
  refine v_arg X hB 2 (by omega) (by omega) 0 4 rfl rfl (by decide) dL_law_924 dL_law_925 dL_law_927 dL_law_928 dL_law_929 ?_
  refine v_refV X e3 hle (ct_X10_rehang _ am (xs (i + 1)) (xs (i + 2))) (lw_V q2136 q2137 q2138 q120 q2139) ⟨rfl, dn_X10_rehang⟩ rfl ⟨by decide, by decide⟩ rfl (Nat.le_of_ble_eq_true rfl) dL_law_930 ?_
  show V K 7 _ 933 [(0, .ref b), (1, .ref ax), (2, .ref am), (3, .ref ao), (4, .int (nI i))] [.int (b2i _), .int (b2i _)]
  exact v_icmp_eq (tgt := 1317) X dL_law_933 (by decide) (fun _ => next) (fun q => absurd rfl q)
def LS_23 (ax am ao : Nat) (a : Nat → Int32) (h h' : gH) : Prop := LS2 am (M_X1_stand ax (a 1) (a 2)) (M_X10_stand (a 1) (a 2)) h h'
set_option maxHeartbeats 4000000 in
theorem lawc_23 (X : gX K cL_law 7 "BitingDoorsLaw" "law" (some .boolean) 107 2665) (hB : va_T .int b L (fun j => .int (xs j)) (gY (kG K)) (ks K) (ks K).heap) (hL : L ≤ 384) (hi : i + 6 ≤ L) (hle : gLe h' (kh1 K)) (next : V K 7 h' 1317 [(0, .ref b), (1, .ref ax), (2, .ref am), (3, .ref ao), (4, .int (nI i))] []) (hS : LS_23 ax am ao (fun k => xs (i + k)) h h') : V K 7 h 938 [(0, .ref b), (1, .ref ax), (2, .ref am), (3, .ref ao), (4, .int (nI i))] [] := by
  obtain ⟨v, h1, hn, ms, ms', e1, rfl, e3, rfl⟩ := hS
  have LE1 : gLe (mkM am hn ms) (kh1 K) := ⟨hle.1, hle.2⟩
  refine v_aload_n X dL_law_938 1 1 rfl rfl ?_
  refine v_arg X hB 1 (by omega) (by omega) 0 4 rfl rfl (by decide) dL_law_939 dL_law_940 dL_law_942 dL_law_943 dL_law_944 ?_
  refine v_arg X hB 2 (by omega) (by omega) 0 4 rfl rfl (by decide) dL_law_945 dL_law_946 dL_law_948 dL_law_949 dL_law_950 ?_
  refine v_callV X (Mo.pt_bind e1) LE1 (ct_X1_stand _ ax (xs (i + 1)) (xs (i + 2))) gCl_X1 (lw_V q1271 q1272 q1273 q109 q1274) ⟨rfl, dn_X1_stand⟩ rfl ⟨by decide, by decide⟩ rfl (Nat.le_of_ble_eq_true rfl) dL_law_951 (fun v2 h2 hd => ?_)
  obtain ⟨rfl, rfl, -⟩ := Mo.pt_some hd
  show V K 7 _ 954 [(0, .ref b), (1, .ref ax), (2, .ref am), (3, .ref ao), (4, .int (nI i))] [.int (b2i _)]
  refine v_aload_n X dL_law_954 2 2 rfl rfl ?_
  refine v_arg X hB 1 (by omega) (by omega) 0 4 rfl rfl (by decide) dL_law_955 dL_law_956 dL_law_958 dL_law_959 dL_law_960 ?_
  refine v_arg X hB 2 (by omega) (by omega) 0 4 rfl rfl (by decide) dL_law_961 dL_law_962 dL_law_964 dL_law_965 dL_law_966 ?_
  refine v_refV X e3 hle (ct_X10_stand _ am (xs (i + 1)) (xs (i + 2))) (lw_V q2140 q2141 q2142 q120 q2143) ⟨rfl, dn_X10_stand⟩ rfl ⟨by decide, by decide⟩ rfl (Nat.le_of_ble_eq_true rfl) dL_law_967 ?_
  show V K 7 _ 970 [(0, .ref b), (1, .ref ax), (2, .ref am), (3, .ref ao), (4, .int (nI i))] [.int (b2i _), .int (b2i _)]
  exact v_icmp_eq (tgt := 1317) X dL_law_970 (by decide) (fun _ => next) (fun q => absurd rfl q)
def LS_24 (ax am ao : Nat) (a : Nat → Int32) (h h' : gH) : Prop := LS2 am (M_X1_place ax) (M_X10_place) h h'
set_option maxHeartbeats 4000000 in
theorem lawc_24 (X : gX K cL_law 7 "BitingDoorsLaw" "law" (some .boolean) 107 2665) (hB : va_T .int b L (fun j => .int (xs j)) (gY (kG K)) (ks K) (ks K).heap) (hL : L ≤ 384) (hi : i + 6 ≤ L) (hle : gLe h' (kh1 K)) (next : V K 7 h' 1317 [(0, .ref b), (1, .ref ax), (2, .ref am), (3, .ref ao), (4, .int (nI i))] []) (hS : LS_24 ax am ao (fun k => xs (i + k)) h h') : V K 7 h 975 [(0, .ref b), (1, .ref ax), (2, .ref am), (3, .ref ao), (4, .int (nI i))] [] := by
  obtain ⟨v, h1, hn, ms, ms', e1, rfl, e3, rfl⟩ := hS
  have LE1 : gLe (mkM am hn ms) (kh1 K) := ⟨hle.1, hle.2⟩
  refine v_aload_n X dL_law_975 1 1 rfl rfl ?_
  refine v_callV X (Mo.pt_bind e1) LE1 (ct_X1_place _ ax) gCl_X1 (lw_V q1289 q1290 q1291 q109 q1292) ⟨rfl, dn_X1_place⟩ rfl ⟨by decide, by decide⟩ rfl (Nat.le_of_ble_eq_true rfl) dL_law_976 (fun v2 h2 hd => ?_)
  obtain ⟨rfl, rfl, -⟩ := Mo.pt_some hd
  show V K 7 _ 979 [(0, .ref b), (1, .ref ax), (2, .ref am), (3, .ref ao), (4, .int (nI i))] [.int _]
  refine v_aload_n X dL_law_979 2 2 rfl rfl ?_
  refine v_refV X e3 hle (ct_X10_place _ am) (lw_V q2156 q2157 q2158 q120 q2159) ⟨rfl, dn_X10_place⟩ rfl ⟨by decide, by decide⟩ rfl (Nat.le_of_ble_eq_true rfl) dL_law_980 ?_
  show V K 7 _ 983 [(0, .ref b), (1, .ref ax), (2, .ref am), (3, .ref ao), (4, .int (nI i))] [.int _, .int _]
  exact v_icmp_eq (tgt := 1317) X dL_law_983 (by decide) (fun _ => next) (fun q => absurd rfl q)
def LS_25 (ax am ao : Nat) (a : Nat → Int32) (h h' : gH) : Prop := LS2 am (M_X1_does ax (a 1)) (M_X10_does (a 1)) h h'
set_option maxHeartbeats 4000000 in
theorem lawc_25 (X : gX K cL_law 7 "BitingDoorsLaw" "law" (some .boolean) 107 2665) (hB : va_T .int b L (fun j => .int (xs j)) (gY (kG K)) (ks K) (ks K).heap) (hL : L ≤ 384) (hi : i + 6 ≤ L) (hle : gLe h' (kh1 K)) (next : V K 7 h' 1317 [(0, .ref b), (1, .ref ax), (2, .ref am), (3, .ref ao), (4, .int (nI i))] []) (hS : LS_25 ax am ao (fun k => xs (i + k)) h h') : V K 7 h 988 [(0, .ref b), (1, .ref ax), (2, .ref am), (3, .ref ao), (4, .int (nI i))] [] := by
  obtain ⟨v, h1, hn, ms, ms', e1, rfl, e3, rfl⟩ := hS
  have LE1 : gLe (mkM am hn ms) (kh1 K) := ⟨hle.1, hle.2⟩
  refine v_aload_n X dL_law_988 1 1 rfl rfl ?_
  refine v_arg X hB 1 (by omega) (by omega) 0 4 rfl rfl (by decide) dL_law_989 dL_law_990 dL_law_992 dL_law_993 dL_law_994 ?_
  refine v_callV X (Mo.pt_bind e1) LE1 (ct_X1_does _ ax (xs (i + 1))) gCl_X1 (lw_V q1293 q1294 q1295 q109 q1296) ⟨rfl, dn_X1_does⟩ rfl ⟨by decide, by decide⟩ rfl (Nat.le_of_ble_eq_true rfl) dL_law_995 (fun v2 h2 hd => ?_)
  obtain ⟨rfl, rfl, -⟩ := Mo.pt_some hd
  show V K 7 _ 998 [(0, .ref b), (1, .ref ax), (2, .ref am), (3, .ref ao), (4, .int (nI i))] [.int _]
  refine v_aload_n X dL_law_998 2 2 rfl rfl ?_
  refine v_arg X hB 1 (by omega) (by omega) 0 4 rfl rfl (by decide) dL_law_999 dL_law_1000 dL_law_1002 dL_law_1003 dL_law_1004 ?_
  refine v_refV X e3 hle (ct_X10_does _ am (xs (i + 1))) (lw_V q2160 q2161 q2162 q120 q2163) ⟨rfl, dn_X10_does⟩ rfl ⟨by decide, by decide⟩ rfl (Nat.le_of_ble_eq_true rfl) dL_law_1005 ?_
  show V K 7 _ 1008 [(0, .ref b), (1, .ref ax), (2, .ref am), (3, .ref ao), (4, .int (nI i))] [.int _, .int _]
  exact v_icmp_eq (tgt := 1317) X dL_law_1008 (by decide) (fun _ => next) (fun q => absurd rfl q)
def LS_26 (ax am ao : Nat) (a : Nat → Int32) (h h' : gH) : Prop := LS2 am (M_X1_minutes ax) (M_X10_minutes) h h'
set_option maxHeartbeats 4000000 in
theorem lawc_26 (X : gX K cL_law 7 "BitingDoorsLaw" "law" (some .boolean) 107 2665) (hB : va_T .int b L (fun j => .int (xs j)) (gY (kG K)) (ks K) (ks K).heap) (hL : L ≤ 384) (hi : i + 6 ≤ L) (hle : gLe h' (kh1 K)) (next : V K 7 h' 1317 [(0, .ref b), (1, .ref ax), (2, .ref am), (3, .ref ao), (4, .int (nI i))] []) (hS : LS_26 ax am ao (fun k => xs (i + k)) h h') : V K 7 h 1013 [(0, .ref b), (1, .ref ax), (2, .ref am), (3, .ref ao), (4, .int (nI i))] [] := by
  obtain ⟨v, h1, hn, ms, ms', e1, rfl, e3, rfl⟩ := hS
  have LE1 : gLe (mkM am hn ms) (kh1 K) := ⟨hle.1, hle.2⟩
  refine v_aload_n X dL_law_1013 1 1 rfl rfl ?_
  refine v_callV X (Mo.pt_bind e1) LE1 (ct_X1_minutes _ ax) gCl_X1 (lw_V q1327 q1328 q1329 q109 q1330) ⟨rfl, dn_X1_minutes⟩ rfl ⟨by decide, by decide⟩ rfl (Nat.le_of_ble_eq_true rfl) dL_law_1014 (fun v2 h2 hd => ?_)
  obtain ⟨rfl, rfl, -⟩ := Mo.pt_some hd
  show V K 7 _ 1017 [(0, .ref b), (1, .ref ax), (2, .ref am), (3, .ref ao), (4, .int (nI i))] [.int _]
  refine v_aload_n X dL_law_1017 2 2 rfl rfl ?_
  refine v_refV X e3 hle (ct_X10_minutes _ am) (lw_V q2196 q2197 q2198 q120 q2199) ⟨rfl, dn_X10_minutes⟩ rfl ⟨by decide, by decide⟩ rfl (Nat.le_of_ble_eq_true rfl) dL_law_1018 ?_
  show V K 7 _ 1021 [(0, .ref b), (1, .ref ax), (2, .ref am), (3, .ref ao), (4, .int (nI i))] [.int _, .int _]
  exact v_icmp_eq (tgt := 1317) X dL_law_1021 (by decide) (fun _ => next) (fun q => absurd rfl q)
def LS_27 (ax am ao : Nat) (a : Nat → Int32) (h h' : gH) : Prop := LS2 am (M_X1_day ax) (M_X10_day) h h'
set_option maxHeartbeats 4000000 in
theorem lawc_27 (X : gX K cL_law 7 "BitingDoorsLaw" "law" (some .boolean) 107 2665) (hB : va_T .int b L (fun j => .int (xs j)) (gY (kG K)) (ks K) (ks K).heap) (hL : L ≤ 384) (hi : i + 6 ≤ L) (hle : gLe h' (kh1 K)) (next : V K 7 h' 1317 [(0, .ref b), (1, .ref ax), (2, .ref am), (3, .ref ao), (4, .int (nI i))] []) (hS : LS_27 ax am ao (fun k => xs (i + k)) h h') : V K 7 h 1026 [(0, .ref b), (1, .ref ax), (2, .ref am), (3, .ref ao), (4, .int (nI i))] [] := by
  obtain ⟨v, h1, hn, ms, ms', e1, rfl, e3, rfl⟩ := hS
  have LE1 : gLe (mkM am hn ms) (kh1 K) := ⟨hle.1, hle.2⟩
  refine v_aload_n X dL_law_1026 1 1 rfl rfl ?_
  refine v_callVW X (Mo.pt_bind e1) LE1 (ct_X1_day _ ax ) gCl_X1 q1015 q1016 q1017 q109 q1018 dn_X1_day rfl ⟨by decide, by decide⟩ rfl (Nat.le_of_ble_eq_true rfl) dL_law_1027 (fun v2 h2 hd => ?_)
  obtain ⟨rfl, rfl, -⟩ := Mo.pt_some hd
  show V K 7 _ 1030 [(0, .ref b), (1, .ref ax), (2, .ref am), (3, .ref ao), (4, .int (nI i))] [.int _]
  refine v_aload_n X dL_law_1030 2 2 rfl rfl ?_
  refine v_refV X e3 hle (ct_X10_day _ am) (lw_V q2200 q2201 q2202 q120 q2203) ⟨rfl, dn_X10_day⟩ rfl ⟨by decide, by decide⟩ rfl (Nat.le_of_ble_eq_true rfl) dL_law_1031 ?_
  show V K 7 _ 1034 [(0, .ref b), (1, .ref ax), (2, .ref am), (3, .ref ao), (4, .int (nI i))] [.int _, .int _]
  exact v_icmp_eq (tgt := 1317) X dL_law_1034 (by decide) (fun _ => next) (fun q => absurd rfl q)
def LS_28 (ax am ao : Nat) (a : Nat → Int32) (h h' : gH) : Prop := LS2 am (M_X1_judge ax) (M_X10_judge) h h'
set_option maxHeartbeats 4000000 in
theorem lawc_28 (X : gX K cL_law 7 "BitingDoorsLaw" "law" (some .boolean) 107 2665) (hB : va_T .int b L (fun j => .int (xs j)) (gY (kG K)) (ks K) (ks K).heap) (hL : L ≤ 384) (hi : i + 6 ≤ L) (hle : gLe h' (kh1 K)) (next : V K 7 h' 1317 [(0, .ref b), (1, .ref ax), (2, .ref am), (3, .ref ao), (4, .int (nI i))] []) (hS : LS_28 ax am ao (fun k => xs (i + k)) h h') : V K 7 h 1039 [(0, .ref b), (1, .ref ax), (2, .ref am), (3, .ref ao), (4, .int (nI i))] [] := by
  obtain ⟨v, h1, hn, ms, ms', e1, rfl, e3, rfl⟩ := hS
  have LE1 : gLe (mkM am hn ms) (kh1 K) := ⟨hle.1, hle.2⟩
  refine v_aload_n X dL_law_1039 1 1 rfl rfl ?_
  refine v_callV X (Mo.pt_bind e1) LE1 (ct_X1_judge _ ax) gCl_X1 (lw_V q1331 q1332 q1333 q109 q1334) ⟨rfl, dn_X1_judge⟩ rfl ⟨by decide, by decide⟩ rfl (Nat.le_of_ble_eq_true rfl) dL_law_1040 (fun v2 h2 hd => ?_)
  obtain ⟨rfl, rfl, -⟩ := Mo.pt_some hd
  show V K 7 _ 1043 [(0, .ref b), (1, .ref ax), (2, .ref am), (3, .ref ao), (4, .int (nI i))] [.int _]
  refine v_aload_n X dL_law_1043 2 2 rfl rfl ?_
  refine v_refV X e3 hle (ct_X10_judge _ am) (lw_V q2208 q2209 q2210 q120 q2211) ⟨rfl, dn_X10_judge⟩ rfl ⟨by decide, by decide⟩ rfl (Nat.le_of_ble_eq_true rfl) dL_law_1044 ?_
  show V K 7 _ 1047 [(0, .ref b), (1, .ref ax), (2, .ref am), (3, .ref ao), (4, .int (nI i))] [.int _, .int _]
  exact v_icmp_eq (tgt := 1317) X dL_law_1047 (by decide) (fun _ => next) (fun q => absurd rfl q)
def LS_29 (ax am ao : Nat) (a : Nat → Int32) (h h' : gH) : Prop := LS2 am (M_X1_judged ax (a 1)) (M_X10_judged (a 1)) h h'
set_option maxHeartbeats 4000000 in
theorem lawc_29 (X : gX K cL_law 7 "BitingDoorsLaw" "law" (some .boolean) 107 2665) (hB : va_T .int b L (fun j => .int (xs j)) (gY (kG K)) (ks K) (ks K).heap) (hL : L ≤ 384) (hi : i + 6 ≤ L) (hle : gLe h' (kh1 K)) (next : V K 7 h' 1317 [(0, .ref b), (1, .ref ax), (2, .ref am), (3, .ref ao), (4, .int (nI i))] []) (hS : LS_29 ax am ao (fun k => xs (i + k)) h h') : V K 7 h 1052 [(0, .ref b), (1, .ref ax), (2, .ref am), (3, .ref ao), (4, .int (nI i))] [] := by
  obtain ⟨v, h1, hn, ms, ms', e1, rfl, e3, rfl⟩ := hS
  have LE1 : gLe (mkM am hn ms) (kh1 K) := ⟨hle.1, hle.2⟩
  refine v_aload_n X dL_law_1052 1 1 rfl rfl ?_
  refine v_arg X hB 1 (by omega) (by omega) 0 4 rfl rfl (by decide) dL_law_1053 dL_law_1054 dL_law_1056 dL_law_1057 dL_law_1058 ?_
  refine v_callV X (Mo.pt_bind e1) LE1 (ct_X1_judged _ ax (xs (i + 1))) gCl_X1 (lw_V q1383 q1384 q1385 q109 q1386) ⟨rfl, dn_X1_judged⟩ rfl ⟨by decide, by decide⟩ rfl (Nat.le_of_ble_eq_true rfl) dL_law_1059 (fun v2 h2 hd => ?_)
  obtain ⟨rfl, rfl, -⟩ := Mo.pt_some hd
  show V K 7 _ 1062 [(0, .ref b), (1, .ref ax), (2, .ref am), (3, .ref ao), (4, .int (nI i))] [.int _]
  refine v_aload_n X dL_law_1062 2 2 rfl rfl ?_
  refine v_arg X hB 1 (by omega) (by omega) 0 4 rfl rfl (by decide) dL_law_1063 dL_law_1064 dL_law_1066 dL_law_1067 dL_law_1068 ?_
  refine v_refV X e3 hle (ct_X10_judged _ am (xs (i + 1))) (lw_V q2224 q2225 q2226 q120 q2227) ⟨rfl, dn_X10_judged⟩ rfl ⟨by decide, by decide⟩ rfl (Nat.le_of_ble_eq_true rfl) dL_law_1069 ?_
  show V K 7 _ 1072 [(0, .ref b), (1, .ref ax), (2, .ref am), (3, .ref ao), (4, .int (nI i))] [.int _, .int _]
  exact v_icmp_eq (tgt := 1317) X dL_law_1072 (by decide) (fun _ => next) (fun q => absurd rfl q)
def LS_30 (ax am ao : Nat) (a : Nat → Int32) (h h' : gH) : Prop := LS2 am (M_X1_live ax) (M_X10_live) h h'
set_option maxHeartbeats 4000000 in
theorem lawc_30 (X : gX K cL_law 7 "BitingDoorsLaw" "law" (some .boolean) 107 2665) (hB : va_T .int b L (fun j => .int (xs j)) (gY (kG K)) (ks K) (ks K).heap) (hL : L ≤ 384) (hi : i + 6 ≤ L) (hle : gLe h' (kh1 K)) (next : V K 7 h' 1317 [(0, .ref b), (1, .ref ax), (2, .ref am), (3, .ref ao), (4, .int (nI i))] []) (hS : LS_30 ax am ao (fun k => xs (i + k)) h h') : V K 7 h 1077 [(0, .ref b), (1, .ref ax), (2, .ref am), (3, .ref ao), (4, .int (nI i))] [] := by
  obtain ⟨v, h1, hn, ms, ms', e1, rfl, e3, rfl⟩ := hS
  have LE1 : gLe (mkM am hn ms) (kh1 K) := ⟨hle.1, hle.2⟩
  refine v_aload_n X dL_law_1077 1 1 rfl rfl ?_
  refine v_callV X (Mo.pt_bind e1) LE1 (ct_X1_live _ ax) gCl_X1 (lw_V q1387 q1388 q1389 q109 q1390) ⟨rfl, dn_X1_live⟩ rfl ⟨by decide, by decide⟩ rfl (Nat.le_of_ble_eq_true rfl) dL_law_1078 (fun v2 h2 hd => ?_)
  obtain ⟨rfl, rfl, -⟩ := Mo.pt_some hd
  show V K 7 _ 1081 [(0, .ref b), (1, .ref ax), (2, .ref am), (3, .ref ao), (4, .int (nI i))] [.int _]
  refine v_aload_n X dL_law_1081 2 2 rfl rfl ?_
  refine v_refV X e3 hle (ct_X10_live _ am) (lw_V q2228 q2229 q2230 q120 q2231) ⟨rfl, dn_X10_live⟩ rfl ⟨by decide, by decide⟩ rfl (Nat.le_of_ble_eq_true rfl) dL_law_1082 ?_
  show V K 7 _ 1085 [(0, .ref b), (1, .ref ax), (2, .ref am), (3, .ref ao), (4, .int (nI i))] [.int _, .int _]
  exact v_icmp_eq (tgt := 1317) X dL_law_1085 (by decide) (fun _ => next) (fun q => absurd rfl q)
def LS_31 (ax am ao : Nat) (a : Nat → Int32) (h h' : gH) : Prop := LS2 am (M_X1_way ax (a 1) (a 2)) (M_X10_way (a 1) (a 2)) h h'
set_option maxHeartbeats 4000000 in
theorem lawc_31 (X : gX K cL_law 7 "BitingDoorsLaw" "law" (some .boolean) 107 2665) (hB : va_T .int b L (fun j => .int (xs j)) (gY (kG K)) (ks K) (ks K).heap) (hL : L ≤ 384) (hi : i + 6 ≤ L) (hle : gLe h' (kh1 K)) (next : V K 7 h' 1317 [(0, .ref b), (1, .ref ax), (2, .ref am), (3, .ref ao), (4, .int (nI i))] []) (hS : LS_31 ax am ao (fun k => xs (i + k)) h h') : V K 7 h 1090 [(0, .ref b), (1, .ref ax), (2, .ref am), (3, .ref ao), (4, .int (nI i))] [] := by
  obtain ⟨v, h1, hn, ms, ms', e1, rfl, e3, rfl⟩ := hS
  have LE1 : gLe (mkM am hn ms) (kh1 K) := ⟨hle.1, hle.2⟩
  refine v_aload_n X dL_law_1090 1 1 rfl rfl ?_
  refine v_arg X hB 1 (by omega) (by omega) 0 4 rfl rfl (by decide) dL_law_1091 dL_law_1092 dL_law_1094 dL_law_1095 dL_law_1096 ?_
  refine v_arg X hB 2 (by omega) (by omega) 0 4 rfl rfl (by decide) dL_law_1097 dL_law_1098 dL_law_1100 dL_law_1101 dL_law_1102 ?_
  refine v_callV X (Mo.pt_bind e1) LE1 (ct_X1_way _ ax (xs (i + 1)) (xs (i + 2))) gCl_X1 (lw_V q1391 q1392 q1393 q109 q1394) ⟨rfl, dn_X1_way⟩ rfl ⟨by decide, by decide⟩ rfl (Nat.le_of_ble_eq_true rfl) dL_law_1103 (fun v2 h2 hd => ?_)
  obtain ⟨rfl, rfl, -⟩ := Mo.pt_some hd
  show V K 7 _ 1106 [(0, .ref b), (1, .ref ax), (2, .ref am), (3, .ref ao), (4, .int (nI i))] [.int _]
  refine v_aload_n X dL_law_1106 2 2 rfl rfl ?_
  refine v_arg X hB 1 (by omega) (by omega) 0 4 rfl rfl (by decide) dL_law_1107 dL_law_1108 dL_law_1110 dL_law_1111 dL_law_1112 ?_
  refine v_arg X hB 2 (by omega) (by omega) 0 4 rfl rfl (by decide) dL_law_1113 dL_law_1114 dL_law_1116 dL_law_1117 dL_law_1118 ?_
  refine v_refV X e3 hle (ct_X10_way _ am (xs (i + 1)) (xs (i + 2))) (lw_V q2232 q2233 q2234 q120 q2235) ⟨rfl, dn_X10_way⟩ rfl ⟨by decide, by decide⟩ rfl (Nat.le_of_ble_eq_true rfl) dL_law_1119 ?_
  show V K 7 _ 1122 [(0, .ref b), (1, .ref ax), (2, .ref am), (3, .ref ao), (4, .int (nI i))] [.int _, .int _]
  exact v_icmp_eq (tgt := 1317) X dL_law_1122 (by decide) (fun _ => next) (fun q => absurd rfl q)
def LS_32 (ax am ao : Nat) (a : Nat → Int32) (h h' : gH) : Prop := LS2 am (M_X1_wayAt ax (a 1)) (M_X10_wayAt (a 1)) h h'
set_option maxHeartbeats 4000000 in
theorem lawc_32 (X : gX K cL_law 7 "BitingDoorsLaw" "law" (some .boolean) 107 2665) (hB : va_T .int b L (fun j => .int (xs j)) (gY (kG K)) (ks K) (ks K).heap) (hL : L ≤ 384) (hi : i + 6 ≤ L) (hle : gLe h' (kh1 K)) (next : V K 7 h' 1317 [(0, .ref b), (1, .ref ax), (2, .ref am), (3, .ref ao), (4, .int (nI i))] []) (hS : LS_32 ax am ao (fun k => xs (i + k)) h h') : V K 7 h 1127 [(0, .ref b), (1, .ref ax), (2, .ref am), (3, .ref ao), (4, .int (nI i))] [] := by
  obtain ⟨v, h1, hn, ms, ms', e1, rfl, e3, rfl⟩ := hS
  have LE1 : gLe (mkM am hn ms) (kh1 K) := ⟨hle.1, hle.2⟩
  refine v_aload_n X dL_law_1127 1 1 rfl rfl ?_
  refine v_arg X hB 1 (by omega) (by omega) 0 4 rfl rfl (by decide) dL_law_1128 dL_law_1129 dL_law_1131 dL_law_1132 dL_law_1133 ?_
  refine v_callV X (Mo.pt_bind e1) LE1 (ct_X1_wayAt _ ax (xs (i + 1))) gCl_X1 (lw_V q1406 q1407 q1408 q109 q1409) ⟨rfl, dn_X1_wayAt⟩ rfl ⟨by decide, by decide⟩ rfl (Nat.le_of_ble_eq_true rfl) dL_law_1134 (fun v2 h2 hd => ?_)
  obtain ⟨rfl, rfl, -⟩ := Mo.pt_some hd
  show V K 7 _ 1137 [(0, .ref b), (1, .ref ax), (2, .ref am), (3, .ref ao), (4, .int (nI i))] [.int _]
  refine v_aload_n X dL_law_1137 2 2 rfl rfl ?_
  refine v_arg X hB 1 (by omega) (by omega) 0 4 rfl rfl (by decide) dL_law_1138 dL_law_1139 dL_law_1141 dL_law_1142 dL_law_1143 ?_
  refine v_refV X e3 hle (ct_X10_wayAt _ am (xs (i + 1))) (lw_V q2252 q2253 q2254 q120 q2255) ⟨rfl, dn_X10_wayAt⟩ rfl ⟨by decide, by decide⟩ rfl (Nat.le_of_ble_eq_true rfl) dL_law_1144 ?_
  show V K 7 _ 1147 [(0, .ref b), (1, .ref ax), (2, .ref am), (3, .ref ao), (4, .int (nI i))] [.int _, .int _]
  exact v_icmp_eq (tgt := 1317) X dL_law_1147 (by decide) (fun _ => next) (fun q => absurd rfl q)
def LS_33 (ax am ao : Nat) (a : Nat → Int32) (h h' : gH) : Prop := LS2 am (M_X1_walk ax) (M_X10_walk) h h'
set_option maxHeartbeats 4000000 in
theorem lawc_33 (X : gX K cL_law 7 "BitingDoorsLaw" "law" (some .boolean) 107 2665) (hB : va_T .int b L (fun j => .int (xs j)) (gY (kG K)) (ks K) (ks K).heap) (hL : L ≤ 384) (hi : i + 6 ≤ L) (hle : gLe h' (kh1 K)) (next : V K 7 h' 1317 [(0, .ref b), (1, .ref ax), (2, .ref am), (3, .ref ao), (4, .int (nI i))] []) (hS : LS_33 ax am ao (fun k => xs (i + k)) h h') : V K 7 h 1152 [(0, .ref b), (1, .ref ax), (2, .ref am), (3, .ref ao), (4, .int (nI i))] [] := by
  obtain ⟨v, h1, hn, ms, ms', e1, rfl, e3, rfl⟩ := hS
  have LE1 : gLe (mkM am hn ms) (kh1 K) := ⟨hle.1, hle.2⟩
  refine v_aload_n X dL_law_1152 1 1 rfl rfl ?_
  refine v_callV X (Mo.pt_bind e1) LE1 (ct_X1_walk _ ax) gCl_X1 (lw_V q1410 q1411 q1412 q109 q1413) ⟨rfl, dn_X1_walk⟩ rfl ⟨by decide, by decide⟩ rfl (Nat.le_of_ble_eq_true rfl) dL_law_1153 (fun v2 h2 hd => ?_)
  obtain ⟨rfl, rfl, -⟩ := Mo.pt_some hd
  show V K 7 _ 1156 [(0, .ref b), (1, .ref ax), (2, .ref am), (3, .ref ao), (4, .int (nI i))] [.int _]
  refine v_aload_n X dL_law_1156 2 2 rfl rfl ?_
  refine v_refV X e3 hle (ct_X10_walk _ am) (lw_V q2256 q2257 q2258 q120 q2259) ⟨rfl, dn_X10_walk⟩ rfl ⟨by decide, by decide⟩ rfl (Nat.le_of_ble_eq_true rfl) dL_law_1157 ?_
  show V K 7 _ 1160 [(0, .ref b), (1, .ref ax), (2, .ref am), (3, .ref ao), (4, .int (nI i))] [.int _, .int _]
  exact v_icmp_eq (tgt := 1317) X dL_law_1160 (by decide) (fun _ => next) (fun q => absurd rfl q)
def LS_34 (ax am ao : Nat) (a : Nat → Int32) (h h' : gH) : Prop := LS2 am (M_X1_reach ax (a 1)) (M_X10_reach (a 1)) h h'
set_option maxHeartbeats 4000000 in
theorem lawc_34 (X : gX K cL_law 7 "BitingDoorsLaw" "law" (some .boolean) 107 2665) (hB : va_T .int b L (fun j => .int (xs j)) (gY (kG K)) (ks K) (ks K).heap) (hL : L ≤ 384) (hi : i + 6 ≤ L) (hle : gLe h' (kh1 K)) (next : V K 7 h' 1317 [(0, .ref b), (1, .ref ax), (2, .ref am), (3, .ref ao), (4, .int (nI i))] []) (hS : LS_34 ax am ao (fun k => xs (i + k)) h h') : V K 7 h 1165 [(0, .ref b), (1, .ref ax), (2, .ref am), (3, .ref ao), (4, .int (nI i))] [] := by
  obtain ⟨v, h1, hn, ms, ms', e1, rfl, e3, rfl⟩ := hS
  have LE1 : gLe (mkM am hn ms) (kh1 K) := ⟨hle.1, hle.2⟩
  refine v_aload_n X dL_law_1165 1 1 rfl rfl ?_
  refine v_arg X hB 1 (by omega) (by omega) 0 4 rfl rfl (by decide) dL_law_1166 dL_law_1167 dL_law_1169 dL_law_1170 dL_law_1171 ?_
  refine v_callV X (Mo.pt_bind e1) LE1 (ct_X1_reach _ ax (xs (i + 1))) gCl_X1 (lw_V q1414 q1415 q1416 q109 q1417) ⟨rfl, dn_X1_reach⟩ rfl ⟨by decide, by decide⟩ rfl (Nat.le_of_ble_eq_true rfl) dL_law_1172 (fun v2 h2 hd => ?_)
  obtain ⟨rfl, rfl, -⟩ := Mo.pt_some hd
  show V K 7 _ 1175 [(0, .ref b), (1, .ref ax), (2, .ref am), (3, .ref ao), (4, .int (nI i))] [.int _]
  refine v_aload_n X dL_law_1175 2 2 rfl rfl ?_
  refine v_arg X hB 1 (by omega) (by omega) 0 4 rfl rfl (by decide) dL_law_1176 dL_law_1177 dL_law_1179 dL_law_1180 dL_law_1181 ?_
  refine v_refV X e3 hle (ct_X10_reach _ am (xs (i + 1))) (lw_V q2260 q2261 q2262 q120 q2263) ⟨rfl, dn_X10_reach⟩ rfl ⟨by decide, by decide⟩ rfl (Nat.le_of_ble_eq_true rfl) dL_law_1182 ?_
  show V K 7 _ 1185 [(0, .ref b), (1, .ref ax), (2, .ref am), (3, .ref ao), (4, .int (nI i))] [.int _, .int _]
  exact v_icmp_eq (tgt := 1317) X dL_law_1185 (by decide) (fun _ => next) (fun q => absurd rfl q)
def LS_35 (ax am ao : Nat) (a : Nat → Int32) (h h' : gH) : Prop := LS2 am (M_X1_quiet ax) (M_X10_quiet) h h'
set_option maxHeartbeats 4000000 in
theorem lawc_35 (X : gX K cL_law 7 "BitingDoorsLaw" "law" (some .boolean) 107 2665) (hB : va_T .int b L (fun j => .int (xs j)) (gY (kG K)) (ks K) (ks K).heap) (hL : L ≤ 384) (hi : i + 6 ≤ L) (hle : gLe h' (kh1 K)) (next : V K 7 h' 1317 [(0, .ref b), (1, .ref ax), (2, .ref am), (3, .ref ao), (4, .int (nI i))] []) (hS : LS_35 ax am ao (fun k => xs (i + k)) h h') : V K 7 h 1190 [(0, .ref b), (1, .ref ax), (2, .ref am), (3, .ref ao), (4, .int (nI i))] [] := by
  obtain ⟨v, h1, hn, ms, ms', e1, rfl, e3, rfl⟩ := hS
  have LE1 : gLe (mkM am hn ms) (kh1 K) := ⟨hle.1, hle.2⟩
  refine v_aload_n X dL_law_1190 1 1 rfl rfl ?_
  refine v_callV X (Mo.pt_bind e1) LE1 (ct_X1_quiet _ ax) gCl_X1 (lw_V q1424 q1425 q1426 q109 q1427) ⟨rfl, dn_X1_quiet⟩ rfl ⟨by decide, by decide⟩ rfl (Nat.le_of_ble_eq_true rfl) dL_law_1191 (fun v2 h2 hd => ?_)
  obtain ⟨rfl, rfl, -⟩ := Mo.pt_some hd
  show V K 7 _ 1194 [(0, .ref b), (1, .ref ax), (2, .ref am), (3, .ref ao), (4, .int (nI i))] [.int _]
  refine v_aload_n X dL_law_1194 2 2 rfl rfl ?_
  refine v_refV X e3 hle (ct_X10_quiet _ am) (lw_V q2268 q2269 q2270 q120 q2271) ⟨rfl, dn_X10_quiet⟩ rfl ⟨by decide, by decide⟩ rfl (Nat.le_of_ble_eq_true rfl) dL_law_1195 ?_
  show V K 7 _ 1198 [(0, .ref b), (1, .ref ax), (2, .ref am), (3, .ref ao), (4, .int (nI i))] [.int _, .int _]
  exact v_icmp_eq (tgt := 1317) X dL_law_1198 (by decide) (fun _ => next) (fun q => absurd rfl q)
def LS_36 (ax am ao : Nat) (a : Nat → Int32) (h h' : gH) : Prop := LS2 am (M_X1_stride ax) (M_X10_stride) h h'
set_option maxHeartbeats 4000000 in
theorem lawc_36 (X : gX K cL_law 7 "BitingDoorsLaw" "law" (some .boolean) 107 2665) (hB : va_T .int b L (fun j => .int (xs j)) (gY (kG K)) (ks K) (ks K).heap) (hL : L ≤ 384) (hi : i + 6 ≤ L) (hle : gLe h' (kh1 K)) (next : V K 7 h' 1317 [(0, .ref b), (1, .ref ax), (2, .ref am), (3, .ref ao), (4, .int (nI i))] []) (hS : LS_36 ax am ao (fun k => xs (i + k)) h h') : V K 7 h 1203 [(0, .ref b), (1, .ref ax), (2, .ref am), (3, .ref ao), (4, .int (nI i))] [] := by
  obtain ⟨v, h1, hn, ms, ms', e1, rfl, e3, rfl⟩ := hS
  have LE1 : gLe (mkM am hn ms) (kh1 K) := ⟨hle.1, hle.2⟩
  refine v_aload_n X dL_law_1203 1 1 rfl rfl ?_
  refine v_callV X (Mo.pt_bind e1) LE1 (ct_X1_stride _ ax) gCl_X1 (lw_V q1428 q1429 q1430 q109 q1431) ⟨rfl, dn_X1_stride⟩ rfl ⟨by decide, by decide⟩ rfl (Nat.le_of_ble_eq_true rfl) dL_law_1204 (fun v2 h2 hd => ?_)
  obtain ⟨rfl, rfl, -⟩ := Mo.pt_some hd
  show V K 7 _ 1207 [(0, .ref b), (1, .ref ax), (2, .ref am), (3, .ref ao), (4, .int (nI i))] [.int _]
  refine v_aload_n X dL_law_1207 2 2 rfl rfl ?_
  refine v_refV X e3 hle (ct_X10_stride _ am) (lw_V q2272 q2273 q2274 q120 q2275) ⟨rfl, dn_X10_stride⟩ rfl ⟨by decide, by decide⟩ rfl (Nat.le_of_ble_eq_true rfl) dL_law_1208 ?_
  show V K 7 _ 1211 [(0, .ref b), (1, .ref ax), (2, .ref am), (3, .ref ao), (4, .int (nI i))] [.int _, .int _]
  exact v_icmp_eq (tgt := 1317) X dL_law_1211 (by decide) (fun _ => next) (fun q => absurd rfl q)
def LS_37 (ax am ao : Nat) (a : Nat → Int32) (h h' : gH) : Prop := LS2 am (M_X1_sentence ax) (M_X10_sentence) h h'
set_option maxHeartbeats 4000000 in
theorem lawc_37 (X : gX K cL_law 7 "BitingDoorsLaw" "law" (some .boolean) 107 2665) (hB : va_T .int b L (fun j => .int (xs j)) (gY (kG K)) (ks K) (ks K).heap) (hL : L ≤ 384) (hi : i + 6 ≤ L) (hle : gLe h' (kh1 K)) (next : V K 7 h' 1317 [(0, .ref b), (1, .ref ax), (2, .ref am), (3, .ref ao), (4, .int (nI i))] []) (hS : LS_37 ax am ao (fun k => xs (i + k)) h h') : V K 7 h 1216 [(0, .ref b), (1, .ref ax), (2, .ref am), (3, .ref ao), (4, .int (nI i))] [] := by
  obtain ⟨v, h1, hn, ms, ms', e1, rfl, e3, rfl⟩ := hS
  have LE1 : gLe (mkM am hn ms) (kh1 K) := ⟨hle.1, hle.2⟩
  refine v_aload_n X dL_law_1216 1 1 rfl rfl ?_
  refine v_callVW X (Mo.pt_bind e1) LE1 (ct_X1_sentence _ ax ) gCl_X1 q1432 q1433 q1434 q109 q1435 dn_X1_sentence rfl ⟨by decide, by decide⟩ rfl (Nat.le_of_ble_eq_true rfl) dL_law_1217 (fun v2 h2 hd => ?_)
  obtain ⟨rfl, rfl, -⟩ := Mo.pt_some hd
  show V K 7 _ 1220 [(0, .ref b), (1, .ref ax), (2, .ref am), (3, .ref ao), (4, .int (nI i))] [.int _]
  refine v_aload_n X dL_law_1220 2 2 rfl rfl ?_
  refine v_refV X e3 hle (ct_X10_sentence _ am) (lw_V q2276 q2277 q2278 q120 q2279) ⟨rfl, dn_X10_sentence⟩ rfl ⟨by decide, by decide⟩ rfl (Nat.le_of_ble_eq_true rfl) dL_law_1221 ?_
  show V K 7 _ 1224 [(0, .ref b), (1, .ref ax), (2, .ref am), (3, .ref ao), (4, .int (nI i))] [.int _, .int _]
  exact v_icmp_eq (tgt := 1317) X dL_law_1224 (by decide) (fun _ => next) (fun q => absurd rfl q)
def LS_38 (ax am ao : Nat) (a : Nat → Int32) (h h' : gH) : Prop := LS2 am (M_X1_said ax) (M_X10_said) h h'
set_option maxHeartbeats 4000000 in
theorem lawc_38 (X : gX K cL_law 7 "BitingDoorsLaw" "law" (some .boolean) 107 2665) (hB : va_T .int b L (fun j => .int (xs j)) (gY (kG K)) (ks K) (ks K).heap) (hL : L ≤ 384) (hi : i + 6 ≤ L) (hle : gLe h' (kh1 K)) (next : V K 7 h' 1317 [(0, .ref b), (1, .ref ax), (2, .ref am), (3, .ref ao), (4, .int (nI i))] []) (hS : LS_38 ax am ao (fun k => xs (i + k)) h h') : V K 7 h 1229 [(0, .ref b), (1, .ref ax), (2, .ref am), (3, .ref ao), (4, .int (nI i))] [] := by
  obtain ⟨v, h1, hn, ms, ms', e1, rfl, e3, rfl⟩ := hS
  have LE1 : gLe (mkM am hn ms) (kh1 K) := ⟨hle.1, hle.2⟩
  refine v_aload_n X dL_law_1229 1 1 rfl rfl ?_
  refine v_callV X (Mo.pt_bind e1) LE1 (ct_X1_said _ ax) gCl_X1 (lw_V q1560 q1561 q1562 q109 q1563) ⟨rfl, dn_X1_said⟩ rfl ⟨by decide, by decide⟩ rfl (Nat.le_of_ble_eq_true rfl) dL_law_1230 (fun v2 h2 hd => ?_)
  obtain ⟨rfl, rfl, -⟩ := Mo.pt_some hd
  show V K 7 _ 1233 [(0, .ref b), (1, .ref ax), (2, .ref am), (3, .ref ao), (4, .int (nI i))] [.int _]
  refine v_aload_n X dL_law_1233 2 2 rfl rfl ?_
  refine v_refV X e3 hle (ct_X10_said _ am) (lw_V q2316 q2317 q2318 q120 q2319) ⟨rfl, dn_X10_said⟩ rfl ⟨by decide, by decide⟩ rfl (Nat.le_of_ble_eq_true rfl) dL_law_1234 ?_
  show V K 7 _ 1237 [(0, .ref b), (1, .ref ax), (2, .ref am), (3, .ref ao), (4, .int (nI i))] [.int _, .int _]
  exact v_icmp_eq (tgt := 1317) X dL_law_1237 (by decide) (fun _ => next) (fun q => absurd rfl q)
def LS_39 (ax am ao : Nat) (a : Nat → Int32) (h h' : gH) : Prop := LS2 am (M_X1_image ax (a 1)) (M_X10_image (a 1)) h h'
set_option maxHeartbeats 4000000 in
theorem lawc_39 (X : gX K cL_law 7 "BitingDoorsLaw" "law" (some .boolean) 107 2665) (hB : va_T .int b L (fun j => .int (xs j)) (gY (kG K)) (ks K) (ks K).heap) (hL : L ≤ 384) (hi : i + 6 ≤ L) (hle : gLe h' (kh1 K)) (next : V K 7 h' 1317 [(0, .ref b), (1, .ref ax), (2, .ref am), (3, .ref ao), (4, .int (nI i))] []) (hS : LS_39 ax am ao (fun k => xs (i + k)) h h') : V K 7 h 1242 [(0, .ref b), (1, .ref ax), (2, .ref am), (3, .ref ao), (4, .int (nI i))] [] := by
  obtain ⟨v, h1, hn, ms, ms', e1, rfl, e3, rfl⟩ := hS
  have LE1 : gLe (mkM am hn ms) (kh1 K) := ⟨hle.1, hle.2⟩
  refine v_aload_n X dL_law_1242 1 1 rfl rfl ?_
  refine v_arg X hB 1 (by omega) (by omega) 0 4 rfl rfl (by decide) dL_law_1243 dL_law_1244 dL_law_1246 dL_law_1247 dL_law_1248 ?_
  refine v_callV X (Mo.pt_bind e1) LE1 (ct_X1_image _ ax (xs (i + 1))) gCl_X1 (lw_V q1598 q1599 q1600 q109 q1601) ⟨rfl, dn_X1_image⟩ rfl ⟨by decide, by decide⟩ rfl (Nat.le_of_ble_eq_true rfl) dL_law_1249 (fun v2 h2 hd => ?_)
  obtain ⟨rfl, rfl, -⟩ := Mo.pt_some hd
  show V K 7 _ 1252 [(0, .ref b), (1, .ref ax), (2, .ref am), (3, .ref ao), (4, .int (nI i))] [.int (b2i _)]
  refine v_aload_n X dL_law_1252 2 2 rfl rfl ?_
  refine v_arg X hB 1 (by omega) (by omega) 0 4 rfl rfl (by decide) dL_law_1253 dL_law_1254 dL_law_1256 dL_law_1257 dL_law_1258 ?_
  refine v_refV X e3 hle (ct_X10_image _ am (xs (i + 1))) (lw_V q2328 q2329 q2330 q120 q2331) ⟨rfl, dn_X10_image⟩ rfl ⟨by decide, by decide⟩ rfl (Nat.le_of_ble_eq_true rfl) dL_law_1259 ?_
  show V K 7 _ 1262 [(0, .ref b), (1, .ref ax), (2, .ref am), (3, .ref ao), (4, .int (nI i))] [.int (b2i _), .int (b2i _)]
  exact v_icmp_eq (tgt := 1317) X dL_law_1262 (by decide) (fun _ => next) (fun q => absurd rfl q)
def LS_40 (ax am ao : Nat) (a : Nat → Int32) (h h' : gH) : Prop := LS2 am (M_X1_restore ax (a 1)) (M_X10_restore (a 1)) h h'
set_option maxHeartbeats 4000000 in
theorem lawc_40 (X : gX K cL_law 7 "BitingDoorsLaw" "law" (some .boolean) 107 2665) (hB : va_T .int b L (fun j => .int (xs j)) (gY (kG K)) (ks K) (ks K).heap) (hL : L ≤ 384) (hi : i + 6 ≤ L) (hle : gLe h' (kh1 K)) (next : V K 7 h' 1317 [(0, .ref b), (1, .ref ax), (2, .ref am), (3, .ref ao), (4, .int (nI i))] []) (hS : LS_40 ax am ao (fun k => xs (i + k)) h h') : V K 7 h 1267 [(0, .ref b), (1, .ref ax), (2, .ref am), (3, .ref ao), (4, .int (nI i))] [] := by
  obtain ⟨v, h1, hn, ms, ms', e1, rfl, e3, rfl⟩ := hS
  have LE1 : gLe (mkM am hn ms) (kh1 K) := ⟨hle.1, hle.2⟩
  refine v_aload_n X dL_law_1267 1 1 rfl rfl ?_
  refine v_arg X hB 1 (by omega) (by omega) 0 4 rfl rfl (by decide) dL_law_1268 dL_law_1269 dL_law_1271 dL_law_1272 dL_law_1273 ?_
  refine v_callV X (Mo.pt_bind e1) LE1 (ct_X1_restore _ ax (xs (i + 1))) gCl_X1 (lw_V q1602 q1603 q1604 q109 q1605) ⟨rfl, dn_X1_restore⟩ rfl ⟨by decide, by decide⟩ rfl (Nat.le_of_ble_eq_true rfl) dL_law_1274 (fun v2 h2 hd => ?_)
  obtain ⟨rfl, rfl, -⟩ := Mo.pt_some hd
  show V K 7 _ 1277 [(0, .ref b), (1, .ref ax), (2, .ref am), (3, .ref ao), (4, .int (nI i))] [.int (b2i _)]
  refine v_aload_n X dL_law_1277 2 2 rfl rfl ?_
  refine v_arg X hB 1 (by omega) (by omega) 0 4 rfl rfl (by decide) dL_law_1278 dL_law_1279 dL_law_1281 dL_law_1282 dL_law_1283 ?_
  refine v_refV X e3 hle (ct_X10_restore _ am (xs (i + 1))) (lw_V q2332 q2333 q2334 q120 q2335) ⟨rfl, dn_X10_restore⟩ rfl ⟨by decide, by decide⟩ rfl (Nat.le_of_ble_eq_true rfl) dL_law_1284 ?_
  show V K 7 _ 1287 [(0, .ref b), (1, .ref ax), (2, .ref am), (3, .ref ao), (4, .int (nI i))] [.int (b2i _), .int (b2i _)]
  exact v_icmp_eq (tgt := 1317) X dL_law_1287 (by decide) (fun _ => next) (fun q => absurd rfl q)
def LS_41 (ax am ao : Nat) (a : Nat → Int32) (h h' : gH) : Prop := LS2 am (M_X1_count ax (a 1)) (M_X10_count (a 1)) h h'
set_option maxHeartbeats 4000000 in
theorem lawc_41 (X : gX K cL_law 7 "BitingDoorsLaw" "law" (some .boolean) 107 2665) (hB : va_T .int b L (fun j => .int (xs j)) (gY (kG K)) (ks K) (ks K).heap) (hL : L ≤ 384) (hi : i + 6 ≤ L) (hle : gLe h' (kh1 K)) (next : V K 7 h' 1317 [(0, .ref b), (1, .ref ax), (2, .ref am), (3, .ref ao), (4, .int (nI i))] []) (hS : LS_41 ax am ao (fun k => xs (i + k)) h h') : V K 7 h 1292 [(0, .ref b), (1, .ref ax), (2, .ref am), (3, .ref ao), (4, .int (nI i))] [] := by
  obtain ⟨v, h1, hn, ms, ms', e1, rfl, e3, rfl⟩ := hS
  have LE1 : gLe (mkM am hn ms) (kh1 K) := ⟨hle.1, hle.2⟩
  refine v_aload_n X dL_law_1292 1 1 rfl rfl ?_
  refine v_arg X hB 1 (by omega) (by omega) 0 4 rfl rfl (by decide) dL_law_1293 dL_law_1294 dL_law_1296 dL_law_1297 dL_law_1298 ?_
  refine v_callV X (Mo.pt_bind e1) LE1 (ct_X1_count _ ax (xs (i + 1))) gCl_X1 (lw_V q1606 q1607 q1608 q109 q1609) ⟨rfl, dn_X1_count⟩ rfl ⟨by decide, by decide⟩ rfl (Nat.le_of_ble_eq_true rfl) dL_law_1299 (fun v2 h2 hd => ?_)
  obtain ⟨rfl, rfl, -⟩ := Mo.pt_some hd
  show V K 7 _ 1302 [(0, .ref b), (1, .ref ax), (2, .ref am), (3, .ref ao), (4, .int (nI i))] [.int _]
  refine v_aload_n X dL_law_1302 2 2 rfl rfl ?_
  refine v_arg X hB 1 (by omega) (by omega) 0 4 rfl rfl (by decide) dL_law_1303 dL_law_1304 dL_law_1306 dL_law_1307 dL_law_1308 ?_
  refine v_refV X e3 hle (ct_X10_count _ am (xs (i + 1))) (lw_V q2336 q2337 q2338 q120 q2339) ⟨rfl, dn_X10_count⟩ rfl ⟨by decide, by decide⟩ rfl (Nat.le_of_ble_eq_true rfl) dL_law_1309 ?_
  show V K 7 _ 1312 [(0, .ref b), (1, .ref ax), (2, .ref am), (3, .ref ao), (4, .int (nI i))] [.int _, .int _]
  exact v_icmp_eq (tgt := 1317) X dL_law_1312 (by decide) (fun _ => next) (fun q => absurd rfl q)
end
def LSt (ax am ao : Nat) (op : Int32) (a : Nat → Int32) (h h' : gH) : Prop := if op = 0 then LS_0 ax am ao a h h' else if op = 1 then LS_1 ax am ao a h h' else if op = 2 then LS_2 ax am ao a h h' else if op = 3 then LS_3 ax am ao a h h' else if op = 4 then LS_4 ax am ao a h h' else if op = 5 then LS_5 ax am ao a h h' else if op = 6 then LS_6 ax am ao a h h' else if op = 7 then LS_7 ax am ao a h h' else if op = 8 then LS_8 ax am ao a h h' else if op = 9 then LS_9 ax am ao a h h' else if op = 10 then LS_10 ax am ao a h h' else if op = 11 then LS_11 ax am ao a h h' else if op = 12 then LS_12 ax am ao a h h' else if op = 13 then LS_13 ax am ao a h h' else if op = 14 then LS_14 ax am ao a h h' else if op = 15 then LS_15 ax am ao a h h' else if op = 16 then LS_16 ax am ao a h h' else if op = 17 then LS_17 ax am ao a h h' else if op = 18 then LS_18 ax am ao a h h' else if op = 19 then LS_19 ax am ao a h h' else if op = 20 then LS_20 ax am ao a h h' else if op = 21 then LS_21 ax am ao a h h' else if op = 22 then LS_22 ax am ao a h h' else if op = 23 then LS_23 ax am ao a h h' else if op = 24 then LS_24 ax am ao a h h' else if op = 25 then LS_25 ax am ao a h h' else if op = 26 then LS_26 ax am ao a h h' else if op = 27 then LS_27 ax am ao a h h' else if op = 28 then LS_28 ax am ao a h h' else if op = 29 then LS_29 ax am ao a h h' else if op = 30 then LS_30 ax am ao a h h' else if op = 31 then LS_31 ax am ao a h h' else if op = 32 then LS_32 ax am ao a h h' else if op = 33 then LS_33 ax am ao a h h' else if op = 34 then LS_34 ax am ao a h h' else if op = 35 then LS_35 ax am ao a h h' else if op = 36 then LS_36 ax am ao a h h' else if op = 37 then LS_37 ax am ao a h h' else if op = 38 then LS_38 ax am ao a h h' else if op = 39 then LS_39 ax am ao a h h' else if op = 40 then LS_40 ax am ao a h h' else if op = 41 then LS_41 ax am ao a h h' else h' = h
theorem LSt.le {ax am ao : Nat} {op : Int32} {a : Nat → Int32} {h h' : gH} (s : LSt ax am ao op a h h') : gLe h h' := by
  unfold LSt at s
  by_cases q0 : op = 0
  · rw [if_pos q0] at s
    exact LS2.le s
  rw [if_neg q0] at s
  by_cases q1 : op = 1
  · rw [if_pos q1] at s
    exact LS2.le s
  rw [if_neg q1] at s
  by_cases q2 : op = 2
  · rw [if_pos q2] at s
    exact LS2.le s
  rw [if_neg q2] at s
  by_cases q3 : op = 3
  · rw [if_pos q3] at s
    exact LS2.le s
  rw [if_neg q3] at s
  by_cases q4 : op = 4
  · rw [if_pos q4] at s
    exact LS2.le s
  rw [if_neg q4] at s
  by_cases q5 : op = 5
  · rw [if_pos q5] at s
    obtain ⟨kv, h1, hn, ms, bv, ms2, ms3, e1, rfl, e3, e4, rfl, e5⟩ := s
    exact (Mo.le e1).tr mLe
  rw [if_neg q5] at s
  by_cases q6 : op = 6
  · rw [if_pos q6] at s
    exact LS2.le s
  rw [if_neg q6] at s
  by_cases q7 : op = 7
  · rw [if_pos q7] at s
    exact LS2.le s
  rw [if_neg q7] at s
  by_cases q8 : op = 8
  · rw [if_pos q8] at s
    exact LS2.le s
  rw [if_neg q8] at s
  by_cases q9 : op = 9
  · rw [if_pos q9] at s
    exact LS2.le s
  rw [if_neg q9] at s
  by_cases q10 : op = 10
  · rw [if_pos q10] at s
    exact LS2.le s
  rw [if_neg q10] at s
  by_cases q11 : op = 11
  · rw [if_pos q11] at s
    exact LS2.le s
  rw [if_neg q11] at s
  by_cases q12 : op = 12
  · rw [if_pos q12] at s
    exact LS2.le s
  rw [if_neg q12] at s
  by_cases q13 : op = 13
  · rw [if_pos q13] at s
    exact LS2.le s
  rw [if_neg q13] at s
  by_cases q14 : op = 14
  · rw [if_pos q14] at s
    exact LS2.le s
  rw [if_neg q14] at s
  by_cases q15 : op = 15
  · rw [if_pos q15] at s
    exact LS2.le s
  rw [if_neg q15] at s
  by_cases q16 : op = 16
  · rw [if_pos q16] at s
    exact LS2.le s
  rw [if_neg q16] at s
  by_cases q17 : op = 17
  · rw [if_pos q17] at s
    exact LS2.le s
  rw [if_neg q17] at s
  by_cases q18 : op = 18
  · rw [if_pos q18] at s
    exact LS2.le s
  rw [if_neg q18] at s
  by_cases q19 : op = 19
  · rw [if_pos q19] at s
    exact LS2.le s
  rw [if_neg q19] at s
  by_cases q20 : op = 20
  · rw [if_pos q20] at s
    exact LS2.le s
  rw [if_neg q20] at s
  by_cases q21 : op = 21
  · rw [if_pos q21] at s
    exact LS2.le s
  rw [if_neg q21] at s
  by_cases q22 : op = 22
  · rw [if_pos q22] at s
    exact LS2.le s
  rw [if_neg q22] at s
  by_cases q23 : op = 23
  · rw [if_pos q23] at s
    exact LS2.le s
  rw [if_neg q23] at s
  by_cases q24 : op = 24
  · rw [if_pos q24] at s
    exact LS2.le s
  rw [if_neg q24] at s
  by_cases q25 : op = 25
  · rw [if_pos q25] at s
    exact LS2.le s
  rw [if_neg q25] at s
  by_cases q26 : op = 26
  · rw [if_pos q26] at s
    exact LS2.le s
  rw [if_neg q26] at s
  by_cases q27 : op = 27
  · rw [if_pos q27] at s
    exact LS2.le s
  rw [if_neg q27] at s
  by_cases q28 : op = 28
  · rw [if_pos q28] at s
    exact LS2.le s
  rw [if_neg q28] at s
  by_cases q29 : op = 29
  · rw [if_pos q29] at s
    exact LS2.le s
  rw [if_neg q29] at s
  by_cases q30 : op = 30
  · rw [if_pos q30] at s
    exact LS2.le s
  rw [if_neg q30] at s
  by_cases q31 : op = 31
  · rw [if_pos q31] at s
    exact LS2.le s
  rw [if_neg q31] at s
  by_cases q32 : op = 32
  · rw [if_pos q32] at s
    exact LS2.le s
  rw [if_neg q32] at s
  by_cases q33 : op = 33
  · rw [if_pos q33] at s
    exact LS2.le s
  rw [if_neg q33] at s
  by_cases q34 : op = 34
  · rw [if_pos q34] at s
    exact LS2.le s
  rw [if_neg q34] at s
  by_cases q35 : op = 35
  · rw [if_pos q35] at s
    exact LS2.le s
  rw [if_neg q35] at s
  by_cases q36 : op = 36
  · rw [if_pos q36] at s
    exact LS2.le s
  rw [if_neg q36] at s
  by_cases q37 : op = 37
  · rw [if_pos q37] at s
    exact LS2.le s
  rw [if_neg q37] at s
  by_cases q38 : op = 38
  · rw [if_pos q38] at s
    exact LS2.le s
  rw [if_neg q38] at s
  by_cases q39 : op = 39
  · rw [if_pos q39] at s
    exact LS2.le s
  rw [if_neg q39] at s
  by_cases q40 : op = 40
  · rw [if_pos q40] at s
    exact LS2.le s
  rw [if_neg q40] at s
  by_cases q41 : op = 41
  · rw [if_pos q41] at s
    exact LS2.le s
  rw [if_neg q41] at s
  rw [s]; exact gLe.rf
def LR (ax am ao : Nat) (xs : Nat → Int32) : Nat → Nat → gH → gH → Prop
  | 0, _, h, h' => h' = h
  | n + 1, i, h, h' => ∃ h1, LSt ax am ao (xs i &&& 63) (fun k => xs (i + k)) h h1 ∧ LR ax am ao xs n (i + 6) h1 h'
theorem LR.le {ax am ao : Nat} {xs : Nat → Int32} : ∀ {n i : Nat} {h h' : gH}, LR ax am ao xs n i h h' → gLe h h'
  | 0, _, h, h', e => by have e : h' = h := e; rw [e]; exact gLe.rf
  | n + 1, i, h, h', e => by
    obtain ⟨h1, e1, e2⟩ := e
    exact e1.le.tr (LR.le e2)
set_option maxHeartbeats 4000000 in
theorem law_loop {K : gK} {b L ax am ao : Nat} {xs : Nat → Int32} (X : gX K cL_law 7 "BitingDoorsLaw" "law" (some .boolean) 107 2665) (hB : va_T .int b L (fun j => .int (xs j)) (gY (kG K)) (ks K) (ks K).heap) (hL : L ≤ 384) (ho : ko K = .returned (some (.int 1))) : ∀ (n i : Nat) (h : gH), i + 6 * n ≤ L → L < i + 6 * n + 6 → LR ax am ao xs n i h (kh1 K) → V K 7 h 23 [(0, .ref b), (1, .ref ax), (2, .ref am), (3, .ref ao), (4, .int (nI i))] [] := by
  intro n
  induction n with
  | zero =>
    intro i h h1 h2 hr
    have hr : kh1 K = h := hr
    refine v_iload X dL_law_23 4 rfl ?_
    refine v_aload_n X dL_law_25 0 0 rfl rfl ?_
    refine v_xlen X hB dL_law_26 ?_
    refine v_bipush (v := 6) X dL_law_27 (by decide) ?_
    refine v_isub X dL_law_29 ?_
    refine v_icmp_gt (tgt := 1323) X dL_law_30 (by decide) (fun _ => ?_) (fun q => absurd ((law_cmp (by omega) (by omega)).mpr (by omega)) q)
    refine v_iconst (v := 1) X dL_law_1323 (by decide) ?_
    exact v_zret (b := true) (y := true) X (by rw [hr]; rfl) rfl ho dL_law_1324
  | succ n ih =>
    intro i h h1 h2 hr
    obtain ⟨h', hS, hr⟩ := hr
    have hle := hr.le
    have next : V K 7 h' 1317 [(0, .ref b), (1, .ref ax), (2, .ref am), (3, .ref ao), (4, .int (nI i))] [] := by
      refine v_iinc (v := nI (i + 6)) (lv2 := [(4, .int (nI (i + 6))), (0, .ref b), (1, .ref ax), (2, .ref am), (3, .ref ao)]) X dL_law_1317 4 rfl (by rw [← nI_plus]; rfl) (by decide) rfl ?_
      refine v_goto (tgt := 23) X dL_law_1320 (by decide) ?_
      exact v_loc [1, 2, 3, 4, 0] rfl (ih (i + 6) h' (by omega) (by omega) hr)
    refine v_iload X dL_law_23 4 rfl ?_
    refine v_aload_n X dL_law_25 0 0 rfl rfl ?_
    refine v_xlen X hB dL_law_26 ?_
    refine v_bipush (v := 6) X dL_law_27 (by decide) ?_
    refine v_isub X dL_law_29 ?_
    refine v_icmp_gt (tgt := 1323) X dL_law_30 (by decide) (fun q => absurd ((law_cmp (by omega) (by omega)).mp q) (by omega)) (fun _ => ?_)
    refine v_aload_n X dL_law_33 0 0 rfl rfl ?_
    refine v_iload X dL_law_34 4 rfl ?_
    refine v_xald X hB (by omega) (by omega) dL_law_36 ?_
    refine v_bipush (v := 63) X dL_law_37 (by decide) ?_
    refine v_iand X dL_law_39 ?_
    unfold LSt at hS
    have hi : i + 6 ≤ L := by omega
    by_cases q0 : xs i &&& 63 = 0
    · rw [if_pos q0] at hS
      refine v_tableIn (k := 0) (off := 184) (tgt := 224) X dL_law_40 q0 (by decide) (by decide) rfl (by decide) ?_
      exact lawc_0 X hB hL hi hle next hS
    rw [if_neg q0] at hS
    by_cases q1 : xs i &&& 63 = 1
    · rw [if_pos q1] at hS
      refine v_tableIn (k := 1) (off := 257) (tgt := 297) X dL_law_40 q1 (by decide) (by decide) rfl (by decide) ?_
      exact lawc_1 X hB hL hi hle next hS
    rw [if_neg q1] at hS
    by_cases q2 : xs i &&& 63 = 2
    · rw [if_pos q2] at hS
      refine v_tableIn (k := 2) (off := 282) (tgt := 322) X dL_law_40 q2 (by decide) (by decide) rfl (by decide) ?_
      exact lawc_2 X hB hL hi hle next hS
    rw [if_neg q2] at hS
    by_cases q3 : xs i &&& 63 = 3
    · rw [if_pos q3] at hS
      refine v_tableIn (k := 3) (off := 295) (tgt := 335) X dL_law_40 q3 (by decide) (by decide) rfl (by decide) ?_
      exact lawc_3 X hB hL hi hle next hS
    rw [if_neg q3] at hS
    by_cases q4 : xs i &&& 63 = 4
    · rw [if_pos q4] at hS
      refine v_tableIn (k := 4) (off := 308) (tgt := 348) X dL_law_40 q4 (by decide) (by decide) rfl (by decide) ?_
      exact lawc_4 X hB hL hi hle next hS
    rw [if_neg q4] at hS
    by_cases q5 : xs i &&& 63 = 5
    · rw [if_pos q5] at hS
      refine v_tableIn (k := 5) (off := 345) (tgt := 385) X dL_law_40 q5 (by decide) (by decide) rfl (by decide) ?_
      exact lawc_5 X hB hL hi hle next hS
    rw [if_neg q5] at hS
    by_cases q6 : xs i &&& 63 = 6
    · rw [if_pos q6] at hS
      refine v_tableIn (k := 6) (off := 413) (tgt := 453) X dL_law_40 q6 (by decide) (by decide) rfl (by decide) ?_
      exact lawc_6 X hB hL hi hle next hS
    rw [if_neg q6] at hS
    by_cases q7 : xs i &&& 63 = 7
    · rw [if_pos q7] at hS
      refine v_tableIn (k := 7) (off := 474) (tgt := 514) X dL_law_40 q7 (by decide) (by decide) rfl (by decide) ?_
      exact lawc_7 X hB hL hi hle next hS
    rw [if_neg q7] at hS
    by_cases q8 : xs i &&& 63 = 8
    · rw [if_pos q8] at hS
      refine v_tableIn (k := 8) (off := 511) (tgt := 551) X dL_law_40 q8 (by decide) (by decide) rfl (by decide) ?_
      exact lawc_8 X hB hL hi hle next hS
    rw [if_neg q8] at hS
    by_cases q9 : xs i &&& 63 = 9
    · rw [if_pos q9] at hS
      refine v_tableIn (k := 9) (off := 548) (tgt := 588) X dL_law_40 q9 (by decide) (by decide) rfl (by decide) ?_
      exact lawc_9 X hB hL hi hle next hS
    rw [if_neg q9] at hS
    by_cases q10 : xs i &&& 63 = 10
    · rw [if_pos q10] at hS
      refine v_tableIn (k := 10) (off := 609) (tgt := 649) X dL_law_40 q10 (by decide) (by decide) rfl (by decide) ?_
      exact lawc_10 X hB hL hi hle next hS
    rw [if_neg q10] at hS
    by_cases q11 : xs i &&& 63 = 11
    · rw [if_pos q11] at hS
      refine v_tableIn (k := 11) (off := 622) (tgt := 662) X dL_law_40 q11 (by decide) (by decide) rfl (by decide) ?_
      exact lawc_11 X hB hL hi hle next hS
    rw [if_neg q11] at hS
    by_cases q12 : xs i &&& 63 = 12
    · rw [if_pos q12] at hS
      refine v_tableIn (k := 12) (off := 635) (tgt := 675) X dL_law_40 q12 (by decide) (by decide) rfl (by decide) ?_
      exact lawc_12 X hB hL hi hle next hS
    rw [if_neg q12] at hS
    by_cases q13 : xs i &&& 63 = 13
    · rw [if_pos q13] at hS
      refine v_tableIn (k := 13) (off := 660) (tgt := 700) X dL_law_40 q13 (by decide) (by decide) rfl (by decide) ?_
      exact lawc_13 X hB hL hi hle next hS
    rw [if_neg q13] at hS
    by_cases q14 : xs i &&& 63 = 14
    · rw [if_pos q14] at hS
      refine v_tableIn (k := 14) (off := 673) (tgt := 713) X dL_law_40 q14 (by decide) (by decide) rfl (by decide) ?_
      exact lawc_14 X hB hL hi hle next hS
    rw [if_neg q14] at hS
    by_cases q15 : xs i &&& 63 = 15
    · rw [if_pos q15] at hS
      refine v_tableIn (k := 15) (off := 698) (tgt := 738) X dL_law_40 q15 (by decide) (by decide) rfl (by decide) ?_
      exact lawc_15 X hB hL hi hle next hS
    rw [if_neg q15] at hS
    by_cases q16 : xs i &&& 63 = 16
    · rw [if_pos q16] at hS
      refine v_tableIn (k := 16) (off := 711) (tgt := 751) X dL_law_40 q16 (by decide) (by decide) rfl (by decide) ?_
      exact lawc_16 X hB hL hi hle next hS
    rw [if_neg q16] at hS
    by_cases q17 : xs i &&& 63 = 17
    · rw [if_pos q17] at hS
      refine v_tableIn (k := 17) (off := 760) (tgt := 800) X dL_law_40 q17 (by decide) (by decide) rfl (by decide) ?_
      exact lawc_17 X hB hL hi hle next hS
    rw [if_neg q17] at hS
    by_cases q18 : xs i &&& 63 = 18
    · rw [if_pos q18] at hS
      refine v_tableIn (k := 18) (off := 785) (tgt := 825) X dL_law_40 q18 (by decide) (by decide) rfl (by decide) ?_
      exact lawc_18 X hB hL hi hle next hS
    rw [if_neg q18] at hS
    by_cases q19 : xs i &&& 63 = 19
    · rw [if_pos q19] at hS
      refine v_tableIn (k := 19) (off := 810) (tgt := 850) X dL_law_40 q19 (by decide) (by decide) rfl (by decide) ?_
      exact lawc_19 X hB hL hi hle next hS
    rw [if_neg q19] at hS
    by_cases q20 : xs i &&& 63 = 20
    · rw [if_pos q20] at hS
      refine v_tableIn (k := 20) (off := 823) (tgt := 863) X dL_law_40 q20 (by decide) (by decide) rfl (by decide) ?_
      exact lawc_20 X hB hL hi hle next hS
    rw [if_neg q20] at hS
    by_cases q21 : xs i &&& 63 = 21
    · rw [if_pos q21] at hS
      refine v_tableIn (k := 21) (off := 836) (tgt := 876) X dL_law_40 q21 (by decide) (by decide) rfl (by decide) ?_
      exact lawc_21 X hB hL hi hle next hS
    rw [if_neg q21] at hS
    by_cases q22 : xs i &&& 63 = 22
    · rw [if_pos q22] at hS
      refine v_tableIn (k := 22) (off := 861) (tgt := 901) X dL_law_40 q22 (by decide) (by decide) rfl (by decide) ?_
      exact lawc_22 X hB hL hi hle next hS
    rw [if_neg q22] at hS
    by_cases q23 : xs i &&& 63 = 23
    · rw [if_pos q23] at hS
      refine v_tableIn (k := 23) (off := 898) (tgt := 938) X dL_law_40 q23 (by decide) (by decide) rfl (by decide) ?_
      exact lawc_23 X hB hL hi hle next hS
    rw [if_neg q23] at hS
    by_cases q24 : xs i &&& 63 = 24
    · rw [if_pos q24] at hS
      refine v_tableIn (k := 24) (off := 935) (tgt := 975) X dL_law_40 q24 (by decide) (by decide) rfl (by decide) ?_
      exact lawc_24 X hB hL hi hle next hS
    rw [if_neg q24] at hS
    by_cases q25 : xs i &&& 63 = 25
    · rw [if_pos q25] at hS
      refine v_tableIn (k := 25) (off := 948) (tgt := 988) X dL_law_40 q25 (by decide) (by decide) rfl (by decide) ?_
      exact lawc_25 X hB hL hi hle next hS
    rw [if_neg q25] at hS
    by_cases q26 : xs i &&& 63 = 26
    · rw [if_pos q26] at hS
      refine v_tableIn (k := 26) (off := 973) (tgt := 1013) X dL_law_40 q26 (by decide) (by decide) rfl (by decide) ?_
      exact lawc_26 X hB hL hi hle next hS
    rw [if_neg q26] at hS
    by_cases q27 : xs i &&& 63 = 27
    · rw [if_pos q27] at hS
      refine v_tableIn (k := 27) (off := 986) (tgt := 1026) X dL_law_40 q27 (by decide) (by decide) rfl (by decide) ?_
      exact lawc_27 X hB hL hi hle next hS
    rw [if_neg q27] at hS
    by_cases q28 : xs i &&& 63 = 28
    · rw [if_pos q28] at hS
      refine v_tableIn (k := 28) (off := 999) (tgt := 1039) X dL_law_40 q28 (by decide) (by decide) rfl (by decide) ?_
      exact lawc_28 X hB hL hi hle next hS
    rw [if_neg q28] at hS
    by_cases q29 : xs i &&& 63 = 29
    · rw [if_pos q29] at hS
      refine v_tableIn (k := 29) (off := 1012) (tgt := 1052) X dL_law_40 q29 (by decide) (by decide) rfl (by decide) ?_
      exact lawc_29 X hB hL hi hle next hS
    rw [if_neg q29] at hS
    by_cases q30 : xs i &&& 63 = 30
    · rw [if_pos q30] at hS
      refine v_tableIn (k := 30) (off := 1037) (tgt := 1077) X dL_law_40 q30 (by decide) (by decide) rfl (by decide) ?_
      exact lawc_30 X hB hL hi hle next hS
    rw [if_neg q30] at hS
    by_cases q31 : xs i &&& 63 = 31
    · rw [if_pos q31] at hS
      refine v_tableIn (k := 31) (off := 1050) (tgt := 1090) X dL_law_40 q31 (by decide) (by decide) rfl (by decide) ?_
      exact lawc_31 X hB hL hi hle next hS
    rw [if_neg q31] at hS
    by_cases q32 : xs i &&& 63 = 32
    · rw [if_pos q32] at hS
      refine v_tableIn (k := 32) (off := 1087) (tgt := 1127) X dL_law_40 q32 (by decide) (by decide) rfl (by decide) ?_
      exact lawc_32 X hB hL hi hle next hS
    rw [if_neg q32] at hS
    by_cases q33 : xs i &&& 63 = 33
    · rw [if_pos q33] at hS
      refine v_tableIn (k := 33) (off := 1112) (tgt := 1152) X dL_law_40 q33 (by decide) (by decide) rfl (by decide) ?_
      exact lawc_33 X hB hL hi hle next hS
    rw [if_neg q33] at hS
    by_cases q34 : xs i &&& 63 = 34
    · rw [if_pos q34] at hS
      refine v_tableIn (k := 34) (off := 1125) (tgt := 1165) X dL_law_40 q34 (by decide) (by decide) rfl (by decide) ?_
      exact lawc_34 X hB hL hi hle next hS
    rw [if_neg q34] at hS
    by_cases q35 : xs i &&& 63 = 35
    · rw [if_pos q35] at hS
      refine v_tableIn (k := 35) (off := 1150) (tgt := 1190) X dL_law_40 q35 (by decide) (by decide) rfl (by decide) ?_
      exact lawc_35 X hB hL hi hle next hS
    rw [if_neg q35] at hS
    by_cases q36 : xs i &&& 63 = 36
    · rw [if_pos q36] at hS
      refine v_tableIn (k := 36) (off := 1163) (tgt := 1203) X dL_law_40 q36 (by decide) (by decide) rfl (by decide) ?_
      exact lawc_36 X hB hL hi hle next hS
    rw [if_neg q36] at hS
    by_cases q37 : xs i &&& 63 = 37
    · rw [if_pos q37] at hS
      refine v_tableIn (k := 37) (off := 1176) (tgt := 1216) X dL_law_40 q37 (by decide) (by decide) rfl (by decide) ?_
      exact lawc_37 X hB hL hi hle next hS
    rw [if_neg q37] at hS
    by_cases q38 : xs i &&& 63 = 38
    · rw [if_pos q38] at hS
      refine v_tableIn (k := 38) (off := 1189) (tgt := 1229) X dL_law_40 q38 (by decide) (by decide) rfl (by decide) ?_
      exact lawc_38 X hB hL hi hle next hS
    rw [if_neg q38] at hS
    by_cases q39 : xs i &&& 63 = 39
    · rw [if_pos q39] at hS
      refine v_tableIn (k := 39) (off := 1202) (tgt := 1242) X dL_law_40 q39 (by decide) (by decide) rfl (by decide) ?_
      exact lawc_39 X hB hL hi hle next hS
    rw [if_neg q39] at hS
    by_cases q40 : xs i &&& 63 = 40
    · rw [if_pos q40] at hS
      refine v_tableIn (k := 40) (off := 1227) (tgt := 1267) X dL_law_40 q40 (by decide) (by decide) rfl (by decide) ?_
      exact lawc_40 X hB hL hi hle next hS
    rw [if_neg q40] at hS
    by_cases q41 : xs i &&& 63 = 41
    · rw [if_pos q41] at hS
      refine v_tableIn (k := 41) (off := 1252) (tgt := 1292) X dL_law_40 q41 (by decide) (by decide) rfl (by decide) ?_
      exact lawc_41 X hB hL hi hle next hS
    rw [if_neg q41] at hS
    have e0 := lv_neT q0 (k := 0) (a := 0) (by decide)
    have e1 := lv_neT q1 (k := 1) (a := 1) (by decide)
    have e2 := lv_neT q2 (k := 2) (a := 2) (by decide)
    have e3 := lv_neT q3 (k := 3) (a := 3) (by decide)
    have e4 := lv_neT q4 (k := 4) (a := 4) (by decide)
    have e5 := lv_neT q5 (k := 5) (a := 5) (by decide)
    have e6 := lv_neT q6 (k := 6) (a := 6) (by decide)
    have e7 := lv_neT q7 (k := 7) (a := 7) (by decide)
    have e8 := lv_neT q8 (k := 8) (a := 8) (by decide)
    have e9 := lv_neT q9 (k := 9) (a := 9) (by decide)
    have e10 := lv_neT q10 (k := 10) (a := 10) (by decide)
    have e11 := lv_neT q11 (k := 11) (a := 11) (by decide)
    have e12 := lv_neT q12 (k := 12) (a := 12) (by decide)
    have e13 := lv_neT q13 (k := 13) (a := 13) (by decide)
    have e14 := lv_neT q14 (k := 14) (a := 14) (by decide)
    have e15 := lv_neT q15 (k := 15) (a := 15) (by decide)
    have e16 := lv_neT q16 (k := 16) (a := 16) (by decide)
    have e17 := lv_neT q17 (k := 17) (a := 17) (by decide)
    have e18 := lv_neT q18 (k := 18) (a := 18) (by decide)
    have e19 := lv_neT q19 (k := 19) (a := 19) (by decide)
    have e20 := lv_neT q20 (k := 20) (a := 20) (by decide)
    have e21 := lv_neT q21 (k := 21) (a := 21) (by decide)
    have e22 := lv_neT q22 (k := 22) (a := 22) (by decide)
    have e23 := lv_neT q23 (k := 23) (a := 23) (by decide)
    have e24 := lv_neT q24 (k := 24) (a := 24) (by decide)
    have e25 := lv_neT q25 (k := 25) (a := 25) (by decide)
    have e26 := lv_neT q26 (k := 26) (a := 26) (by decide)
    have e27 := lv_neT q27 (k := 27) (a := 27) (by decide)
    have e28 := lv_neT q28 (k := 28) (a := 28) (by decide)
    have e29 := lv_neT q29 (k := 29) (a := 29) (by decide)
    have e30 := lv_neT q30 (k := 30) (a := 30) (by decide)
    have e31 := lv_neT q31 (k := 31) (a := 31) (by decide)
    have e32 := lv_neT q32 (k := 32) (a := 32) (by decide)
    have e33 := lv_neT q33 (k := 33) (a := 33) (by decide)
    have e34 := lv_neT q34 (k := 34) (a := 34) (by decide)
    have e35 := lv_neT q35 (k := 35) (a := 35) (by decide)
    have e36 := lv_neT q36 (k := 36) (a := 36) (by decide)
    have e37 := lv_neT q37 (k := 37) (a := 37) (by decide)
    have e38 := lv_neT q38 (k := 38) (a := 38) (by decide)
    have e39 := lv_neT q39 (k := 39) (a := 39) (by decide)
    have e40 := lv_neT q40 (k := 40) (a := 40) (by decide)
    have e41 := lv_neT q41 (k := 41) (a := 41) (by decide)
    refine v_tableOut (tgt := 1317) X dL_law_40 (by omega) (by decide) ?_
    rw [← hS]
    exact next
theorem nw_X0_8 : gNw "BitingDoorsLaw" 8 0 46 [.null, .int 0, .int 0, .int 0, .null, .null, .null, .null, .null, .null, .null, .null, .null, .null, .int 0, .null, .null, .null, .int 0, .int 0, .int 0, .null, .null, .null, .int 0, .int 0, .null, .null, .null, .null, .null, .int 0, .null, .int 0, .null, .null, .null, .null, .int 0, .int 0, .null, .null, .null, .null, .null, .null] := ⟨RX1, TX1, tyX1, gCl_X1, in_X1, tyX1_ok, q146, q147, q109, by decide, rfl⟩
theorem nw_X0_16 : gNw "BitingDoorsLaw" 16 8 64 [.int 0, .null, .int 0, .int 0, .int 0, .int 0, .int 0, .int 0, .int 0, .int 0, .int 0, .int 0, .long 0, .int 0, .null, .null, .null, .null, .null, .null, .null, .null, .int 0, .int 0, .null, .null, .int 0, .null, .null, .null, .null, .null, .int 0, .int 0, .null, .null, .null, .int 0, .int 0, .null, .null, .null, .int 0, .null, .null, .int 0, .int 0, .int 0, .null, .int 0, .null, .null, .null, .null, .null, .int 0, .int 0, .int 0, .null, .null, .int 0, .int 0, .int 0, .int 0] := ⟨RX10, TX10, tyX10, gCl_X10, in_X10, tyX10_ok, q1644, q1645, q120, by decide, rfl⟩
noncomputable def PL : Mo (Nat × Nat × Nat) := Mo.bind (nw 0 46 [.null, .int 0, .int 0, .int 0, .null, .null, .null, .null, .null, .null, .null, .null, .null, .null, .int 0, .null, .null, .null, .int 0, .int 0, .int 0, .null, .null, .null, .int 0, .int 0, .null, .null, .null, .null, .null, .int 0, .null, .int 0, .null, .null, .null, .null, .int 0, .int 0, .null, .null, .null, .null, .null, .null]) (fun q1 => Mo.bind (M_X1_init q1) (fun _ => Mo.bind (nw 8 64 [.int 0, .null, .int 0, .int 0, .int 0, .int 0, .int 0, .int 0, .int 0, .int 0, .int 0, .int 0, .long 0, .int 0, .null, .null, .null, .null, .null, .null, .null, .null, .int 0, .int 0, .null, .null, .int 0, .null, .null, .null, .null, .null, .int 0, .int 0, .null, .null, .null, .int 0, .int 0, .null, .null, .null, .int 0, .null, .null, .int 0, .int 0, .int 0, .null, .int 0, .null, .null, .null, .null, .null, .int 0, .int 0, .int 0, .null, .null, .int 0, .int 0, .int 0, .int 0]) (fun q2 => Mo.bind (M_X10_init q2) (fun _ => Mo.bind (nwL 1) (fun q3 => Mo.pure (q1, q2, q3))))))
def LawRun (xs : Nat → Int32) (L : Nat) (h h' : gH) : Prop := ∃ (ax am ao : Nat) (h1 : gH), PL.1 h = some ((ax, am, ao), h1) ∧ LR ax am ao xs (L / 6) 0 h1 h'
set_option maxHeartbeats 4000000 in
theorem law_walk {K : gK} {b L : Nat} {xs : Nat → Int32} (X : gX K cL_law 7 "BitingDoorsLaw" "law" (some .boolean) 107 2665) (hB : va_T .int b L (fun j => .int (xs j)) (gY (kG K)) (ks K) (ks K).heap) (hL : L ≤ 384) (ho : ko K = .returned (some (.int 1))) (hr : LawRun xs L (kh0 K) (kh1 K)) : V K 7 (kh0 K) 0 [(0, .ref b)] [] := by
  obtain ⟨ax, am, ao, h1, hd, hr⟩ := hr
  have hle := hr.le
  have lp := law_loop X hB hL ho (L / 6) 0 h1 (by omega) (by omega) hr
  unfold PL at hd
  generalize kh0 K = h at hd ⊢
  refine v_new X hd hle nw_X0_8 dL_law_0 (fun q1 h hd => ?_)
  refine v_dup X dL_law_3 rfl ?_
  refine v_callI X hd hle (ct_X1_init _ q1) q150 q109 q148 q149 rfl dn_X1_init rfl ⟨by decide, by decide⟩ rfl (Nat.le_of_ble_eq_true rfl) dL_law_4 (fun u h hd => ?_)
  show V K 7 h 7 [(0, .ref b)] [.ref q1]
  refine v_astore_n (lv2 := [(1, .ref q1), (0, .ref b)]) X dL_law_7 1 rfl (by decide) rfl ?_
  refine v_new X hd hle nw_X0_16 dL_law_8 (fun q2 h hd => ?_)
  refine v_dup X dL_law_11 rfl ?_
  refine v_callI X hd hle (ct_X10_init _ q2) q1648 q120 q1646 q1647 rfl dn_X10_init rfl ⟨by decide, by decide⟩ rfl (Nat.le_of_ble_eq_true rfl) dL_law_12 (fun u h hd => ?_)
  show V K 7 h 15 [(1, .ref q1), (0, .ref b)] [.ref q2]
  refine v_astore_n (lv2 := [(2, .ref q2), (1, .ref q1), (0, .ref b)]) X dL_law_15 2 rfl (by decide) rfl ?_
  refine v_iconst (v := 1) X dL_law_16 (by decide) ?_
  refine v_newL X hd hle q1843 dL_law_17 (fun q3 h hd => ?_)
  refine v_astore_n (lv2 := [(3, .ref q3), (2, .ref q2), (1, .ref q1), (0, .ref b)]) X dL_law_19 3 rfl (by decide) rfl ?_
  refine v_iconst (v := 0) X dL_law_20 (by decide) ?_
  refine v_istore (lv2 := [(4, .int 0), (3, .ref q3), (2, .ref q2), (1, .ref q1), (0, .ref b)]) X dL_law_21 (by decide) rfl ?_
  obtain ⟨e1, rfl⟩ := Mo.pure_some hd
  cases e1
  exact v_loc [4, 3, 2, 1, 0] rfl lp
