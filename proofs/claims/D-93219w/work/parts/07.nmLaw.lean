/-! the law's own entry -/
set_option maxRecDepth 100000
abbrev cL_law : ByteArray := code
def dkwL_law_47 : List UInt8 := [29, 4, 96, 46, 182, 0, 174, 159, 0, 5, 3, 172, 132, 3, 6, 167, 251, 44, 4, 172]
abbrev dktL_law_47 : List UInt8 := dkwL_law_47 ++ []
def dkwL_law_46 : List UInt8 := [42, 29, 4, 96, 46, 182, 0, 170, 159, 0, 28, 3, 172, 43, 42, 29, 4, 96, 46, 182, 0, 171, 44, 42]
abbrev dktL_law_46 : List UInt8 := dkwL_law_46 ++ dktL_law_47
def dkwL_law_45 : List UInt8 := [172, 43, 182, 0, 163, 44, 182, 0, 166, 159, 0, 51, 3, 172, 43, 42, 29, 4, 96, 46, 182, 0, 167, 44]
abbrev dktL_law_45 : List UInt8 := dkwL_law_45 ++ dktL_law_46
def dkwL_law_44 : List UInt8 := [182, 0, 155, 44, 182, 0, 158, 159, 0, 77, 3, 172, 43, 182, 0, 159, 44, 182, 0, 162, 159, 0, 64, 3]
abbrev dktL_law_44 : List UInt8 := dkwL_law_44 ++ dktL_law_45
def dkwL_law_43 : List UInt8 := [43, 42, 29, 4, 96, 46, 182, 0, 151, 44, 42, 29, 4, 96, 46, 182, 0, 154, 159, 0, 90, 3, 172, 43]
abbrev dktL_law_43 : List UInt8 := dkwL_law_43 ++ dktL_law_44
def dkwL_law_42 : List UInt8 := [172, 43, 42, 29, 4, 96, 46, 182, 0, 147, 44, 42, 29, 4, 96, 46, 182, 0, 150, 159, 0, 113, 3, 172]
abbrev dktL_law_42 : List UInt8 := dkwL_law_42 ++ dktL_law_43
def dkwL_law_41 : List UInt8 := [96, 46, 42, 29, 6, 96, 46, 42, 29, 7, 96, 46, 42, 29, 8, 96, 46, 182, 0, 146, 159, 0, 136, 3]
abbrev dktL_law_41 : List UInt8 := dkwL_law_41 ++ dktL_law_42
def dkwL_law_40 : List UInt8 := [96, 46, 42, 29, 7, 96, 46, 42, 29, 8, 96, 46, 182, 0, 142, 44, 42, 29, 4, 96, 46, 42, 29, 5]
abbrev dktL_law_40 : List UInt8 := dkwL_law_40 ++ dktL_law_41
def dkwL_law_39 : List UInt8 := [129, 182, 0, 141, 148, 153, 0, 199, 3, 172, 43, 42, 29, 4, 96, 46, 42, 29, 5, 96, 46, 42, 29, 6]
abbrev dktL_law_39 : List UInt8 := dkwL_law_39 ++ dktL_law_40
def dkwL_law_38 : List UInt8 := [42, 29, 5, 96, 46, 42, 29, 6, 96, 46, 133, 16, 32, 121, 42, 29, 7, 96, 46, 133, 20, 0, 135, 127]
abbrev dktL_law_38 : List UInt8 := dkwL_law_38 ++ dktL_law_39
def dkwL_law_37 : List UInt8 := [133, 16, 32, 121, 42, 29, 7, 96, 46, 133, 20, 0, 135, 127, 129, 182, 0, 137, 44, 42, 29, 4, 96, 46]
abbrev dktL_law_37 : List UInt8 := dkwL_law_37 ++ dktL_law_38
def dkwL_law_36 : List UInt8 := [182, 0, 134, 159, 1, 17, 3, 172, 43, 42, 29, 4, 96, 46, 42, 29, 5, 96, 46, 42, 29, 6, 96, 46]
abbrev dktL_law_36 : List UInt8 := dkwL_law_36 ++ dktL_law_37
def dkwL_law_35 : List UInt8 := [29, 6, 96, 46, 182, 0, 131, 44, 42, 29, 4, 96, 46, 42, 29, 5, 96, 46, 42, 29, 6, 96, 46]
abbrev dktL_law_35 : List UInt8 := dkwL_law_35 ++ dktL_law_36
def dkwL_law_34 : List UInt8 := [182, 0, 127, 44, 182, 0, 130, 159, 1, 60, 3, 172, 43, 42, 29, 4, 96, 46, 42, 29, 5, 96, 46, 42]
abbrev dktL_law_34 : List UInt8 := dkwL_law_34 ++ dktL_law_35
def dkwL_law_33 : List UInt8 := [29, 4, 96, 46, 182, 0, 123, 44, 42, 29, 4, 96, 46, 182, 0, 126, 159, 1, 73, 3, 172, 43]
abbrev dktL_law_33 : List UInt8 := dkwL_law_33 ++ dktL_law_34
def dkwL_law_32 : List UInt8 := [182, 0, 119, 44, 42, 29, 4, 96, 46, 42, 29, 5, 96, 46, 182, 0, 122, 159, 1, 96, 3, 172, 43, 42]
abbrev dktL_law_32 : List UInt8 := dkwL_law_32 ++ dktL_law_33
def dkwL_law_31 : List UInt8 := [182, 0, 115, 44, 182, 0, 118, 159, 1, 129, 3, 172, 43, 42, 29, 4, 96, 46, 42, 29, 5, 96, 46]
abbrev dktL_law_31 : List UInt8 := dkwL_law_31 ++ dktL_law_32
def dkwL_law_30 : List UInt8 := [29, 4, 96, 46, 182, 0, 111, 44, 42, 29, 4, 96, 46, 182, 0, 114, 159, 1, 142, 3, 172, 43]
abbrev dktL_law_30 : List UInt8 := dkwL_law_30 ++ dktL_law_31
def dkwL_law_29 : List UInt8 := [42, 29, 4, 96, 46, 182, 0, 107, 44, 42, 29, 4, 96, 46, 182, 0, 110, 159, 1, 165, 3, 172, 43, 42]
abbrev dktL_law_29 : List UInt8 := dkwL_law_29 ++ dktL_law_30
def dkwL_law_28 : List UInt8 := [42, 29, 5, 96, 46, 42, 29, 6, 96, 46, 42, 29, 7, 96, 46, 182, 0, 106, 159, 1, 188, 3, 172, 43]
abbrev dktL_law_28 : List UInt8 := dkwL_law_28 ++ dktL_law_29
def dkwL_law_27 : List UInt8 := [42, 29, 5, 96, 46, 42, 29, 6, 96, 46, 42, 29, 7, 96, 46, 182, 0, 103, 44, 42, 29, 4, 96, 46]
abbrev dktL_law_27 : List UInt8 := dkwL_law_27 ++ dktL_law_28
def dkwL_law_26 : List UInt8 := [159, 1, 254, 3, 172, 43, 182, 0, 99, 44, 182, 0, 102, 159, 1, 241, 3, 172, 43, 42, 29, 4, 96, 46]
abbrev dktL_law_26 : List UInt8 := dkwL_law_26 ++ dktL_law_27
def dkwL_law_25 : List UInt8 := [182, 0, 94, 44, 42, 29, 4, 96, 46, 42, 29, 5, 96, 46, 42, 29, 6, 96, 46, 182, 0, 98]
abbrev dktL_law_25 : List UInt8 := dkwL_law_25 ++ dktL_law_26
def dkwL_law_24 : List UInt8 := [182, 0, 93, 159, 2, 41, 3, 172, 43, 42, 29, 4, 96, 46, 42, 29, 5, 96, 46, 42, 29, 6, 96, 46]
abbrev dktL_law_24 : List UInt8 := dkwL_law_24 ++ dktL_law_25
def dkwL_law_23 : List UInt8 := [182, 0, 89, 159, 2, 64, 3, 172, 43, 42, 29, 4, 96, 46, 182, 0, 90, 44, 42, 29, 4, 96, 46]
abbrev dktL_law_23 : List UInt8 := dkwL_law_23 ++ dktL_law_24
def dkwL_law_22 : List UInt8 := [182, 0, 85, 159, 2, 87, 3, 172, 43, 42, 29, 4, 96, 46, 182, 0, 86, 44, 42, 29, 4, 96, 46]
abbrev dktL_law_22 : List UInt8 := dkwL_law_22 ++ dktL_law_23
def dkwL_law_21 : List UInt8 := [182, 0, 81, 159, 2, 110, 3, 172, 43, 42, 29, 4, 96, 46, 182, 0, 82, 44, 42, 29, 4, 96, 46]
abbrev dktL_law_21 : List UInt8 := dkwL_law_21 ++ dktL_law_22
def dkwL_law_20 : List UInt8 := [182, 0, 77, 159, 2, 133, 3, 172, 43, 42, 29, 4, 96, 46, 182, 0, 78, 44, 42, 29, 4, 96, 46]
abbrev dktL_law_20 : List UInt8 := dkwL_law_20 ++ dktL_law_21
def dkwL_law_19 : List UInt8 := [182, 0, 73, 159, 2, 156, 3, 172, 43, 42, 29, 4, 96, 46, 182, 0, 74, 44, 42, 29, 4, 96, 46]
abbrev dktL_law_19 : List UInt8 := dkwL_law_19 ++ dktL_law_20
def dkwL_law_18 : List UInt8 := [46, 182, 0, 66, 44, 42, 29, 4, 96, 46, 182, 0, 69, 159, 2, 169, 3, 172, 43, 182, 0, 70, 44]
abbrev dktL_law_18 : List UInt8 := dkwL_law_18 ++ dktL_law_19
def dkwL_law_17 : List UInt8 := [96, 46, 182, 0, 62, 44, 42, 29, 4, 96, 46, 182, 0, 65, 159, 2, 192, 3, 172, 43, 42, 29, 4, 96]
abbrev dktL_law_17 : List UInt8 := dkwL_law_17 ++ dktL_law_18
def dkwL_law_16 : List UInt8 := [4, 96, 46, 182, 0, 57, 44, 42, 29, 4, 96, 46, 182, 0, 61, 159, 2, 215, 3, 172, 43, 42, 29, 4]
abbrev dktL_law_16 : List UInt8 := dkwL_law_16 ++ dktL_law_17
def dkwL_law_15 : List UInt8 := [182, 0, 52, 159, 2, 251, 3, 172, 43, 182, 0, 53, 44, 182, 0, 56, 159, 2, 238, 3, 172, 43, 42, 29]
abbrev dktL_law_15 : List UInt8 := dkwL_law_15 ++ dktL_law_16
def dkwL_law_14 : List UInt8 := [44, 42, 29, 4, 96, 46, 42, 29, 5, 96, 46, 182, 0, 48, 159, 3, 8, 3, 172, 43, 182, 0, 49, 44]
abbrev dktL_law_14 : List UInt8 := dkwL_law_14 ++ dktL_law_15
def dkwL_law_13 : List UInt8 := [96, 46, 182, 0, 44, 159, 3, 41, 3, 172, 43, 42, 29, 4, 96, 46, 42, 29, 5, 96, 46, 182, 0, 45]
abbrev dktL_law_13 : List UInt8 := dkwL_law_13 ++ dktL_law_14
def dkwL_law_12 : List UInt8 := [172, 43, 42, 29, 4, 96, 46, 42, 29, 5, 96, 46, 182, 0, 41, 44, 42, 29, 4, 96, 46, 42, 29, 5]
abbrev dktL_law_12 : List UInt8 := dkwL_law_12 ++ dktL_law_13
def dkwL_law_11 : List UInt8 := [5, 96, 46, 182, 0, 37, 44, 42, 29, 4, 96, 46, 42, 29, 5, 96, 46, 182, 0, 40, 159, 3, 74, 3]
abbrev dktL_law_11 : List UInt8 := dkwL_law_11 ++ dktL_law_12
def dkwL_law_10 : List UInt8 := [153, 0, 7, 4, 167, 0, 4, 3, 182, 0, 36, 159, 3, 107, 3, 172, 43, 42, 29, 4, 96, 46, 42, 29]
abbrev dktL_law_10 : List UInt8 := dkwL_law_10 ++ dktL_law_11
def dkwL_law_9 : List UInt8 := [46, 153, 0, 7, 4, 167, 0, 4, 3, 182, 0, 32, 44, 42, 29, 4, 96, 46, 42, 29, 5, 96, 46]
abbrev dktL_law_9 : List UInt8 := dkwL_law_9 ++ dktL_law_10
def dkwL_law_8 : List UInt8 := [46, 42, 29, 5, 96, 46, 182, 0, 31, 159, 3, 156, 3, 172, 43, 42, 29, 4, 96, 46, 42, 29, 5, 96]
abbrev dktL_law_8 : List UInt8 := dkwL_law_8 ++ dktL_law_9
def dkwL_law_7 : List UInt8 := [159, 3, 189, 3, 172, 43, 42, 29, 4, 96, 46, 42, 29, 5, 96, 46, 182, 0, 28, 44, 42, 29, 4, 96]
abbrev dktL_law_7 : List UInt8 := dkwL_law_7 ++ dktL_law_8
def dkwL_law_6 : List UInt8 := [42, 29, 5, 96, 46, 182, 0, 23, 44, 42, 29, 4, 96, 46, 42, 29, 5, 96, 46, 182, 0, 27]
abbrev dktL_law_6 : List UInt8 := dkwL_law_6 ++ dktL_law_7
def dkwL_law_5 : List UInt8 := [42, 29, 6, 96, 46, 42, 29, 7, 96, 46, 182, 0, 22, 159, 3, 222, 3, 172, 43, 42, 29, 4, 96, 46]
abbrev dktL_law_5 : List UInt8 := dkwL_law_5 ++ dktL_law_6
def dkwL_law_4 : List UInt8 := [42, 29, 6, 96, 46, 42, 29, 7, 96, 46, 182, 0, 18, 44, 42, 29, 4, 96, 46, 42, 29, 5, 96, 46]
abbrev dktL_law_4 : List UInt8 := dkwL_law_4 ++ dktL_law_5
def dkwL_law_3 : List UInt8 := [43, 182, 0, 13, 44, 182, 0, 17, 159, 4, 19, 3, 172, 43, 42, 29, 4, 96, 46, 42, 29, 5, 96, 46]
abbrev dktL_law_3 : List UInt8 := dkwL_law_3 ++ dktL_law_4
def dkwL_law_2 : List UInt8 := [170, 0, 0, 0, 0, 4, 194, 0, 0, 0, 0, 0, 0, 0, 37, 0, 0, 0, 167, 0, 0, 0, 180, 0, 0, 0, 233, 0, 0, 1, 10, 0, 0, 1, 43, 0, 0, 1, 92, 0, 0, 1, 125, 0, 0, 1, 158, 0, 0, 1, 191, 0, 0, 1, 204, 0, 0, 1, 217, 0, 0, 1, 240, 0, 0, 2, 7, 0, 0, 2, 30, 0, 0, 2, 43, 0, 0, 2, 66, 0, 0, 2, 89, 0, 0, 2, 112, 0, 0, 2, 135, 0, 0, 2, 158, 0, 0, 2, 201, 0, 0, 2, 214, 0, 0, 3, 11, 0, 0, 3, 34, 0, 0, 3, 57, 0, 0, 3, 70, 0, 0, 3, 103, 0, 0, 3, 126, 0, 0, 3, 139, 0, 0, 3, 182, 0, 0, 4, 0, 0, 0, 4, 63, 0, 0, 4, 86, 0, 0, 4, 109, 0, 0, 4, 122, 0, 0, 4, 135, 0, 0, 4, 148, 0, 0, 4, 171]
abbrev dktL_law_2 : List UInt8 := dkwL_law_2 ++ dktL_law_3
def dkwL_law_1 : List UInt8 := [163, 4, 209, 42, 29, 46, 16, 63, 126]
abbrev dktL_law_1 : List UInt8 := dkwL_law_1 ++ dktL_law_2
def dkwL_law_0 : List UInt8 := [187, 0, 7, 89, 183, 0, 9, 76, 187, 0, 10, 89, 183, 0, 12, 77, 3, 62, 29, 42, 190, 16, 6, 100]
abbrev dktL_law_0 : List UInt8 := dkwL_law_0 ++ dktL_law_1
theorem dksL_law_0 : cL_law.data.toList.drop 0 = dktL_law_0 := by decide +kernel
theorem dksL_law_1 : cL_law.data.toList.drop 24 = dktL_law_1 := dk_seg dksL_law_0 24 rfl rfl
theorem dksL_law_2 : cL_law.data.toList.drop 33 = dktL_law_2 := dk_seg dksL_law_1 9 rfl rfl
theorem dksL_law_3 : cL_law.data.toList.drop 200 = dktL_law_3 := dk_seg dksL_law_2 167 rfl rfl
theorem dksL_law_4 : cL_law.data.toList.drop 224 = dktL_law_4 := dk_seg dksL_law_3 24 rfl rfl
theorem dksL_law_5 : cL_law.data.toList.drop 248 = dktL_law_5 := dk_seg dksL_law_4 24 rfl rfl
theorem dksL_law_6 : cL_law.data.toList.drop 272 = dktL_law_6 := dk_seg dksL_law_5 24 rfl rfl
theorem dksL_law_7 : cL_law.data.toList.drop 294 = dktL_law_7 := dk_seg dksL_law_6 22 rfl rfl
theorem dksL_law_8 : cL_law.data.toList.drop 318 = dktL_law_8 := dk_seg dksL_law_7 24 rfl rfl
theorem dksL_law_9 : cL_law.data.toList.drop 342 = dktL_law_9 := dk_seg dksL_law_8 24 rfl rfl
theorem dksL_law_10 : cL_law.data.toList.drop 365 = dktL_law_10 := dk_seg dksL_law_9 23 rfl rfl
theorem dksL_law_11 : cL_law.data.toList.drop 389 = dktL_law_11 := dk_seg dksL_law_10 24 rfl rfl
theorem dksL_law_12 : cL_law.data.toList.drop 413 = dktL_law_12 := dk_seg dksL_law_11 24 rfl rfl
theorem dksL_law_13 : cL_law.data.toList.drop 437 = dktL_law_13 := dk_seg dksL_law_12 24 rfl rfl
theorem dksL_law_14 : cL_law.data.toList.drop 461 = dktL_law_14 := dk_seg dksL_law_13 24 rfl rfl
theorem dksL_law_15 : cL_law.data.toList.drop 485 = dktL_law_15 := dk_seg dksL_law_14 24 rfl rfl
theorem dksL_law_16 : cL_law.data.toList.drop 509 = dktL_law_16 := dk_seg dksL_law_15 24 rfl rfl
theorem dksL_law_17 : cL_law.data.toList.drop 533 = dktL_law_17 := dk_seg dksL_law_16 24 rfl rfl
theorem dksL_law_18 : cL_law.data.toList.drop 557 = dktL_law_18 := dk_seg dksL_law_17 24 rfl rfl
theorem dksL_law_19 : cL_law.data.toList.drop 580 = dktL_law_19 := dk_seg dksL_law_18 23 rfl rfl
theorem dksL_law_20 : cL_law.data.toList.drop 603 = dktL_law_20 := dk_seg dksL_law_19 23 rfl rfl
theorem dksL_law_21 : cL_law.data.toList.drop 626 = dktL_law_21 := dk_seg dksL_law_20 23 rfl rfl
theorem dksL_law_22 : cL_law.data.toList.drop 649 = dktL_law_22 := dk_seg dksL_law_21 23 rfl rfl
theorem dksL_law_23 : cL_law.data.toList.drop 672 = dktL_law_23 := dk_seg dksL_law_22 23 rfl rfl
theorem dksL_law_24 : cL_law.data.toList.drop 695 = dktL_law_24 := dk_seg dksL_law_23 23 rfl rfl
theorem dksL_law_25 : cL_law.data.toList.drop 719 = dktL_law_25 := dk_seg dksL_law_24 24 rfl rfl
theorem dksL_law_26 : cL_law.data.toList.drop 741 = dktL_law_26 := dk_seg dksL_law_25 22 rfl rfl
theorem dksL_law_27 : cL_law.data.toList.drop 765 = dktL_law_27 := dk_seg dksL_law_26 24 rfl rfl
theorem dksL_law_28 : cL_law.data.toList.drop 789 = dktL_law_28 := dk_seg dksL_law_27 24 rfl rfl
theorem dksL_law_29 : cL_law.data.toList.drop 813 = dktL_law_29 := dk_seg dksL_law_28 24 rfl rfl
theorem dksL_law_30 : cL_law.data.toList.drop 837 = dktL_law_30 := dk_seg dksL_law_29 24 rfl rfl
theorem dksL_law_31 : cL_law.data.toList.drop 859 = dktL_law_31 := dk_seg dksL_law_30 22 rfl rfl
theorem dksL_law_32 : cL_law.data.toList.drop 882 = dktL_law_32 := dk_seg dksL_law_31 23 rfl rfl
theorem dksL_law_33 : cL_law.data.toList.drop 906 = dktL_law_33 := dk_seg dksL_law_32 24 rfl rfl
theorem dksL_law_34 : cL_law.data.toList.drop 928 = dktL_law_34 := dk_seg dksL_law_33 22 rfl rfl
theorem dksL_law_35 : cL_law.data.toList.drop 952 = dktL_law_35 := dk_seg dksL_law_34 24 rfl rfl
theorem dksL_law_36 : cL_law.data.toList.drop 975 = dktL_law_36 := dk_seg dksL_law_35 23 rfl rfl
theorem dksL_law_37 : cL_law.data.toList.drop 999 = dktL_law_37 := dk_seg dksL_law_36 24 rfl rfl
theorem dksL_law_38 : cL_law.data.toList.drop 1023 = dktL_law_38 := dk_seg dksL_law_37 24 rfl rfl
theorem dksL_law_39 : cL_law.data.toList.drop 1047 = dktL_law_39 := dk_seg dksL_law_38 24 rfl rfl
theorem dksL_law_40 : cL_law.data.toList.drop 1071 = dktL_law_40 := dk_seg dksL_law_39 24 rfl rfl
theorem dksL_law_41 : cL_law.data.toList.drop 1095 = dktL_law_41 := dk_seg dksL_law_40 24 rfl rfl
theorem dksL_law_42 : cL_law.data.toList.drop 1119 = dktL_law_42 := dk_seg dksL_law_41 24 rfl rfl
theorem dksL_law_43 : cL_law.data.toList.drop 1143 = dktL_law_43 := dk_seg dksL_law_42 24 rfl rfl
theorem dksL_law_44 : cL_law.data.toList.drop 1167 = dktL_law_44 := dk_seg dksL_law_43 24 rfl rfl
theorem dksL_law_45 : cL_law.data.toList.drop 1191 = dktL_law_45 := dk_seg dksL_law_44 24 rfl rfl
theorem dksL_law_46 : cL_law.data.toList.drop 1215 = dktL_law_46 := dk_seg dksL_law_45 24 rfl rfl
theorem dksL_law_47 : cL_law.data.toList.drop 1239 = dktL_law_47 := dk_seg dksL_law_46 24 rfl rfl
theorem dL_law_0 : decode cL_law 0 = .ok (.new 7, 3) := dk_187 0 7 (dk_at dksL_law_0 0 rfl rfl)
theorem dL_law_3 : decode cL_law 3 = .ok (.dup, 1) := dk_89 (dk_at dksL_law_0 3 rfl rfl)
theorem dL_law_4 : decode cL_law 4 = .ok (.invokespecial 9, 3) := dk_183 0 9 (dk_at dksL_law_0 4 rfl rfl)
theorem dL_law_7 : decode cL_law 7 = .ok (.astore_n 1, 1) := dk_76 (dk_at dksL_law_0 7 rfl rfl)
theorem dL_law_8 : decode cL_law 8 = .ok (.new 10, 3) := dk_187 0 10 (dk_at dksL_law_0 8 rfl rfl)
theorem dL_law_11 : decode cL_law 11 = .ok (.dup, 1) := dk_89 (dk_at dksL_law_0 11 rfl rfl)
theorem dL_law_12 : decode cL_law 12 = .ok (.invokespecial 12, 3) := dk_183 0 12 (dk_at dksL_law_0 12 rfl rfl)
theorem dL_law_15 : decode cL_law 15 = .ok (.astore_n 2, 1) := dk_77 (dk_at dksL_law_0 15 rfl rfl)
theorem dL_law_16 : decode cL_law 16 = .ok (.iconst 0, 1) := dk_3 (dk_at dksL_law_0 16 rfl rfl)
theorem dL_law_17 : decode cL_law 17 = .ok (.istore_n 3, 1) := dk_62 (dk_at dksL_law_0 17 rfl rfl)
theorem dL_law_18 : decode cL_law 18 = .ok (.iload_n 3, 1) := dk_29 (dk_at dksL_law_0 18 rfl rfl)
theorem dL_law_19 : decode cL_law 19 = .ok (.aload_n 0, 1) := dk_42 (dk_at dksL_law_0 19 rfl rfl)
theorem dL_law_20 : decode cL_law 20 = .ok (.arraylength, 1) := dk_190 (dk_at dksL_law_0 20 rfl rfl)
theorem dL_law_21 : decode cL_law 21 = .ok (.bipush 6, 2) := dk_16 6 (dk_at dksL_law_0 21 rfl rfl)
theorem dL_law_23 : decode cL_law 23 = .ok (.isub, 1) := dk_100 (dk_at dksL_law_0 23 rfl rfl)
theorem dL_law_24 : decode cL_law 24 = .ok (.if_icmp .gt 1233, 3) := dk_163 4 209 (dk_at dksL_law_1 0 rfl rfl)
theorem dL_law_27 : decode cL_law 27 = .ok (.aload_n 0, 1) := dk_42 (dk_at dksL_law_1 3 rfl rfl)
theorem dL_law_28 : decode cL_law 28 = .ok (.iload_n 3, 1) := dk_29 (dk_at dksL_law_1 4 rfl rfl)
theorem dL_law_29 : decode cL_law 29 = .ok (.iaload, 1) := dk_46 (dk_at dksL_law_1 5 rfl rfl)
theorem dL_law_30 : decode cL_law 30 = .ok (.bipush 63, 2) := dk_16 63 (dk_at dksL_law_1 6 rfl rfl)
theorem dL_law_32 : decode cL_law 32 = .ok (.iand, 1) := dk_126 (dk_at dksL_law_1 8 rfl rfl)
theorem dL_law_33 : decode cL_law 33 = .ok (.tableswitch 1218 0 37 #[167, 180, 233, 266, 299, 348, 381, 414, 447, 460, 473, 496, 519, 542, 555, 578, 601, 624, 647, 670, 713, 726, 779, 802, 825, 838, 871, 894, 907, 950, 1024, 1087, 1110, 1133, 1146, 1159, 1172, 1195], 167) := by decide +kernel
theorem dL_law_200 : decode cL_law 200 = .ok (.aload_n 1, 1) := dk_43 (dk_at dksL_law_3 0 rfl rfl)
theorem dL_law_201 : decode cL_law 201 = .ok (.invokevirtual 13, 3) := dk_182 0 13 (dk_at dksL_law_3 1 rfl rfl)
theorem dL_law_204 : decode cL_law 204 = .ok (.aload_n 2, 1) := dk_44 (dk_at dksL_law_3 4 rfl rfl)
theorem dL_law_205 : decode cL_law 205 = .ok (.invokevirtual 17, 3) := dk_182 0 17 (dk_at dksL_law_3 5 rfl rfl)
theorem dL_law_208 : decode cL_law 208 = .ok (.if_icmp .eq 1043, 3) := dk_159 4 19 (dk_at dksL_law_3 8 rfl rfl)
theorem dL_law_211 : decode cL_law 211 = .ok (.iconst 0, 1) := dk_3 (dk_at dksL_law_3 11 rfl rfl)
theorem dL_law_212 : decode cL_law 212 = .ok (.ireturn, 1) := dk_172 (dk_at dksL_law_3 12 rfl rfl)
theorem dL_law_213 : decode cL_law 213 = .ok (.aload_n 1, 1) := dk_43 (dk_at dksL_law_3 13 rfl rfl)
theorem dL_law_214 : decode cL_law 214 = .ok (.aload_n 0, 1) := dk_42 (dk_at dksL_law_3 14 rfl rfl)
theorem dL_law_215 : decode cL_law 215 = .ok (.iload_n 3, 1) := dk_29 (dk_at dksL_law_3 15 rfl rfl)
theorem dL_law_216 : decode cL_law 216 = .ok (.iconst 1, 1) := dk_4 (dk_at dksL_law_3 16 rfl rfl)
theorem dL_law_217 : decode cL_law 217 = .ok (.iadd, 1) := dk_96 (dk_at dksL_law_3 17 rfl rfl)
theorem dL_law_218 : decode cL_law 218 = .ok (.iaload, 1) := dk_46 (dk_at dksL_law_3 18 rfl rfl)
theorem dL_law_219 : decode cL_law 219 = .ok (.aload_n 0, 1) := dk_42 (dk_at dksL_law_3 19 rfl rfl)
theorem dL_law_220 : decode cL_law 220 = .ok (.iload_n 3, 1) := dk_29 (dk_at dksL_law_3 20 rfl rfl)
theorem dL_law_221 : decode cL_law 221 = .ok (.iconst 2, 1) := dk_5 (dk_at dksL_law_3 21 rfl rfl)
theorem dL_law_222 : decode cL_law 222 = .ok (.iadd, 1) := dk_96 (dk_at dksL_law_3 22 rfl rfl)
theorem dL_law_223 : decode cL_law 223 = .ok (.iaload, 1) := dk_46 (dk_at dksL_law_3 23 rfl rfl)
theorem dL_law_224 : decode cL_law 224 = .ok (.aload_n 0, 1) := dk_42 (dk_at dksL_law_4 0 rfl rfl)
theorem dL_law_225 : decode cL_law 225 = .ok (.iload_n 3, 1) := dk_29 (dk_at dksL_law_4 1 rfl rfl)
theorem dL_law_226 : decode cL_law 226 = .ok (.iconst 3, 1) := dk_6 (dk_at dksL_law_4 2 rfl rfl)
theorem dL_law_227 : decode cL_law 227 = .ok (.iadd, 1) := dk_96 (dk_at dksL_law_4 3 rfl rfl)
theorem dL_law_228 : decode cL_law 228 = .ok (.iaload, 1) := dk_46 (dk_at dksL_law_4 4 rfl rfl)
theorem dL_law_229 : decode cL_law 229 = .ok (.aload_n 0, 1) := dk_42 (dk_at dksL_law_4 5 rfl rfl)
theorem dL_law_230 : decode cL_law 230 = .ok (.iload_n 3, 1) := dk_29 (dk_at dksL_law_4 6 rfl rfl)
theorem dL_law_231 : decode cL_law 231 = .ok (.iconst 4, 1) := dk_7 (dk_at dksL_law_4 7 rfl rfl)
theorem dL_law_232 : decode cL_law 232 = .ok (.iadd, 1) := dk_96 (dk_at dksL_law_4 8 rfl rfl)
theorem dL_law_233 : decode cL_law 233 = .ok (.iaload, 1) := dk_46 (dk_at dksL_law_4 9 rfl rfl)
theorem dL_law_234 : decode cL_law 234 = .ok (.invokevirtual 18, 3) := dk_182 0 18 (dk_at dksL_law_4 10 rfl rfl)
theorem dL_law_237 : decode cL_law 237 = .ok (.aload_n 2, 1) := dk_44 (dk_at dksL_law_4 13 rfl rfl)
theorem dL_law_238 : decode cL_law 238 = .ok (.aload_n 0, 1) := dk_42 (dk_at dksL_law_4 14 rfl rfl)
theorem dL_law_239 : decode cL_law 239 = .ok (.iload_n 3, 1) := dk_29 (dk_at dksL_law_4 15 rfl rfl)
theorem dL_law_240 : decode cL_law 240 = .ok (.iconst 1, 1) := dk_4 (dk_at dksL_law_4 16 rfl rfl)
theorem dL_law_241 : decode cL_law 241 = .ok (.iadd, 1) := dk_96 (dk_at dksL_law_4 17 rfl rfl)
theorem dL_law_242 : decode cL_law 242 = .ok (.iaload, 1) := dk_46 (dk_at dksL_law_4 18 rfl rfl)
theorem dL_law_243 : decode cL_law 243 = .ok (.aload_n 0, 1) := dk_42 (dk_at dksL_law_4 19 rfl rfl)
theorem dL_law_244 : decode cL_law 244 = .ok (.iload_n 3, 1) := dk_29 (dk_at dksL_law_4 20 rfl rfl)
theorem dL_law_245 : decode cL_law 245 = .ok (.iconst 2, 1) := dk_5 (dk_at dksL_law_4 21 rfl rfl)
theorem dL_law_246 : decode cL_law 246 = .ok (.iadd, 1) := dk_96 (dk_at dksL_law_4 22 rfl rfl)
theorem dL_law_247 : decode cL_law 247 = .ok (.iaload, 1) := dk_46 (dk_at dksL_law_4 23 rfl rfl)
theorem dL_law_248 : decode cL_law 248 = .ok (.aload_n 0, 1) := dk_42 (dk_at dksL_law_5 0 rfl rfl)
theorem dL_law_249 : decode cL_law 249 = .ok (.iload_n 3, 1) := dk_29 (dk_at dksL_law_5 1 rfl rfl)
theorem dL_law_250 : decode cL_law 250 = .ok (.iconst 3, 1) := dk_6 (dk_at dksL_law_5 2 rfl rfl)
theorem dL_law_251 : decode cL_law 251 = .ok (.iadd, 1) := dk_96 (dk_at dksL_law_5 3 rfl rfl)
theorem dL_law_252 : decode cL_law 252 = .ok (.iaload, 1) := dk_46 (dk_at dksL_law_5 4 rfl rfl)
theorem dL_law_253 : decode cL_law 253 = .ok (.aload_n 0, 1) := dk_42 (dk_at dksL_law_5 5 rfl rfl)
theorem dL_law_254 : decode cL_law 254 = .ok (.iload_n 3, 1) := dk_29 (dk_at dksL_law_5 6 rfl rfl)
theorem dL_law_255 : decode cL_law 255 = .ok (.iconst 4, 1) := dk_7 (dk_at dksL_law_5 7 rfl rfl)
theorem dL_law_256 : decode cL_law 256 = .ok (.iadd, 1) := dk_96 (dk_at dksL_law_5 8 rfl rfl)
theorem dL_law_257 : decode cL_law 257 = .ok (.iaload, 1) := dk_46 (dk_at dksL_law_5 9 rfl rfl)
theorem dL_law_258 : decode cL_law 258 = .ok (.invokevirtual 22, 3) := dk_182 0 22 (dk_at dksL_law_5 10 rfl rfl)
theorem dL_law_261 : decode cL_law 261 = .ok (.if_icmp .eq 990, 3) := dk_159 3 222 (dk_at dksL_law_5 13 rfl rfl)
theorem dL_law_264 : decode cL_law 264 = .ok (.iconst 0, 1) := dk_3 (dk_at dksL_law_5 16 rfl rfl)
theorem dL_law_265 : decode cL_law 265 = .ok (.ireturn, 1) := dk_172 (dk_at dksL_law_5 17 rfl rfl)
theorem dL_law_266 : decode cL_law 266 = .ok (.aload_n 1, 1) := dk_43 (dk_at dksL_law_5 18 rfl rfl)
theorem dL_law_267 : decode cL_law 267 = .ok (.aload_n 0, 1) := dk_42 (dk_at dksL_law_5 19 rfl rfl)
theorem dL_law_268 : decode cL_law 268 = .ok (.iload_n 3, 1) := dk_29 (dk_at dksL_law_5 20 rfl rfl)
theorem dL_law_269 : decode cL_law 269 = .ok (.iconst 1, 1) := dk_4 (dk_at dksL_law_5 21 rfl rfl)
theorem dL_law_270 : decode cL_law 270 = .ok (.iadd, 1) := dk_96 (dk_at dksL_law_5 22 rfl rfl)
theorem dL_law_271 : decode cL_law 271 = .ok (.iaload, 1) := dk_46 (dk_at dksL_law_5 23 rfl rfl)
theorem dL_law_272 : decode cL_law 272 = .ok (.aload_n 0, 1) := dk_42 (dk_at dksL_law_6 0 rfl rfl)
theorem dL_law_273 : decode cL_law 273 = .ok (.iload_n 3, 1) := dk_29 (dk_at dksL_law_6 1 rfl rfl)
theorem dL_law_274 : decode cL_law 274 = .ok (.iconst 2, 1) := dk_5 (dk_at dksL_law_6 2 rfl rfl)
theorem dL_law_275 : decode cL_law 275 = .ok (.iadd, 1) := dk_96 (dk_at dksL_law_6 3 rfl rfl)
theorem dL_law_276 : decode cL_law 276 = .ok (.iaload, 1) := dk_46 (dk_at dksL_law_6 4 rfl rfl)
theorem dL_law_277 : decode cL_law 277 = .ok (.invokevirtual 23, 3) := dk_182 0 23 (dk_at dksL_law_6 5 rfl rfl)
theorem dL_law_280 : decode cL_law 280 = .ok (.aload_n 2, 1) := dk_44 (dk_at dksL_law_6 8 rfl rfl)
theorem dL_law_281 : decode cL_law 281 = .ok (.aload_n 0, 1) := dk_42 (dk_at dksL_law_6 9 rfl rfl)
theorem dL_law_282 : decode cL_law 282 = .ok (.iload_n 3, 1) := dk_29 (dk_at dksL_law_6 10 rfl rfl)
theorem dL_law_283 : decode cL_law 283 = .ok (.iconst 1, 1) := dk_4 (dk_at dksL_law_6 11 rfl rfl)
theorem dL_law_284 : decode cL_law 284 = .ok (.iadd, 1) := dk_96 (dk_at dksL_law_6 12 rfl rfl)
theorem dL_law_285 : decode cL_law 285 = .ok (.iaload, 1) := dk_46 (dk_at dksL_law_6 13 rfl rfl)
theorem dL_law_286 : decode cL_law 286 = .ok (.aload_n 0, 1) := dk_42 (dk_at dksL_law_6 14 rfl rfl)
theorem dL_law_287 : decode cL_law 287 = .ok (.iload_n 3, 1) := dk_29 (dk_at dksL_law_6 15 rfl rfl)
theorem dL_law_288 : decode cL_law 288 = .ok (.iconst 2, 1) := dk_5 (dk_at dksL_law_6 16 rfl rfl)
theorem dL_law_289 : decode cL_law 289 = .ok (.iadd, 1) := dk_96 (dk_at dksL_law_6 17 rfl rfl)
theorem dL_law_290 : decode cL_law 290 = .ok (.iaload, 1) := dk_46 (dk_at dksL_law_6 18 rfl rfl)
theorem dL_law_291 : decode cL_law 291 = .ok (.invokevirtual 27, 3) := dk_182 0 27 (dk_at dksL_law_6 19 rfl rfl)
theorem dL_law_294 : decode cL_law 294 = .ok (.if_icmp .eq 957, 3) := dk_159 3 189 (dk_at dksL_law_7 0 rfl rfl)
theorem dL_law_297 : decode cL_law 297 = .ok (.iconst 0, 1) := dk_3 (dk_at dksL_law_7 3 rfl rfl)
theorem dL_law_298 : decode cL_law 298 = .ok (.ireturn, 1) := dk_172 (dk_at dksL_law_7 4 rfl rfl)
theorem dL_law_299 : decode cL_law 299 = .ok (.aload_n 1, 1) := dk_43 (dk_at dksL_law_7 5 rfl rfl)
theorem dL_law_300 : decode cL_law 300 = .ok (.aload_n 0, 1) := dk_42 (dk_at dksL_law_7 6 rfl rfl)
theorem dL_law_301 : decode cL_law 301 = .ok (.iload_n 3, 1) := dk_29 (dk_at dksL_law_7 7 rfl rfl)
theorem dL_law_302 : decode cL_law 302 = .ok (.iconst 1, 1) := dk_4 (dk_at dksL_law_7 8 rfl rfl)
theorem dL_law_303 : decode cL_law 303 = .ok (.iadd, 1) := dk_96 (dk_at dksL_law_7 9 rfl rfl)
theorem dL_law_304 : decode cL_law 304 = .ok (.iaload, 1) := dk_46 (dk_at dksL_law_7 10 rfl rfl)
theorem dL_law_305 : decode cL_law 305 = .ok (.aload_n 0, 1) := dk_42 (dk_at dksL_law_7 11 rfl rfl)
theorem dL_law_306 : decode cL_law 306 = .ok (.iload_n 3, 1) := dk_29 (dk_at dksL_law_7 12 rfl rfl)
theorem dL_law_307 : decode cL_law 307 = .ok (.iconst 2, 1) := dk_5 (dk_at dksL_law_7 13 rfl rfl)
theorem dL_law_308 : decode cL_law 308 = .ok (.iadd, 1) := dk_96 (dk_at dksL_law_7 14 rfl rfl)
theorem dL_law_309 : decode cL_law 309 = .ok (.iaload, 1) := dk_46 (dk_at dksL_law_7 15 rfl rfl)
theorem dL_law_310 : decode cL_law 310 = .ok (.invokevirtual 28, 3) := dk_182 0 28 (dk_at dksL_law_7 16 rfl rfl)
theorem dL_law_313 : decode cL_law 313 = .ok (.aload_n 2, 1) := dk_44 (dk_at dksL_law_7 19 rfl rfl)
theorem dL_law_314 : decode cL_law 314 = .ok (.aload_n 0, 1) := dk_42 (dk_at dksL_law_7 20 rfl rfl)
theorem dL_law_315 : decode cL_law 315 = .ok (.iload_n 3, 1) := dk_29 (dk_at dksL_law_7 21 rfl rfl)
theorem dL_law_316 : decode cL_law 316 = .ok (.iconst 1, 1) := dk_4 (dk_at dksL_law_7 22 rfl rfl)
theorem dL_law_317 : decode cL_law 317 = .ok (.iadd, 1) := dk_96 (dk_at dksL_law_7 23 rfl rfl)
theorem dL_law_318 : decode cL_law 318 = .ok (.iaload, 1) := dk_46 (dk_at dksL_law_8 0 rfl rfl)
theorem dL_law_319 : decode cL_law 319 = .ok (.aload_n 0, 1) := dk_42 (dk_at dksL_law_8 1 rfl rfl)
theorem dL_law_320 : decode cL_law 320 = .ok (.iload_n 3, 1) := dk_29 (dk_at dksL_law_8 2 rfl rfl)
theorem dL_law_321 : decode cL_law 321 = .ok (.iconst 2, 1) := dk_5 (dk_at dksL_law_8 3 rfl rfl)
theorem dL_law_322 : decode cL_law 322 = .ok (.iadd, 1) := dk_96 (dk_at dksL_law_8 4 rfl rfl)
theorem dL_law_323 : decode cL_law 323 = .ok (.iaload, 1) := dk_46 (dk_at dksL_law_8 5 rfl rfl)
theorem dL_law_324 : decode cL_law 324 = .ok (.invokevirtual 31, 3) := dk_182 0 31 (dk_at dksL_law_8 6 rfl rfl)
theorem dL_law_327 : decode cL_law 327 = .ok (.if_icmp .eq 924, 3) := dk_159 3 156 (dk_at dksL_law_8 9 rfl rfl)
theorem dL_law_330 : decode cL_law 330 = .ok (.iconst 0, 1) := dk_3 (dk_at dksL_law_8 12 rfl rfl)
theorem dL_law_331 : decode cL_law 331 = .ok (.ireturn, 1) := dk_172 (dk_at dksL_law_8 13 rfl rfl)
theorem dL_law_332 : decode cL_law 332 = .ok (.aload_n 1, 1) := dk_43 (dk_at dksL_law_8 14 rfl rfl)
theorem dL_law_333 : decode cL_law 333 = .ok (.aload_n 0, 1) := dk_42 (dk_at dksL_law_8 15 rfl rfl)
theorem dL_law_334 : decode cL_law 334 = .ok (.iload_n 3, 1) := dk_29 (dk_at dksL_law_8 16 rfl rfl)
theorem dL_law_335 : decode cL_law 335 = .ok (.iconst 1, 1) := dk_4 (dk_at dksL_law_8 17 rfl rfl)
theorem dL_law_336 : decode cL_law 336 = .ok (.iadd, 1) := dk_96 (dk_at dksL_law_8 18 rfl rfl)
theorem dL_law_337 : decode cL_law 337 = .ok (.iaload, 1) := dk_46 (dk_at dksL_law_8 19 rfl rfl)
theorem dL_law_338 : decode cL_law 338 = .ok (.aload_n 0, 1) := dk_42 (dk_at dksL_law_8 20 rfl rfl)
theorem dL_law_339 : decode cL_law 339 = .ok (.iload_n 3, 1) := dk_29 (dk_at dksL_law_8 21 rfl rfl)
theorem dL_law_340 : decode cL_law 340 = .ok (.iconst 2, 1) := dk_5 (dk_at dksL_law_8 22 rfl rfl)
theorem dL_law_341 : decode cL_law 341 = .ok (.iadd, 1) := dk_96 (dk_at dksL_law_8 23 rfl rfl)
theorem dL_law_342 : decode cL_law 342 = .ok (.iaload, 1) := dk_46 (dk_at dksL_law_9 0 rfl rfl)
theorem dL_law_343 : decode cL_law 343 = .ok (.ifCond .eq 7, 3) := dk_153 0 7 (dk_at dksL_law_9 1 rfl rfl)
theorem dL_law_346 : decode cL_law 346 = .ok (.iconst 1, 1) := dk_4 (dk_at dksL_law_9 4 rfl rfl)
theorem dL_law_347 : decode cL_law 347 = .ok (.goto 4, 3) := dk_167 0 4 (dk_at dksL_law_9 5 rfl rfl)
theorem dL_law_350 : decode cL_law 350 = .ok (.iconst 0, 1) := dk_3 (dk_at dksL_law_9 8 rfl rfl)
theorem dL_law_351 : decode cL_law 351 = .ok (.invokevirtual 32, 3) := dk_182 0 32 (dk_at dksL_law_9 9 rfl rfl)
theorem dL_law_354 : decode cL_law 354 = .ok (.aload_n 2, 1) := dk_44 (dk_at dksL_law_9 12 rfl rfl)
theorem dL_law_355 : decode cL_law 355 = .ok (.aload_n 0, 1) := dk_42 (dk_at dksL_law_9 13 rfl rfl)
theorem dL_law_356 : decode cL_law 356 = .ok (.iload_n 3, 1) := dk_29 (dk_at dksL_law_9 14 rfl rfl)
theorem dL_law_357 : decode cL_law 357 = .ok (.iconst 1, 1) := dk_4 (dk_at dksL_law_9 15 rfl rfl)
theorem dL_law_358 : decode cL_law 358 = .ok (.iadd, 1) := dk_96 (dk_at dksL_law_9 16 rfl rfl)
theorem dL_law_359 : decode cL_law 359 = .ok (.iaload, 1) := dk_46 (dk_at dksL_law_9 17 rfl rfl)
theorem dL_law_360 : decode cL_law 360 = .ok (.aload_n 0, 1) := dk_42 (dk_at dksL_law_9 18 rfl rfl)
theorem dL_law_361 : decode cL_law 361 = .ok (.iload_n 3, 1) := dk_29 (dk_at dksL_law_9 19 rfl rfl)
theorem dL_law_362 : decode cL_law 362 = .ok (.iconst 2, 1) := dk_5 (dk_at dksL_law_9 20 rfl rfl)
theorem dL_law_363 : decode cL_law 363 = .ok (.iadd, 1) := dk_96 (dk_at dksL_law_9 21 rfl rfl)
theorem dL_law_364 : decode cL_law 364 = .ok (.iaload, 1) := dk_46 (dk_at dksL_law_9 22 rfl rfl)
theorem dL_law_365 : decode cL_law 365 = .ok (.ifCond .eq 7, 3) := dk_153 0 7 (dk_at dksL_law_10 0 rfl rfl)
theorem dL_law_368 : decode cL_law 368 = .ok (.iconst 1, 1) := dk_4 (dk_at dksL_law_10 3 rfl rfl)
theorem dL_law_369 : decode cL_law 369 = .ok (.goto 4, 3) := dk_167 0 4 (dk_at dksL_law_10 4 rfl rfl)
theorem dL_law_372 : decode cL_law 372 = .ok (.iconst 0, 1) := dk_3 (dk_at dksL_law_10 7 rfl rfl)
theorem dL_law_373 : decode cL_law 373 = .ok (.invokevirtual 36, 3) := dk_182 0 36 (dk_at dksL_law_10 8 rfl rfl)
theorem dL_law_376 : decode cL_law 376 = .ok (.if_icmp .eq 875, 3) := dk_159 3 107 (dk_at dksL_law_10 11 rfl rfl)
theorem dL_law_379 : decode cL_law 379 = .ok (.iconst 0, 1) := dk_3 (dk_at dksL_law_10 14 rfl rfl)
theorem dL_law_380 : decode cL_law 380 = .ok (.ireturn, 1) := dk_172 (dk_at dksL_law_10 15 rfl rfl)
theorem dL_law_381 : decode cL_law 381 = .ok (.aload_n 1, 1) := dk_43 (dk_at dksL_law_10 16 rfl rfl)
theorem dL_law_382 : decode cL_law 382 = .ok (.aload_n 0, 1) := dk_42 (dk_at dksL_law_10 17 rfl rfl)
theorem dL_law_383 : decode cL_law 383 = .ok (.iload_n 3, 1) := dk_29 (dk_at dksL_law_10 18 rfl rfl)
theorem dL_law_384 : decode cL_law 384 = .ok (.iconst 1, 1) := dk_4 (dk_at dksL_law_10 19 rfl rfl)
theorem dL_law_385 : decode cL_law 385 = .ok (.iadd, 1) := dk_96 (dk_at dksL_law_10 20 rfl rfl)
theorem dL_law_386 : decode cL_law 386 = .ok (.iaload, 1) := dk_46 (dk_at dksL_law_10 21 rfl rfl)
theorem dL_law_387 : decode cL_law 387 = .ok (.aload_n 0, 1) := dk_42 (dk_at dksL_law_10 22 rfl rfl)
theorem dL_law_388 : decode cL_law 388 = .ok (.iload_n 3, 1) := dk_29 (dk_at dksL_law_10 23 rfl rfl)
theorem dL_law_389 : decode cL_law 389 = .ok (.iconst 2, 1) := dk_5 (dk_at dksL_law_11 0 rfl rfl)
theorem dL_law_390 : decode cL_law 390 = .ok (.iadd, 1) := dk_96 (dk_at dksL_law_11 1 rfl rfl)
theorem dL_law_391 : decode cL_law 391 = .ok (.iaload, 1) := dk_46 (dk_at dksL_law_11 2 rfl rfl)
theorem dL_law_392 : decode cL_law 392 = .ok (.invokevirtual 37, 3) := dk_182 0 37 (dk_at dksL_law_11 3 rfl rfl)
theorem dL_law_395 : decode cL_law 395 = .ok (.aload_n 2, 1) := dk_44 (dk_at dksL_law_11 6 rfl rfl)
theorem dL_law_396 : decode cL_law 396 = .ok (.aload_n 0, 1) := dk_42 (dk_at dksL_law_11 7 rfl rfl)
theorem dL_law_397 : decode cL_law 397 = .ok (.iload_n 3, 1) := dk_29 (dk_at dksL_law_11 8 rfl rfl)
theorem dL_law_398 : decode cL_law 398 = .ok (.iconst 1, 1) := dk_4 (dk_at dksL_law_11 9 rfl rfl)
theorem dL_law_399 : decode cL_law 399 = .ok (.iadd, 1) := dk_96 (dk_at dksL_law_11 10 rfl rfl)
theorem dL_law_400 : decode cL_law 400 = .ok (.iaload, 1) := dk_46 (dk_at dksL_law_11 11 rfl rfl)
theorem dL_law_401 : decode cL_law 401 = .ok (.aload_n 0, 1) := dk_42 (dk_at dksL_law_11 12 rfl rfl)
theorem dL_law_402 : decode cL_law 402 = .ok (.iload_n 3, 1) := dk_29 (dk_at dksL_law_11 13 rfl rfl)
theorem dL_law_403 : decode cL_law 403 = .ok (.iconst 2, 1) := dk_5 (dk_at dksL_law_11 14 rfl rfl)
theorem dL_law_404 : decode cL_law 404 = .ok (.iadd, 1) := dk_96 (dk_at dksL_law_11 15 rfl rfl)
theorem dL_law_405 : decode cL_law 405 = .ok (.iaload, 1) := dk_46 (dk_at dksL_law_11 16 rfl rfl)
theorem dL_law_406 : decode cL_law 406 = .ok (.invokevirtual 40, 3) := dk_182 0 40 (dk_at dksL_law_11 17 rfl rfl)
theorem dL_law_409 : decode cL_law 409 = .ok (.if_icmp .eq 842, 3) := dk_159 3 74 (dk_at dksL_law_11 20 rfl rfl)
theorem dL_law_412 : decode cL_law 412 = .ok (.iconst 0, 1) := dk_3 (dk_at dksL_law_11 23 rfl rfl)
theorem dL_law_413 : decode cL_law 413 = .ok (.ireturn, 1) := dk_172 (dk_at dksL_law_12 0 rfl rfl)
theorem dL_law_414 : decode cL_law 414 = .ok (.aload_n 1, 1) := dk_43 (dk_at dksL_law_12 1 rfl rfl)
theorem dL_law_415 : decode cL_law 415 = .ok (.aload_n 0, 1) := dk_42 (dk_at dksL_law_12 2 rfl rfl)
theorem dL_law_416 : decode cL_law 416 = .ok (.iload_n 3, 1) := dk_29 (dk_at dksL_law_12 3 rfl rfl)
theorem dL_law_417 : decode cL_law 417 = .ok (.iconst 1, 1) := dk_4 (dk_at dksL_law_12 4 rfl rfl)
theorem dL_law_418 : decode cL_law 418 = .ok (.iadd, 1) := dk_96 (dk_at dksL_law_12 5 rfl rfl)
theorem dL_law_419 : decode cL_law 419 = .ok (.iaload, 1) := dk_46 (dk_at dksL_law_12 6 rfl rfl)
theorem dL_law_420 : decode cL_law 420 = .ok (.aload_n 0, 1) := dk_42 (dk_at dksL_law_12 7 rfl rfl)
theorem dL_law_421 : decode cL_law 421 = .ok (.iload_n 3, 1) := dk_29 (dk_at dksL_law_12 8 rfl rfl)
theorem dL_law_422 : decode cL_law 422 = .ok (.iconst 2, 1) := dk_5 (dk_at dksL_law_12 9 rfl rfl)
theorem dL_law_423 : decode cL_law 423 = .ok (.iadd, 1) := dk_96 (dk_at dksL_law_12 10 rfl rfl)
theorem dL_law_424 : decode cL_law 424 = .ok (.iaload, 1) := dk_46 (dk_at dksL_law_12 11 rfl rfl)
theorem dL_law_425 : decode cL_law 425 = .ok (.invokevirtual 41, 3) := dk_182 0 41 (dk_at dksL_law_12 12 rfl rfl)
theorem dL_law_428 : decode cL_law 428 = .ok (.aload_n 2, 1) := dk_44 (dk_at dksL_law_12 15 rfl rfl)
theorem dL_law_429 : decode cL_law 429 = .ok (.aload_n 0, 1) := dk_42 (dk_at dksL_law_12 16 rfl rfl)
theorem dL_law_430 : decode cL_law 430 = .ok (.iload_n 3, 1) := dk_29 (dk_at dksL_law_12 17 rfl rfl)
theorem dL_law_431 : decode cL_law 431 = .ok (.iconst 1, 1) := dk_4 (dk_at dksL_law_12 18 rfl rfl)
theorem dL_law_432 : decode cL_law 432 = .ok (.iadd, 1) := dk_96 (dk_at dksL_law_12 19 rfl rfl)
theorem dL_law_433 : decode cL_law 433 = .ok (.iaload, 1) := dk_46 (dk_at dksL_law_12 20 rfl rfl)
theorem dL_law_434 : decode cL_law 434 = .ok (.aload_n 0, 1) := dk_42 (dk_at dksL_law_12 21 rfl rfl)
theorem dL_law_435 : decode cL_law 435 = .ok (.iload_n 3, 1) := dk_29 (dk_at dksL_law_12 22 rfl rfl)
theorem dL_law_436 : decode cL_law 436 = .ok (.iconst 2, 1) := dk_5 (dk_at dksL_law_12 23 rfl rfl)
theorem dL_law_437 : decode cL_law 437 = .ok (.iadd, 1) := dk_96 (dk_at dksL_law_13 0 rfl rfl)
theorem dL_law_438 : decode cL_law 438 = .ok (.iaload, 1) := dk_46 (dk_at dksL_law_13 1 rfl rfl)
theorem dL_law_439 : decode cL_law 439 = .ok (.invokevirtual 44, 3) := dk_182 0 44 (dk_at dksL_law_13 2 rfl rfl)
theorem dL_law_442 : decode cL_law 442 = .ok (.if_icmp .eq 809, 3) := dk_159 3 41 (dk_at dksL_law_13 5 rfl rfl)
theorem dL_law_445 : decode cL_law 445 = .ok (.iconst 0, 1) := dk_3 (dk_at dksL_law_13 8 rfl rfl)
theorem dL_law_446 : decode cL_law 446 = .ok (.ireturn, 1) := dk_172 (dk_at dksL_law_13 9 rfl rfl)
theorem dL_law_447 : decode cL_law 447 = .ok (.aload_n 1, 1) := dk_43 (dk_at dksL_law_13 10 rfl rfl)
theorem dL_law_448 : decode cL_law 448 = .ok (.aload_n 0, 1) := dk_42 (dk_at dksL_law_13 11 rfl rfl)
theorem dL_law_449 : decode cL_law 449 = .ok (.iload_n 3, 1) := dk_29 (dk_at dksL_law_13 12 rfl rfl)
theorem dL_law_450 : decode cL_law 450 = .ok (.iconst 1, 1) := dk_4 (dk_at dksL_law_13 13 rfl rfl)
theorem dL_law_451 : decode cL_law 451 = .ok (.iadd, 1) := dk_96 (dk_at dksL_law_13 14 rfl rfl)
theorem dL_law_452 : decode cL_law 452 = .ok (.iaload, 1) := dk_46 (dk_at dksL_law_13 15 rfl rfl)
theorem dL_law_453 : decode cL_law 453 = .ok (.aload_n 0, 1) := dk_42 (dk_at dksL_law_13 16 rfl rfl)
theorem dL_law_454 : decode cL_law 454 = .ok (.iload_n 3, 1) := dk_29 (dk_at dksL_law_13 17 rfl rfl)
theorem dL_law_455 : decode cL_law 455 = .ok (.iconst 2, 1) := dk_5 (dk_at dksL_law_13 18 rfl rfl)
theorem dL_law_456 : decode cL_law 456 = .ok (.iadd, 1) := dk_96 (dk_at dksL_law_13 19 rfl rfl)
theorem dL_law_457 : decode cL_law 457 = .ok (.iaload, 1) := dk_46 (dk_at dksL_law_13 20 rfl rfl)
theorem dL_law_458 : decode cL_law 458 = .ok (.invokevirtual 45, 3) := dk_182 0 45 (dk_at dksL_law_13 21 rfl rfl)
theorem dL_law_461 : decode cL_law 461 = .ok (.aload_n 2, 1) := dk_44 (dk_at dksL_law_14 0 rfl rfl)
theorem dL_law_462 : decode cL_law 462 = .ok (.aload_n 0, 1) := dk_42 (dk_at dksL_law_14 1 rfl rfl)
theorem dL_law_463 : decode cL_law 463 = .ok (.iload_n 3, 1) := dk_29 (dk_at dksL_law_14 2 rfl rfl)
theorem dL_law_464 : decode cL_law 464 = .ok (.iconst 1, 1) := dk_4 (dk_at dksL_law_14 3 rfl rfl)
theorem dL_law_465 : decode cL_law 465 = .ok (.iadd, 1) := dk_96 (dk_at dksL_law_14 4 rfl rfl)
theorem dL_law_466 : decode cL_law 466 = .ok (.iaload, 1) := dk_46 (dk_at dksL_law_14 5 rfl rfl)
theorem dL_law_467 : decode cL_law 467 = .ok (.aload_n 0, 1) := dk_42 (dk_at dksL_law_14 6 rfl rfl)
theorem dL_law_468 : decode cL_law 468 = .ok (.iload_n 3, 1) := dk_29 (dk_at dksL_law_14 7 rfl rfl)
theorem dL_law_469 : decode cL_law 469 = .ok (.iconst 2, 1) := dk_5 (dk_at dksL_law_14 8 rfl rfl)
theorem dL_law_470 : decode cL_law 470 = .ok (.iadd, 1) := dk_96 (dk_at dksL_law_14 9 rfl rfl)
theorem dL_law_471 : decode cL_law 471 = .ok (.iaload, 1) := dk_46 (dk_at dksL_law_14 10 rfl rfl)
theorem dL_law_472 : decode cL_law 472 = .ok (.invokevirtual 48, 3) := dk_182 0 48 (dk_at dksL_law_14 11 rfl rfl)
theorem dL_law_475 : decode cL_law 475 = .ok (.if_icmp .eq 776, 3) := dk_159 3 8 (dk_at dksL_law_14 14 rfl rfl)
theorem dL_law_478 : decode cL_law 478 = .ok (.iconst 0, 1) := dk_3 (dk_at dksL_law_14 17 rfl rfl)
theorem dL_law_479 : decode cL_law 479 = .ok (.ireturn, 1) := dk_172 (dk_at dksL_law_14 18 rfl rfl)
theorem dL_law_480 : decode cL_law 480 = .ok (.aload_n 1, 1) := dk_43 (dk_at dksL_law_14 19 rfl rfl)
theorem dL_law_481 : decode cL_law 481 = .ok (.invokevirtual 49, 3) := dk_182 0 49 (dk_at dksL_law_14 20 rfl rfl)
theorem dL_law_484 : decode cL_law 484 = .ok (.aload_n 2, 1) := dk_44 (dk_at dksL_law_14 23 rfl rfl)
theorem dL_law_485 : decode cL_law 485 = .ok (.invokevirtual 52, 3) := dk_182 0 52 (dk_at dksL_law_15 0 rfl rfl)
theorem dL_law_488 : decode cL_law 488 = .ok (.if_icmp .eq 763, 3) := dk_159 2 251 (dk_at dksL_law_15 3 rfl rfl)
theorem dL_law_491 : decode cL_law 491 = .ok (.iconst 0, 1) := dk_3 (dk_at dksL_law_15 6 rfl rfl)
theorem dL_law_492 : decode cL_law 492 = .ok (.ireturn, 1) := dk_172 (dk_at dksL_law_15 7 rfl rfl)
theorem dL_law_493 : decode cL_law 493 = .ok (.aload_n 1, 1) := dk_43 (dk_at dksL_law_15 8 rfl rfl)
theorem dL_law_494 : decode cL_law 494 = .ok (.invokevirtual 53, 3) := dk_182 0 53 (dk_at dksL_law_15 9 rfl rfl)
theorem dL_law_497 : decode cL_law 497 = .ok (.aload_n 2, 1) := dk_44 (dk_at dksL_law_15 12 rfl rfl)
theorem dL_law_498 : decode cL_law 498 = .ok (.invokevirtual 56, 3) := dk_182 0 56 (dk_at dksL_law_15 13 rfl rfl)
theorem dL_law_501 : decode cL_law 501 = .ok (.if_icmp .eq 750, 3) := dk_159 2 238 (dk_at dksL_law_15 16 rfl rfl)
theorem dL_law_504 : decode cL_law 504 = .ok (.iconst 0, 1) := dk_3 (dk_at dksL_law_15 19 rfl rfl)
theorem dL_law_505 : decode cL_law 505 = .ok (.ireturn, 1) := dk_172 (dk_at dksL_law_15 20 rfl rfl)
theorem dL_law_506 : decode cL_law 506 = .ok (.aload_n 1, 1) := dk_43 (dk_at dksL_law_15 21 rfl rfl)
theorem dL_law_507 : decode cL_law 507 = .ok (.aload_n 0, 1) := dk_42 (dk_at dksL_law_15 22 rfl rfl)
theorem dL_law_508 : decode cL_law 508 = .ok (.iload_n 3, 1) := dk_29 (dk_at dksL_law_15 23 rfl rfl)
theorem dL_law_509 : decode cL_law 509 = .ok (.iconst 1, 1) := dk_4 (dk_at dksL_law_16 0 rfl rfl)
theorem dL_law_510 : decode cL_law 510 = .ok (.iadd, 1) := dk_96 (dk_at dksL_law_16 1 rfl rfl)
theorem dL_law_511 : decode cL_law 511 = .ok (.iaload, 1) := dk_46 (dk_at dksL_law_16 2 rfl rfl)
theorem dL_law_512 : decode cL_law 512 = .ok (.invokevirtual 57, 3) := dk_182 0 57 (dk_at dksL_law_16 3 rfl rfl)
theorem dL_law_515 : decode cL_law 515 = .ok (.aload_n 2, 1) := dk_44 (dk_at dksL_law_16 6 rfl rfl)
theorem dL_law_516 : decode cL_law 516 = .ok (.aload_n 0, 1) := dk_42 (dk_at dksL_law_16 7 rfl rfl)
theorem dL_law_517 : decode cL_law 517 = .ok (.iload_n 3, 1) := dk_29 (dk_at dksL_law_16 8 rfl rfl)
theorem dL_law_518 : decode cL_law 518 = .ok (.iconst 1, 1) := dk_4 (dk_at dksL_law_16 9 rfl rfl)
theorem dL_law_519 : decode cL_law 519 = .ok (.iadd, 1) := dk_96 (dk_at dksL_law_16 10 rfl rfl)
theorem dL_law_520 : decode cL_law 520 = .ok (.iaload, 1) := dk_46 (dk_at dksL_law_16 11 rfl rfl)
theorem dL_law_521 : decode cL_law 521 = .ok (.invokevirtual 61, 3) := dk_182 0 61 (dk_at dksL_law_16 12 rfl rfl)
theorem dL_law_524 : decode cL_law 524 = .ok (.if_icmp .eq 727, 3) := dk_159 2 215 (dk_at dksL_law_16 15 rfl rfl)
theorem dL_law_527 : decode cL_law 527 = .ok (.iconst 0, 1) := dk_3 (dk_at dksL_law_16 18 rfl rfl)
theorem dL_law_528 : decode cL_law 528 = .ok (.ireturn, 1) := dk_172 (dk_at dksL_law_16 19 rfl rfl)
theorem dL_law_529 : decode cL_law 529 = .ok (.aload_n 1, 1) := dk_43 (dk_at dksL_law_16 20 rfl rfl)
theorem dL_law_530 : decode cL_law 530 = .ok (.aload_n 0, 1) := dk_42 (dk_at dksL_law_16 21 rfl rfl)
theorem dL_law_531 : decode cL_law 531 = .ok (.iload_n 3, 1) := dk_29 (dk_at dksL_law_16 22 rfl rfl)
theorem dL_law_532 : decode cL_law 532 = .ok (.iconst 1, 1) := dk_4 (dk_at dksL_law_16 23 rfl rfl)
theorem dL_law_533 : decode cL_law 533 = .ok (.iadd, 1) := dk_96 (dk_at dksL_law_17 0 rfl rfl)
theorem dL_law_534 : decode cL_law 534 = .ok (.iaload, 1) := dk_46 (dk_at dksL_law_17 1 rfl rfl)
theorem dL_law_535 : decode cL_law 535 = .ok (.invokevirtual 62, 3) := dk_182 0 62 (dk_at dksL_law_17 2 rfl rfl)
theorem dL_law_538 : decode cL_law 538 = .ok (.aload_n 2, 1) := dk_44 (dk_at dksL_law_17 5 rfl rfl)
theorem dL_law_539 : decode cL_law 539 = .ok (.aload_n 0, 1) := dk_42 (dk_at dksL_law_17 6 rfl rfl)
theorem dL_law_540 : decode cL_law 540 = .ok (.iload_n 3, 1) := dk_29 (dk_at dksL_law_17 7 rfl rfl)
theorem dL_law_541 : decode cL_law 541 = .ok (.iconst 1, 1) := dk_4 (dk_at dksL_law_17 8 rfl rfl)
theorem dL_law_542 : decode cL_law 542 = .ok (.iadd, 1) := dk_96 (dk_at dksL_law_17 9 rfl rfl)
theorem dL_law_543 : decode cL_law 543 = .ok (.iaload, 1) := dk_46 (dk_at dksL_law_17 10 rfl rfl)
theorem dL_law_544 : decode cL_law 544 = .ok (.invokevirtual 65, 3) := dk_182 0 65 (dk_at dksL_law_17 11 rfl rfl)
theorem dL_law_547 : decode cL_law 547 = .ok (.if_icmp .eq 704, 3) := dk_159 2 192 (dk_at dksL_law_17 14 rfl rfl)
theorem dL_law_550 : decode cL_law 550 = .ok (.iconst 0, 1) := dk_3 (dk_at dksL_law_17 17 rfl rfl)
theorem dL_law_551 : decode cL_law 551 = .ok (.ireturn, 1) := dk_172 (dk_at dksL_law_17 18 rfl rfl)
theorem dL_law_552 : decode cL_law 552 = .ok (.aload_n 1, 1) := dk_43 (dk_at dksL_law_17 19 rfl rfl)
theorem dL_law_553 : decode cL_law 553 = .ok (.aload_n 0, 1) := dk_42 (dk_at dksL_law_17 20 rfl rfl)
theorem dL_law_554 : decode cL_law 554 = .ok (.iload_n 3, 1) := dk_29 (dk_at dksL_law_17 21 rfl rfl)
theorem dL_law_555 : decode cL_law 555 = .ok (.iconst 1, 1) := dk_4 (dk_at dksL_law_17 22 rfl rfl)
theorem dL_law_556 : decode cL_law 556 = .ok (.iadd, 1) := dk_96 (dk_at dksL_law_17 23 rfl rfl)
theorem dL_law_557 : decode cL_law 557 = .ok (.iaload, 1) := dk_46 (dk_at dksL_law_18 0 rfl rfl)
theorem dL_law_558 : decode cL_law 558 = .ok (.invokevirtual 66, 3) := dk_182 0 66 (dk_at dksL_law_18 1 rfl rfl)
theorem dL_law_561 : decode cL_law 561 = .ok (.aload_n 2, 1) := dk_44 (dk_at dksL_law_18 4 rfl rfl)
theorem dL_law_562 : decode cL_law 562 = .ok (.aload_n 0, 1) := dk_42 (dk_at dksL_law_18 5 rfl rfl)
theorem dL_law_563 : decode cL_law 563 = .ok (.iload_n 3, 1) := dk_29 (dk_at dksL_law_18 6 rfl rfl)
theorem dL_law_564 : decode cL_law 564 = .ok (.iconst 1, 1) := dk_4 (dk_at dksL_law_18 7 rfl rfl)
theorem dL_law_565 : decode cL_law 565 = .ok (.iadd, 1) := dk_96 (dk_at dksL_law_18 8 rfl rfl)
theorem dL_law_566 : decode cL_law 566 = .ok (.iaload, 1) := dk_46 (dk_at dksL_law_18 9 rfl rfl)
theorem dL_law_567 : decode cL_law 567 = .ok (.invokevirtual 69, 3) := dk_182 0 69 (dk_at dksL_law_18 10 rfl rfl)
theorem dL_law_570 : decode cL_law 570 = .ok (.if_icmp .eq 681, 3) := dk_159 2 169 (dk_at dksL_law_18 13 rfl rfl)
theorem dL_law_573 : decode cL_law 573 = .ok (.iconst 0, 1) := dk_3 (dk_at dksL_law_18 16 rfl rfl)
theorem dL_law_574 : decode cL_law 574 = .ok (.ireturn, 1) := dk_172 (dk_at dksL_law_18 17 rfl rfl)
theorem dL_law_575 : decode cL_law 575 = .ok (.aload_n 1, 1) := dk_43 (dk_at dksL_law_18 18 rfl rfl)
theorem dL_law_576 : decode cL_law 576 = .ok (.invokevirtual 70, 3) := dk_182 0 70 (dk_at dksL_law_18 19 rfl rfl)
theorem dL_law_579 : decode cL_law 579 = .ok (.aload_n 2, 1) := dk_44 (dk_at dksL_law_18 22 rfl rfl)
theorem dL_law_580 : decode cL_law 580 = .ok (.invokevirtual 73, 3) := dk_182 0 73 (dk_at dksL_law_19 0 rfl rfl)
theorem dL_law_583 : decode cL_law 583 = .ok (.if_icmp .eq 668, 3) := dk_159 2 156 (dk_at dksL_law_19 3 rfl rfl)
theorem dL_law_586 : decode cL_law 586 = .ok (.iconst 0, 1) := dk_3 (dk_at dksL_law_19 6 rfl rfl)
theorem dL_law_587 : decode cL_law 587 = .ok (.ireturn, 1) := dk_172 (dk_at dksL_law_19 7 rfl rfl)
theorem dL_law_588 : decode cL_law 588 = .ok (.aload_n 1, 1) := dk_43 (dk_at dksL_law_19 8 rfl rfl)
theorem dL_law_589 : decode cL_law 589 = .ok (.aload_n 0, 1) := dk_42 (dk_at dksL_law_19 9 rfl rfl)
theorem dL_law_590 : decode cL_law 590 = .ok (.iload_n 3, 1) := dk_29 (dk_at dksL_law_19 10 rfl rfl)
theorem dL_law_591 : decode cL_law 591 = .ok (.iconst 1, 1) := dk_4 (dk_at dksL_law_19 11 rfl rfl)
theorem dL_law_592 : decode cL_law 592 = .ok (.iadd, 1) := dk_96 (dk_at dksL_law_19 12 rfl rfl)
theorem dL_law_593 : decode cL_law 593 = .ok (.iaload, 1) := dk_46 (dk_at dksL_law_19 13 rfl rfl)
theorem dL_law_594 : decode cL_law 594 = .ok (.invokevirtual 74, 3) := dk_182 0 74 (dk_at dksL_law_19 14 rfl rfl)
theorem dL_law_597 : decode cL_law 597 = .ok (.aload_n 2, 1) := dk_44 (dk_at dksL_law_19 17 rfl rfl)
theorem dL_law_598 : decode cL_law 598 = .ok (.aload_n 0, 1) := dk_42 (dk_at dksL_law_19 18 rfl rfl)
theorem dL_law_599 : decode cL_law 599 = .ok (.iload_n 3, 1) := dk_29 (dk_at dksL_law_19 19 rfl rfl)
theorem dL_law_600 : decode cL_law 600 = .ok (.iconst 1, 1) := dk_4 (dk_at dksL_law_19 20 rfl rfl)
theorem dL_law_601 : decode cL_law 601 = .ok (.iadd, 1) := dk_96 (dk_at dksL_law_19 21 rfl rfl)
theorem dL_law_602 : decode cL_law 602 = .ok (.iaload, 1) := dk_46 (dk_at dksL_law_19 22 rfl rfl)
theorem dL_law_603 : decode cL_law 603 = .ok (.invokevirtual 77, 3) := dk_182 0 77 (dk_at dksL_law_20 0 rfl rfl)
theorem dL_law_606 : decode cL_law 606 = .ok (.if_icmp .eq 645, 3) := dk_159 2 133 (dk_at dksL_law_20 3 rfl rfl)
theorem dL_law_609 : decode cL_law 609 = .ok (.iconst 0, 1) := dk_3 (dk_at dksL_law_20 6 rfl rfl)
theorem dL_law_610 : decode cL_law 610 = .ok (.ireturn, 1) := dk_172 (dk_at dksL_law_20 7 rfl rfl)
theorem dL_law_611 : decode cL_law 611 = .ok (.aload_n 1, 1) := dk_43 (dk_at dksL_law_20 8 rfl rfl)
theorem dL_law_612 : decode cL_law 612 = .ok (.aload_n 0, 1) := dk_42 (dk_at dksL_law_20 9 rfl rfl)
theorem dL_law_613 : decode cL_law 613 = .ok (.iload_n 3, 1) := dk_29 (dk_at dksL_law_20 10 rfl rfl)
theorem dL_law_614 : decode cL_law 614 = .ok (.iconst 1, 1) := dk_4 (dk_at dksL_law_20 11 rfl rfl)
theorem dL_law_615 : decode cL_law 615 = .ok (.iadd, 1) := dk_96 (dk_at dksL_law_20 12 rfl rfl)
theorem dL_law_616 : decode cL_law 616 = .ok (.iaload, 1) := dk_46 (dk_at dksL_law_20 13 rfl rfl)
theorem dL_law_617 : decode cL_law 617 = .ok (.invokevirtual 78, 3) := dk_182 0 78 (dk_at dksL_law_20 14 rfl rfl)
theorem dL_law_620 : decode cL_law 620 = .ok (.aload_n 2, 1) := dk_44 (dk_at dksL_law_20 17 rfl rfl)
theorem dL_law_621 : decode cL_law 621 = .ok (.aload_n 0, 1) := dk_42 (dk_at dksL_law_20 18 rfl rfl)
theorem dL_law_622 : decode cL_law 622 = .ok (.iload_n 3, 1) := dk_29 (dk_at dksL_law_20 19 rfl rfl)
theorem dL_law_623 : decode cL_law 623 = .ok (.iconst 1, 1) := dk_4 (dk_at dksL_law_20 20 rfl rfl)
theorem dL_law_624 : decode cL_law 624 = .ok (.iadd, 1) := dk_96 (dk_at dksL_law_20 21 rfl rfl)
theorem dL_law_625 : decode cL_law 625 = .ok (.iaload, 1) := dk_46 (dk_at dksL_law_20 22 rfl rfl)
theorem dL_law_626 : decode cL_law 626 = .ok (.invokevirtual 81, 3) := dk_182 0 81 (dk_at dksL_law_21 0 rfl rfl)
theorem dL_law_629 : decode cL_law 629 = .ok (.if_icmp .eq 622, 3) := dk_159 2 110 (dk_at dksL_law_21 3 rfl rfl)
theorem dL_law_632 : decode cL_law 632 = .ok (.iconst 0, 1) := dk_3 (dk_at dksL_law_21 6 rfl rfl)
theorem dL_law_633 : decode cL_law 633 = .ok (.ireturn, 1) := dk_172 (dk_at dksL_law_21 7 rfl rfl)
theorem dL_law_634 : decode cL_law 634 = .ok (.aload_n 1, 1) := dk_43 (dk_at dksL_law_21 8 rfl rfl)
theorem dL_law_635 : decode cL_law 635 = .ok (.aload_n 0, 1) := dk_42 (dk_at dksL_law_21 9 rfl rfl)
theorem dL_law_636 : decode cL_law 636 = .ok (.iload_n 3, 1) := dk_29 (dk_at dksL_law_21 10 rfl rfl)
theorem dL_law_637 : decode cL_law 637 = .ok (.iconst 1, 1) := dk_4 (dk_at dksL_law_21 11 rfl rfl)
theorem dL_law_638 : decode cL_law 638 = .ok (.iadd, 1) := dk_96 (dk_at dksL_law_21 12 rfl rfl)
theorem dL_law_639 : decode cL_law 639 = .ok (.iaload, 1) := dk_46 (dk_at dksL_law_21 13 rfl rfl)
theorem dL_law_640 : decode cL_law 640 = .ok (.invokevirtual 82, 3) := dk_182 0 82 (dk_at dksL_law_21 14 rfl rfl)
theorem dL_law_643 : decode cL_law 643 = .ok (.aload_n 2, 1) := dk_44 (dk_at dksL_law_21 17 rfl rfl)
theorem dL_law_644 : decode cL_law 644 = .ok (.aload_n 0, 1) := dk_42 (dk_at dksL_law_21 18 rfl rfl)
theorem dL_law_645 : decode cL_law 645 = .ok (.iload_n 3, 1) := dk_29 (dk_at dksL_law_21 19 rfl rfl)
theorem dL_law_646 : decode cL_law 646 = .ok (.iconst 1, 1) := dk_4 (dk_at dksL_law_21 20 rfl rfl)
theorem dL_law_647 : decode cL_law 647 = .ok (.iadd, 1) := dk_96 (dk_at dksL_law_21 21 rfl rfl)
theorem dL_law_648 : decode cL_law 648 = .ok (.iaload, 1) := dk_46 (dk_at dksL_law_21 22 rfl rfl)
theorem dL_law_649 : decode cL_law 649 = .ok (.invokevirtual 85, 3) := dk_182 0 85 (dk_at dksL_law_22 0 rfl rfl)
theorem dL_law_652 : decode cL_law 652 = .ok (.if_icmp .eq 599, 3) := dk_159 2 87 (dk_at dksL_law_22 3 rfl rfl)
theorem dL_law_655 : decode cL_law 655 = .ok (.iconst 0, 1) := dk_3 (dk_at dksL_law_22 6 rfl rfl)
theorem dL_law_656 : decode cL_law 656 = .ok (.ireturn, 1) := dk_172 (dk_at dksL_law_22 7 rfl rfl)
theorem dL_law_657 : decode cL_law 657 = .ok (.aload_n 1, 1) := dk_43 (dk_at dksL_law_22 8 rfl rfl)
theorem dL_law_658 : decode cL_law 658 = .ok (.aload_n 0, 1) := dk_42 (dk_at dksL_law_22 9 rfl rfl)
theorem dL_law_659 : decode cL_law 659 = .ok (.iload_n 3, 1) := dk_29 (dk_at dksL_law_22 10 rfl rfl)
theorem dL_law_660 : decode cL_law 660 = .ok (.iconst 1, 1) := dk_4 (dk_at dksL_law_22 11 rfl rfl)
theorem dL_law_661 : decode cL_law 661 = .ok (.iadd, 1) := dk_96 (dk_at dksL_law_22 12 rfl rfl)
theorem dL_law_662 : decode cL_law 662 = .ok (.iaload, 1) := dk_46 (dk_at dksL_law_22 13 rfl rfl)
theorem dL_law_663 : decode cL_law 663 = .ok (.invokevirtual 86, 3) := dk_182 0 86 (dk_at dksL_law_22 14 rfl rfl)
theorem dL_law_666 : decode cL_law 666 = .ok (.aload_n 2, 1) := dk_44 (dk_at dksL_law_22 17 rfl rfl)
theorem dL_law_667 : decode cL_law 667 = .ok (.aload_n 0, 1) := dk_42 (dk_at dksL_law_22 18 rfl rfl)
theorem dL_law_668 : decode cL_law 668 = .ok (.iload_n 3, 1) := dk_29 (dk_at dksL_law_22 19 rfl rfl)
theorem dL_law_669 : decode cL_law 669 = .ok (.iconst 1, 1) := dk_4 (dk_at dksL_law_22 20 rfl rfl)
theorem dL_law_670 : decode cL_law 670 = .ok (.iadd, 1) := dk_96 (dk_at dksL_law_22 21 rfl rfl)
theorem dL_law_671 : decode cL_law 671 = .ok (.iaload, 1) := dk_46 (dk_at dksL_law_22 22 rfl rfl)
theorem dL_law_672 : decode cL_law 672 = .ok (.invokevirtual 89, 3) := dk_182 0 89 (dk_at dksL_law_23 0 rfl rfl)
theorem dL_law_675 : decode cL_law 675 = .ok (.if_icmp .eq 576, 3) := dk_159 2 64 (dk_at dksL_law_23 3 rfl rfl)
theorem dL_law_678 : decode cL_law 678 = .ok (.iconst 0, 1) := dk_3 (dk_at dksL_law_23 6 rfl rfl)
theorem dL_law_679 : decode cL_law 679 = .ok (.ireturn, 1) := dk_172 (dk_at dksL_law_23 7 rfl rfl)
theorem dL_law_680 : decode cL_law 680 = .ok (.aload_n 1, 1) := dk_43 (dk_at dksL_law_23 8 rfl rfl)
theorem dL_law_681 : decode cL_law 681 = .ok (.aload_n 0, 1) := dk_42 (dk_at dksL_law_23 9 rfl rfl)
theorem dL_law_682 : decode cL_law 682 = .ok (.iload_n 3, 1) := dk_29 (dk_at dksL_law_23 10 rfl rfl)
theorem dL_law_683 : decode cL_law 683 = .ok (.iconst 1, 1) := dk_4 (dk_at dksL_law_23 11 rfl rfl)
theorem dL_law_684 : decode cL_law 684 = .ok (.iadd, 1) := dk_96 (dk_at dksL_law_23 12 rfl rfl)
theorem dL_law_685 : decode cL_law 685 = .ok (.iaload, 1) := dk_46 (dk_at dksL_law_23 13 rfl rfl)
theorem dL_law_686 : decode cL_law 686 = .ok (.invokevirtual 90, 3) := dk_182 0 90 (dk_at dksL_law_23 14 rfl rfl)
theorem dL_law_689 : decode cL_law 689 = .ok (.aload_n 2, 1) := dk_44 (dk_at dksL_law_23 17 rfl rfl)
theorem dL_law_690 : decode cL_law 690 = .ok (.aload_n 0, 1) := dk_42 (dk_at dksL_law_23 18 rfl rfl)
theorem dL_law_691 : decode cL_law 691 = .ok (.iload_n 3, 1) := dk_29 (dk_at dksL_law_23 19 rfl rfl)
theorem dL_law_692 : decode cL_law 692 = .ok (.iconst 1, 1) := dk_4 (dk_at dksL_law_23 20 rfl rfl)
theorem dL_law_693 : decode cL_law 693 = .ok (.iadd, 1) := dk_96 (dk_at dksL_law_23 21 rfl rfl)
theorem dL_law_694 : decode cL_law 694 = .ok (.iaload, 1) := dk_46 (dk_at dksL_law_23 22 rfl rfl)
theorem dL_law_695 : decode cL_law 695 = .ok (.invokevirtual 93, 3) := dk_182 0 93 (dk_at dksL_law_24 0 rfl rfl)
theorem dL_law_698 : decode cL_law 698 = .ok (.if_icmp .eq 553, 3) := dk_159 2 41 (dk_at dksL_law_24 3 rfl rfl)
theorem dL_law_701 : decode cL_law 701 = .ok (.iconst 0, 1) := dk_3 (dk_at dksL_law_24 6 rfl rfl)
theorem dL_law_702 : decode cL_law 702 = .ok (.ireturn, 1) := dk_172 (dk_at dksL_law_24 7 rfl rfl)
theorem dL_law_703 : decode cL_law 703 = .ok (.aload_n 1, 1) := dk_43 (dk_at dksL_law_24 8 rfl rfl)
theorem dL_law_704 : decode cL_law 704 = .ok (.aload_n 0, 1) := dk_42 (dk_at dksL_law_24 9 rfl rfl)
theorem dL_law_705 : decode cL_law 705 = .ok (.iload_n 3, 1) := dk_29 (dk_at dksL_law_24 10 rfl rfl)
theorem dL_law_706 : decode cL_law 706 = .ok (.iconst 1, 1) := dk_4 (dk_at dksL_law_24 11 rfl rfl)
theorem dL_law_707 : decode cL_law 707 = .ok (.iadd, 1) := dk_96 (dk_at dksL_law_24 12 rfl rfl)
theorem dL_law_708 : decode cL_law 708 = .ok (.iaload, 1) := dk_46 (dk_at dksL_law_24 13 rfl rfl)
theorem dL_law_709 : decode cL_law 709 = .ok (.aload_n 0, 1) := dk_42 (dk_at dksL_law_24 14 rfl rfl)
theorem dL_law_710 : decode cL_law 710 = .ok (.iload_n 3, 1) := dk_29 (dk_at dksL_law_24 15 rfl rfl)
theorem dL_law_711 : decode cL_law 711 = .ok (.iconst 2, 1) := dk_5 (dk_at dksL_law_24 16 rfl rfl)
theorem dL_law_712 : decode cL_law 712 = .ok (.iadd, 1) := dk_96 (dk_at dksL_law_24 17 rfl rfl)
theorem dL_law_713 : decode cL_law 713 = .ok (.iaload, 1) := dk_46 (dk_at dksL_law_24 18 rfl rfl)
theorem dL_law_714 : decode cL_law 714 = .ok (.aload_n 0, 1) := dk_42 (dk_at dksL_law_24 19 rfl rfl)
theorem dL_law_715 : decode cL_law 715 = .ok (.iload_n 3, 1) := dk_29 (dk_at dksL_law_24 20 rfl rfl)
theorem dL_law_716 : decode cL_law 716 = .ok (.iconst 3, 1) := dk_6 (dk_at dksL_law_24 21 rfl rfl)
theorem dL_law_717 : decode cL_law 717 = .ok (.iadd, 1) := dk_96 (dk_at dksL_law_24 22 rfl rfl)
theorem dL_law_718 : decode cL_law 718 = .ok (.iaload, 1) := dk_46 (dk_at dksL_law_24 23 rfl rfl)
theorem dL_law_719 : decode cL_law 719 = .ok (.invokevirtual 94, 3) := dk_182 0 94 (dk_at dksL_law_25 0 rfl rfl)
theorem dL_law_722 : decode cL_law 722 = .ok (.aload_n 2, 1) := dk_44 (dk_at dksL_law_25 3 rfl rfl)
theorem dL_law_723 : decode cL_law 723 = .ok (.aload_n 0, 1) := dk_42 (dk_at dksL_law_25 4 rfl rfl)
theorem dL_law_724 : decode cL_law 724 = .ok (.iload_n 3, 1) := dk_29 (dk_at dksL_law_25 5 rfl rfl)
theorem dL_law_725 : decode cL_law 725 = .ok (.iconst 1, 1) := dk_4 (dk_at dksL_law_25 6 rfl rfl)
theorem dL_law_726 : decode cL_law 726 = .ok (.iadd, 1) := dk_96 (dk_at dksL_law_25 7 rfl rfl)
theorem dL_law_727 : decode cL_law 727 = .ok (.iaload, 1) := dk_46 (dk_at dksL_law_25 8 rfl rfl)
theorem dL_law_728 : decode cL_law 728 = .ok (.aload_n 0, 1) := dk_42 (dk_at dksL_law_25 9 rfl rfl)
theorem dL_law_729 : decode cL_law 729 = .ok (.iload_n 3, 1) := dk_29 (dk_at dksL_law_25 10 rfl rfl)
theorem dL_law_730 : decode cL_law 730 = .ok (.iconst 2, 1) := dk_5 (dk_at dksL_law_25 11 rfl rfl)
theorem dL_law_731 : decode cL_law 731 = .ok (.iadd, 1) := dk_96 (dk_at dksL_law_25 12 rfl rfl)
theorem dL_law_732 : decode cL_law 732 = .ok (.iaload, 1) := dk_46 (dk_at dksL_law_25 13 rfl rfl)
theorem dL_law_733 : decode cL_law 733 = .ok (.aload_n 0, 1) := dk_42 (dk_at dksL_law_25 14 rfl rfl)
theorem dL_law_734 : decode cL_law 734 = .ok (.iload_n 3, 1) := dk_29 (dk_at dksL_law_25 15 rfl rfl)
theorem dL_law_735 : decode cL_law 735 = .ok (.iconst 3, 1) := dk_6 (dk_at dksL_law_25 16 rfl rfl)
theorem dL_law_736 : decode cL_law 736 = .ok (.iadd, 1) := dk_96 (dk_at dksL_law_25 17 rfl rfl)
theorem dL_law_737 : decode cL_law 737 = .ok (.iaload, 1) := dk_46 (dk_at dksL_law_25 18 rfl rfl)
theorem dL_law_738 : decode cL_law 738 = .ok (.invokevirtual 98, 3) := dk_182 0 98 (dk_at dksL_law_25 19 rfl rfl)
theorem dL_law_741 : decode cL_law 741 = .ok (.if_icmp .eq 510, 3) := dk_159 1 254 (dk_at dksL_law_26 0 rfl rfl)
theorem dL_law_744 : decode cL_law 744 = .ok (.iconst 0, 1) := dk_3 (dk_at dksL_law_26 3 rfl rfl)
theorem dL_law_745 : decode cL_law 745 = .ok (.ireturn, 1) := dk_172 (dk_at dksL_law_26 4 rfl rfl)
theorem dL_law_746 : decode cL_law 746 = .ok (.aload_n 1, 1) := dk_43 (dk_at dksL_law_26 5 rfl rfl)
theorem dL_law_747 : decode cL_law 747 = .ok (.invokevirtual 99, 3) := dk_182 0 99 (dk_at dksL_law_26 6 rfl rfl)
theorem dL_law_750 : decode cL_law 750 = .ok (.aload_n 2, 1) := dk_44 (dk_at dksL_law_26 9 rfl rfl)
theorem dL_law_751 : decode cL_law 751 = .ok (.invokevirtual 102, 3) := dk_182 0 102 (dk_at dksL_law_26 10 rfl rfl)
theorem dL_law_754 : decode cL_law 754 = .ok (.if_icmp .eq 497, 3) := dk_159 1 241 (dk_at dksL_law_26 13 rfl rfl)
theorem dL_law_757 : decode cL_law 757 = .ok (.iconst 0, 1) := dk_3 (dk_at dksL_law_26 16 rfl rfl)
theorem dL_law_758 : decode cL_law 758 = .ok (.ireturn, 1) := dk_172 (dk_at dksL_law_26 17 rfl rfl)
theorem dL_law_759 : decode cL_law 759 = .ok (.aload_n 1, 1) := dk_43 (dk_at dksL_law_26 18 rfl rfl)
theorem dL_law_760 : decode cL_law 760 = .ok (.aload_n 0, 1) := dk_42 (dk_at dksL_law_26 19 rfl rfl)
theorem dL_law_761 : decode cL_law 761 = .ok (.iload_n 3, 1) := dk_29 (dk_at dksL_law_26 20 rfl rfl)
theorem dL_law_762 : decode cL_law 762 = .ok (.iconst 1, 1) := dk_4 (dk_at dksL_law_26 21 rfl rfl)
theorem dL_law_763 : decode cL_law 763 = .ok (.iadd, 1) := dk_96 (dk_at dksL_law_26 22 rfl rfl)
theorem dL_law_764 : decode cL_law 764 = .ok (.iaload, 1) := dk_46 (dk_at dksL_law_26 23 rfl rfl)
theorem dL_law_765 : decode cL_law 765 = .ok (.aload_n 0, 1) := dk_42 (dk_at dksL_law_27 0 rfl rfl)
theorem dL_law_766 : decode cL_law 766 = .ok (.iload_n 3, 1) := dk_29 (dk_at dksL_law_27 1 rfl rfl)
theorem dL_law_767 : decode cL_law 767 = .ok (.iconst 2, 1) := dk_5 (dk_at dksL_law_27 2 rfl rfl)
theorem dL_law_768 : decode cL_law 768 = .ok (.iadd, 1) := dk_96 (dk_at dksL_law_27 3 rfl rfl)
theorem dL_law_769 : decode cL_law 769 = .ok (.iaload, 1) := dk_46 (dk_at dksL_law_27 4 rfl rfl)
theorem dL_law_770 : decode cL_law 770 = .ok (.aload_n 0, 1) := dk_42 (dk_at dksL_law_27 5 rfl rfl)
theorem dL_law_771 : decode cL_law 771 = .ok (.iload_n 3, 1) := dk_29 (dk_at dksL_law_27 6 rfl rfl)
theorem dL_law_772 : decode cL_law 772 = .ok (.iconst 3, 1) := dk_6 (dk_at dksL_law_27 7 rfl rfl)
theorem dL_law_773 : decode cL_law 773 = .ok (.iadd, 1) := dk_96 (dk_at dksL_law_27 8 rfl rfl)
theorem dL_law_774 : decode cL_law 774 = .ok (.iaload, 1) := dk_46 (dk_at dksL_law_27 9 rfl rfl)
theorem dL_law_775 : decode cL_law 775 = .ok (.aload_n 0, 1) := dk_42 (dk_at dksL_law_27 10 rfl rfl)
theorem dL_law_776 : decode cL_law 776 = .ok (.iload_n 3, 1) := dk_29 (dk_at dksL_law_27 11 rfl rfl)
theorem dL_law_777 : decode cL_law 777 = .ok (.iconst 4, 1) := dk_7 (dk_at dksL_law_27 12 rfl rfl)
theorem dL_law_778 : decode cL_law 778 = .ok (.iadd, 1) := dk_96 (dk_at dksL_law_27 13 rfl rfl)
theorem dL_law_779 : decode cL_law 779 = .ok (.iaload, 1) := dk_46 (dk_at dksL_law_27 14 rfl rfl)
theorem dL_law_780 : decode cL_law 780 = .ok (.invokevirtual 103, 3) := dk_182 0 103 (dk_at dksL_law_27 15 rfl rfl)
theorem dL_law_783 : decode cL_law 783 = .ok (.aload_n 2, 1) := dk_44 (dk_at dksL_law_27 18 rfl rfl)
theorem dL_law_784 : decode cL_law 784 = .ok (.aload_n 0, 1) := dk_42 (dk_at dksL_law_27 19 rfl rfl)
theorem dL_law_785 : decode cL_law 785 = .ok (.iload_n 3, 1) := dk_29 (dk_at dksL_law_27 20 rfl rfl)
theorem dL_law_786 : decode cL_law 786 = .ok (.iconst 1, 1) := dk_4 (dk_at dksL_law_27 21 rfl rfl)
theorem dL_law_787 : decode cL_law 787 = .ok (.iadd, 1) := dk_96 (dk_at dksL_law_27 22 rfl rfl)
theorem dL_law_788 : decode cL_law 788 = .ok (.iaload, 1) := dk_46 (dk_at dksL_law_27 23 rfl rfl)
theorem dL_law_789 : decode cL_law 789 = .ok (.aload_n 0, 1) := dk_42 (dk_at dksL_law_28 0 rfl rfl)
theorem dL_law_790 : decode cL_law 790 = .ok (.iload_n 3, 1) := dk_29 (dk_at dksL_law_28 1 rfl rfl)
theorem dL_law_791 : decode cL_law 791 = .ok (.iconst 2, 1) := dk_5 (dk_at dksL_law_28 2 rfl rfl)
theorem dL_law_792 : decode cL_law 792 = .ok (.iadd, 1) := dk_96 (dk_at dksL_law_28 3 rfl rfl)
theorem dL_law_793 : decode cL_law 793 = .ok (.iaload, 1) := dk_46 (dk_at dksL_law_28 4 rfl rfl)
theorem dL_law_794 : decode cL_law 794 = .ok (.aload_n 0, 1) := dk_42 (dk_at dksL_law_28 5 rfl rfl)
theorem dL_law_795 : decode cL_law 795 = .ok (.iload_n 3, 1) := dk_29 (dk_at dksL_law_28 6 rfl rfl)
theorem dL_law_796 : decode cL_law 796 = .ok (.iconst 3, 1) := dk_6 (dk_at dksL_law_28 7 rfl rfl)
theorem dL_law_797 : decode cL_law 797 = .ok (.iadd, 1) := dk_96 (dk_at dksL_law_28 8 rfl rfl)
theorem dL_law_798 : decode cL_law 798 = .ok (.iaload, 1) := dk_46 (dk_at dksL_law_28 9 rfl rfl)
theorem dL_law_799 : decode cL_law 799 = .ok (.aload_n 0, 1) := dk_42 (dk_at dksL_law_28 10 rfl rfl)
theorem dL_law_800 : decode cL_law 800 = .ok (.iload_n 3, 1) := dk_29 (dk_at dksL_law_28 11 rfl rfl)
theorem dL_law_801 : decode cL_law 801 = .ok (.iconst 4, 1) := dk_7 (dk_at dksL_law_28 12 rfl rfl)
theorem dL_law_802 : decode cL_law 802 = .ok (.iadd, 1) := dk_96 (dk_at dksL_law_28 13 rfl rfl)
theorem dL_law_803 : decode cL_law 803 = .ok (.iaload, 1) := dk_46 (dk_at dksL_law_28 14 rfl rfl)
theorem dL_law_804 : decode cL_law 804 = .ok (.invokevirtual 106, 3) := dk_182 0 106 (dk_at dksL_law_28 15 rfl rfl)
theorem dL_law_807 : decode cL_law 807 = .ok (.if_icmp .eq 444, 3) := dk_159 1 188 (dk_at dksL_law_28 18 rfl rfl)
theorem dL_law_810 : decode cL_law 810 = .ok (.iconst 0, 1) := dk_3 (dk_at dksL_law_28 21 rfl rfl)
theorem dL_law_811 : decode cL_law 811 = .ok (.ireturn, 1) := dk_172 (dk_at dksL_law_28 22 rfl rfl)
theorem dL_law_812 : decode cL_law 812 = .ok (.aload_n 1, 1) := dk_43 (dk_at dksL_law_28 23 rfl rfl)
theorem dL_law_813 : decode cL_law 813 = .ok (.aload_n 0, 1) := dk_42 (dk_at dksL_law_29 0 rfl rfl)
theorem dL_law_814 : decode cL_law 814 = .ok (.iload_n 3, 1) := dk_29 (dk_at dksL_law_29 1 rfl rfl)
theorem dL_law_815 : decode cL_law 815 = .ok (.iconst 1, 1) := dk_4 (dk_at dksL_law_29 2 rfl rfl)
theorem dL_law_816 : decode cL_law 816 = .ok (.iadd, 1) := dk_96 (dk_at dksL_law_29 3 rfl rfl)
theorem dL_law_817 : decode cL_law 817 = .ok (.iaload, 1) := dk_46 (dk_at dksL_law_29 4 rfl rfl)
theorem dL_law_818 : decode cL_law 818 = .ok (.invokevirtual 107, 3) := dk_182 0 107 (dk_at dksL_law_29 5 rfl rfl)
theorem dL_law_821 : decode cL_law 821 = .ok (.aload_n 2, 1) := dk_44 (dk_at dksL_law_29 8 rfl rfl)
theorem dL_law_822 : decode cL_law 822 = .ok (.aload_n 0, 1) := dk_42 (dk_at dksL_law_29 9 rfl rfl)
theorem dL_law_823 : decode cL_law 823 = .ok (.iload_n 3, 1) := dk_29 (dk_at dksL_law_29 10 rfl rfl)
theorem dL_law_824 : decode cL_law 824 = .ok (.iconst 1, 1) := dk_4 (dk_at dksL_law_29 11 rfl rfl)
theorem dL_law_825 : decode cL_law 825 = .ok (.iadd, 1) := dk_96 (dk_at dksL_law_29 12 rfl rfl)
theorem dL_law_826 : decode cL_law 826 = .ok (.iaload, 1) := dk_46 (dk_at dksL_law_29 13 rfl rfl)
theorem dL_law_827 : decode cL_law 827 = .ok (.invokevirtual 110, 3) := dk_182 0 110 (dk_at dksL_law_29 14 rfl rfl)
theorem dL_law_830 : decode cL_law 830 = .ok (.if_icmp .eq 421, 3) := dk_159 1 165 (dk_at dksL_law_29 17 rfl rfl)
theorem dL_law_833 : decode cL_law 833 = .ok (.iconst 0, 1) := dk_3 (dk_at dksL_law_29 20 rfl rfl)
theorem dL_law_834 : decode cL_law 834 = .ok (.ireturn, 1) := dk_172 (dk_at dksL_law_29 21 rfl rfl)
theorem dL_law_835 : decode cL_law 835 = .ok (.aload_n 1, 1) := dk_43 (dk_at dksL_law_29 22 rfl rfl)
theorem dL_law_836 : decode cL_law 836 = .ok (.aload_n 0, 1) := dk_42 (dk_at dksL_law_29 23 rfl rfl)
theorem dL_law_837 : decode cL_law 837 = .ok (.iload_n 3, 1) := dk_29 (dk_at dksL_law_30 0 rfl rfl)
theorem dL_law_838 : decode cL_law 838 = .ok (.iconst 1, 1) := dk_4 (dk_at dksL_law_30 1 rfl rfl)
theorem dL_law_839 : decode cL_law 839 = .ok (.iadd, 1) := dk_96 (dk_at dksL_law_30 2 rfl rfl)
theorem dL_law_840 : decode cL_law 840 = .ok (.iaload, 1) := dk_46 (dk_at dksL_law_30 3 rfl rfl)
theorem dL_law_841 : decode cL_law 841 = .ok (.invokevirtual 111, 3) := dk_182 0 111 (dk_at dksL_law_30 4 rfl rfl)
theorem dL_law_844 : decode cL_law 844 = .ok (.aload_n 2, 1) := dk_44 (dk_at dksL_law_30 7 rfl rfl)
theorem dL_law_845 : decode cL_law 845 = .ok (.aload_n 0, 1) := dk_42 (dk_at dksL_law_30 8 rfl rfl)
theorem dL_law_846 : decode cL_law 846 = .ok (.iload_n 3, 1) := dk_29 (dk_at dksL_law_30 9 rfl rfl)
theorem dL_law_847 : decode cL_law 847 = .ok (.iconst 1, 1) := dk_4 (dk_at dksL_law_30 10 rfl rfl)
theorem dL_law_848 : decode cL_law 848 = .ok (.iadd, 1) := dk_96 (dk_at dksL_law_30 11 rfl rfl)
theorem dL_law_849 : decode cL_law 849 = .ok (.iaload, 1) := dk_46 (dk_at dksL_law_30 12 rfl rfl)
theorem dL_law_850 : decode cL_law 850 = .ok (.invokevirtual 114, 3) := dk_182 0 114 (dk_at dksL_law_30 13 rfl rfl)
theorem dL_law_853 : decode cL_law 853 = .ok (.if_icmp .eq 398, 3) := dk_159 1 142 (dk_at dksL_law_30 16 rfl rfl)
theorem dL_law_856 : decode cL_law 856 = .ok (.iconst 0, 1) := dk_3 (dk_at dksL_law_30 19 rfl rfl)
theorem dL_law_857 : decode cL_law 857 = .ok (.ireturn, 1) := dk_172 (dk_at dksL_law_30 20 rfl rfl)
theorem dL_law_858 : decode cL_law 858 = .ok (.aload_n 1, 1) := dk_43 (dk_at dksL_law_30 21 rfl rfl)
theorem dL_law_859 : decode cL_law 859 = .ok (.invokevirtual 115, 3) := dk_182 0 115 (dk_at dksL_law_31 0 rfl rfl)
theorem dL_law_862 : decode cL_law 862 = .ok (.aload_n 2, 1) := dk_44 (dk_at dksL_law_31 3 rfl rfl)
theorem dL_law_863 : decode cL_law 863 = .ok (.invokevirtual 118, 3) := dk_182 0 118 (dk_at dksL_law_31 4 rfl rfl)
theorem dL_law_866 : decode cL_law 866 = .ok (.if_icmp .eq 385, 3) := dk_159 1 129 (dk_at dksL_law_31 7 rfl rfl)
theorem dL_law_869 : decode cL_law 869 = .ok (.iconst 0, 1) := dk_3 (dk_at dksL_law_31 10 rfl rfl)
theorem dL_law_870 : decode cL_law 870 = .ok (.ireturn, 1) := dk_172 (dk_at dksL_law_31 11 rfl rfl)
theorem dL_law_871 : decode cL_law 871 = .ok (.aload_n 1, 1) := dk_43 (dk_at dksL_law_31 12 rfl rfl)
theorem dL_law_872 : decode cL_law 872 = .ok (.aload_n 0, 1) := dk_42 (dk_at dksL_law_31 13 rfl rfl)
theorem dL_law_873 : decode cL_law 873 = .ok (.iload_n 3, 1) := dk_29 (dk_at dksL_law_31 14 rfl rfl)
theorem dL_law_874 : decode cL_law 874 = .ok (.iconst 1, 1) := dk_4 (dk_at dksL_law_31 15 rfl rfl)
theorem dL_law_875 : decode cL_law 875 = .ok (.iadd, 1) := dk_96 (dk_at dksL_law_31 16 rfl rfl)
theorem dL_law_876 : decode cL_law 876 = .ok (.iaload, 1) := dk_46 (dk_at dksL_law_31 17 rfl rfl)
theorem dL_law_877 : decode cL_law 877 = .ok (.aload_n 0, 1) := dk_42 (dk_at dksL_law_31 18 rfl rfl)
theorem dL_law_878 : decode cL_law 878 = .ok (.iload_n 3, 1) := dk_29 (dk_at dksL_law_31 19 rfl rfl)
theorem dL_law_879 : decode cL_law 879 = .ok (.iconst 2, 1) := dk_5 (dk_at dksL_law_31 20 rfl rfl)
theorem dL_law_880 : decode cL_law 880 = .ok (.iadd, 1) := dk_96 (dk_at dksL_law_31 21 rfl rfl)
theorem dL_law_881 : decode cL_law 881 = .ok (.iaload, 1) := dk_46 (dk_at dksL_law_31 22 rfl rfl)
theorem dL_law_882 : decode cL_law 882 = .ok (.invokevirtual 119, 3) := dk_182 0 119 (dk_at dksL_law_32 0 rfl rfl)
theorem dL_law_885 : decode cL_law 885 = .ok (.aload_n 2, 1) := dk_44 (dk_at dksL_law_32 3 rfl rfl)
theorem dL_law_886 : decode cL_law 886 = .ok (.aload_n 0, 1) := dk_42 (dk_at dksL_law_32 4 rfl rfl)
theorem dL_law_887 : decode cL_law 887 = .ok (.iload_n 3, 1) := dk_29 (dk_at dksL_law_32 5 rfl rfl)
theorem dL_law_888 : decode cL_law 888 = .ok (.iconst 1, 1) := dk_4 (dk_at dksL_law_32 6 rfl rfl)
theorem dL_law_889 : decode cL_law 889 = .ok (.iadd, 1) := dk_96 (dk_at dksL_law_32 7 rfl rfl)
theorem dL_law_890 : decode cL_law 890 = .ok (.iaload, 1) := dk_46 (dk_at dksL_law_32 8 rfl rfl)
theorem dL_law_891 : decode cL_law 891 = .ok (.aload_n 0, 1) := dk_42 (dk_at dksL_law_32 9 rfl rfl)
theorem dL_law_892 : decode cL_law 892 = .ok (.iload_n 3, 1) := dk_29 (dk_at dksL_law_32 10 rfl rfl)
theorem dL_law_893 : decode cL_law 893 = .ok (.iconst 2, 1) := dk_5 (dk_at dksL_law_32 11 rfl rfl)
theorem dL_law_894 : decode cL_law 894 = .ok (.iadd, 1) := dk_96 (dk_at dksL_law_32 12 rfl rfl)
theorem dL_law_895 : decode cL_law 895 = .ok (.iaload, 1) := dk_46 (dk_at dksL_law_32 13 rfl rfl)
theorem dL_law_896 : decode cL_law 896 = .ok (.invokevirtual 122, 3) := dk_182 0 122 (dk_at dksL_law_32 14 rfl rfl)
theorem dL_law_899 : decode cL_law 899 = .ok (.if_icmp .eq 352, 3) := dk_159 1 96 (dk_at dksL_law_32 17 rfl rfl)
theorem dL_law_902 : decode cL_law 902 = .ok (.iconst 0, 1) := dk_3 (dk_at dksL_law_32 20 rfl rfl)
theorem dL_law_903 : decode cL_law 903 = .ok (.ireturn, 1) := dk_172 (dk_at dksL_law_32 21 rfl rfl)
theorem dL_law_904 : decode cL_law 904 = .ok (.aload_n 1, 1) := dk_43 (dk_at dksL_law_32 22 rfl rfl)
theorem dL_law_905 : decode cL_law 905 = .ok (.aload_n 0, 1) := dk_42 (dk_at dksL_law_32 23 rfl rfl)
theorem dL_law_906 : decode cL_law 906 = .ok (.iload_n 3, 1) := dk_29 (dk_at dksL_law_33 0 rfl rfl)
theorem dL_law_907 : decode cL_law 907 = .ok (.iconst 1, 1) := dk_4 (dk_at dksL_law_33 1 rfl rfl)
theorem dL_law_908 : decode cL_law 908 = .ok (.iadd, 1) := dk_96 (dk_at dksL_law_33 2 rfl rfl)
theorem dL_law_909 : decode cL_law 909 = .ok (.iaload, 1) := dk_46 (dk_at dksL_law_33 3 rfl rfl)
theorem dL_law_910 : decode cL_law 910 = .ok (.invokevirtual 123, 3) := dk_182 0 123 (dk_at dksL_law_33 4 rfl rfl)
theorem dL_law_913 : decode cL_law 913 = .ok (.aload_n 2, 1) := dk_44 (dk_at dksL_law_33 7 rfl rfl)
theorem dL_law_914 : decode cL_law 914 = .ok (.aload_n 0, 1) := dk_42 (dk_at dksL_law_33 8 rfl rfl)
theorem dL_law_915 : decode cL_law 915 = .ok (.iload_n 3, 1) := dk_29 (dk_at dksL_law_33 9 rfl rfl)
theorem dL_law_916 : decode cL_law 916 = .ok (.iconst 1, 1) := dk_4 (dk_at dksL_law_33 10 rfl rfl)
theorem dL_law_917 : decode cL_law 917 = .ok (.iadd, 1) := dk_96 (dk_at dksL_law_33 11 rfl rfl)
theorem dL_law_918 : decode cL_law 918 = .ok (.iaload, 1) := dk_46 (dk_at dksL_law_33 12 rfl rfl)
theorem dL_law_919 : decode cL_law 919 = .ok (.invokevirtual 126, 3) := dk_182 0 126 (dk_at dksL_law_33 13 rfl rfl)
theorem dL_law_922 : decode cL_law 922 = .ok (.if_icmp .eq 329, 3) := dk_159 1 73 (dk_at dksL_law_33 16 rfl rfl)
theorem dL_law_925 : decode cL_law 925 = .ok (.iconst 0, 1) := dk_3 (dk_at dksL_law_33 19 rfl rfl)
theorem dL_law_926 : decode cL_law 926 = .ok (.ireturn, 1) := dk_172 (dk_at dksL_law_33 20 rfl rfl)
theorem dL_law_927 : decode cL_law 927 = .ok (.aload_n 1, 1) := dk_43 (dk_at dksL_law_33 21 rfl rfl)
theorem dL_law_928 : decode cL_law 928 = .ok (.invokevirtual 127, 3) := dk_182 0 127 (dk_at dksL_law_34 0 rfl rfl)
theorem dL_law_931 : decode cL_law 931 = .ok (.aload_n 2, 1) := dk_44 (dk_at dksL_law_34 3 rfl rfl)
theorem dL_law_932 : decode cL_law 932 = .ok (.invokevirtual 130, 3) := dk_182 0 130 (dk_at dksL_law_34 4 rfl rfl)
theorem dL_law_935 : decode cL_law 935 = .ok (.if_icmp .eq 316, 3) := dk_159 1 60 (dk_at dksL_law_34 7 rfl rfl)
theorem dL_law_938 : decode cL_law 938 = .ok (.iconst 0, 1) := dk_3 (dk_at dksL_law_34 10 rfl rfl)
theorem dL_law_939 : decode cL_law 939 = .ok (.ireturn, 1) := dk_172 (dk_at dksL_law_34 11 rfl rfl)
theorem dL_law_940 : decode cL_law 940 = .ok (.aload_n 1, 1) := dk_43 (dk_at dksL_law_34 12 rfl rfl)
theorem dL_law_941 : decode cL_law 941 = .ok (.aload_n 0, 1) := dk_42 (dk_at dksL_law_34 13 rfl rfl)
theorem dL_law_942 : decode cL_law 942 = .ok (.iload_n 3, 1) := dk_29 (dk_at dksL_law_34 14 rfl rfl)
theorem dL_law_943 : decode cL_law 943 = .ok (.iconst 1, 1) := dk_4 (dk_at dksL_law_34 15 rfl rfl)
theorem dL_law_944 : decode cL_law 944 = .ok (.iadd, 1) := dk_96 (dk_at dksL_law_34 16 rfl rfl)
theorem dL_law_945 : decode cL_law 945 = .ok (.iaload, 1) := dk_46 (dk_at dksL_law_34 17 rfl rfl)
theorem dL_law_946 : decode cL_law 946 = .ok (.aload_n 0, 1) := dk_42 (dk_at dksL_law_34 18 rfl rfl)
theorem dL_law_947 : decode cL_law 947 = .ok (.iload_n 3, 1) := dk_29 (dk_at dksL_law_34 19 rfl rfl)
theorem dL_law_948 : decode cL_law 948 = .ok (.iconst 2, 1) := dk_5 (dk_at dksL_law_34 20 rfl rfl)
theorem dL_law_949 : decode cL_law 949 = .ok (.iadd, 1) := dk_96 (dk_at dksL_law_34 21 rfl rfl)
theorem dL_law_950 : decode cL_law 950 = .ok (.iaload, 1) := dk_46 (dk_at dksL_law_34 22 rfl rfl)
theorem dL_law_951 : decode cL_law 951 = .ok (.aload_n 0, 1) := dk_42 (dk_at dksL_law_34 23 rfl rfl)
theorem dL_law_952 : decode cL_law 952 = .ok (.iload_n 3, 1) := dk_29 (dk_at dksL_law_35 0 rfl rfl)
theorem dL_law_953 : decode cL_law 953 = .ok (.iconst 3, 1) := dk_6 (dk_at dksL_law_35 1 rfl rfl)
theorem dL_law_954 : decode cL_law 954 = .ok (.iadd, 1) := dk_96 (dk_at dksL_law_35 2 rfl rfl)
theorem dL_law_955 : decode cL_law 955 = .ok (.iaload, 1) := dk_46 (dk_at dksL_law_35 3 rfl rfl)
theorem dL_law_956 : decode cL_law 956 = .ok (.invokevirtual 131, 3) := dk_182 0 131 (dk_at dksL_law_35 4 rfl rfl)
theorem dL_law_959 : decode cL_law 959 = .ok (.aload_n 2, 1) := dk_44 (dk_at dksL_law_35 7 rfl rfl)
theorem dL_law_960 : decode cL_law 960 = .ok (.aload_n 0, 1) := dk_42 (dk_at dksL_law_35 8 rfl rfl)
theorem dL_law_961 : decode cL_law 961 = .ok (.iload_n 3, 1) := dk_29 (dk_at dksL_law_35 9 rfl rfl)
theorem dL_law_962 : decode cL_law 962 = .ok (.iconst 1, 1) := dk_4 (dk_at dksL_law_35 10 rfl rfl)
theorem dL_law_963 : decode cL_law 963 = .ok (.iadd, 1) := dk_96 (dk_at dksL_law_35 11 rfl rfl)
theorem dL_law_964 : decode cL_law 964 = .ok (.iaload, 1) := dk_46 (dk_at dksL_law_35 12 rfl rfl)
theorem dL_law_965 : decode cL_law 965 = .ok (.aload_n 0, 1) := dk_42 (dk_at dksL_law_35 13 rfl rfl)
theorem dL_law_966 : decode cL_law 966 = .ok (.iload_n 3, 1) := dk_29 (dk_at dksL_law_35 14 rfl rfl)
theorem dL_law_967 : decode cL_law 967 = .ok (.iconst 2, 1) := dk_5 (dk_at dksL_law_35 15 rfl rfl)
theorem dL_law_968 : decode cL_law 968 = .ok (.iadd, 1) := dk_96 (dk_at dksL_law_35 16 rfl rfl)
theorem dL_law_969 : decode cL_law 969 = .ok (.iaload, 1) := dk_46 (dk_at dksL_law_35 17 rfl rfl)
theorem dL_law_970 : decode cL_law 970 = .ok (.aload_n 0, 1) := dk_42 (dk_at dksL_law_35 18 rfl rfl)
theorem dL_law_971 : decode cL_law 971 = .ok (.iload_n 3, 1) := dk_29 (dk_at dksL_law_35 19 rfl rfl)
theorem dL_law_972 : decode cL_law 972 = .ok (.iconst 3, 1) := dk_6 (dk_at dksL_law_35 20 rfl rfl)
theorem dL_law_973 : decode cL_law 973 = .ok (.iadd, 1) := dk_96 (dk_at dksL_law_35 21 rfl rfl)
theorem dL_law_974 : decode cL_law 974 = .ok (.iaload, 1) := dk_46 (dk_at dksL_law_35 22 rfl rfl)
theorem dL_law_975 : decode cL_law 975 = .ok (.invokevirtual 134, 3) := dk_182 0 134 (dk_at dksL_law_36 0 rfl rfl)
theorem dL_law_978 : decode cL_law 978 = .ok (.if_icmp .eq 273, 3) := dk_159 1 17 (dk_at dksL_law_36 3 rfl rfl)
theorem dL_law_981 : decode cL_law 981 = .ok (.iconst 0, 1) := dk_3 (dk_at dksL_law_36 6 rfl rfl)
theorem dL_law_982 : decode cL_law 982 = .ok (.ireturn, 1) := dk_172 (dk_at dksL_law_36 7 rfl rfl)
theorem dL_law_983 : decode cL_law 983 = .ok (.aload_n 1, 1) := dk_43 (dk_at dksL_law_36 8 rfl rfl)
theorem dL_law_984 : decode cL_law 984 = .ok (.aload_n 0, 1) := dk_42 (dk_at dksL_law_36 9 rfl rfl)
theorem dL_law_985 : decode cL_law 985 = .ok (.iload_n 3, 1) := dk_29 (dk_at dksL_law_36 10 rfl rfl)
theorem dL_law_986 : decode cL_law 986 = .ok (.iconst 1, 1) := dk_4 (dk_at dksL_law_36 11 rfl rfl)
theorem dL_law_987 : decode cL_law 987 = .ok (.iadd, 1) := dk_96 (dk_at dksL_law_36 12 rfl rfl)
theorem dL_law_988 : decode cL_law 988 = .ok (.iaload, 1) := dk_46 (dk_at dksL_law_36 13 rfl rfl)
theorem dL_law_989 : decode cL_law 989 = .ok (.aload_n 0, 1) := dk_42 (dk_at dksL_law_36 14 rfl rfl)
theorem dL_law_990 : decode cL_law 990 = .ok (.iload_n 3, 1) := dk_29 (dk_at dksL_law_36 15 rfl rfl)
theorem dL_law_991 : decode cL_law 991 = .ok (.iconst 2, 1) := dk_5 (dk_at dksL_law_36 16 rfl rfl)
theorem dL_law_992 : decode cL_law 992 = .ok (.iadd, 1) := dk_96 (dk_at dksL_law_36 17 rfl rfl)
theorem dL_law_993 : decode cL_law 993 = .ok (.iaload, 1) := dk_46 (dk_at dksL_law_36 18 rfl rfl)
theorem dL_law_994 : decode cL_law 994 = .ok (.aload_n 0, 1) := dk_42 (dk_at dksL_law_36 19 rfl rfl)
theorem dL_law_995 : decode cL_law 995 = .ok (.iload_n 3, 1) := dk_29 (dk_at dksL_law_36 20 rfl rfl)
theorem dL_law_996 : decode cL_law 996 = .ok (.iconst 3, 1) := dk_6 (dk_at dksL_law_36 21 rfl rfl)
theorem dL_law_997 : decode cL_law 997 = .ok (.iadd, 1) := dk_96 (dk_at dksL_law_36 22 rfl rfl)
theorem dL_law_998 : decode cL_law 998 = .ok (.iaload, 1) := dk_46 (dk_at dksL_law_36 23 rfl rfl)
theorem dL_law_999 : decode cL_law 999 = .ok (.i2l, 1) := dk_133 (dk_at dksL_law_37 0 rfl rfl)
theorem dL_law_1000 : decode cL_law 1000 = .ok (.bipush 32, 2) := dk_16 32 (dk_at dksL_law_37 1 rfl rfl)
theorem dL_law_1002 : decode cL_law 1002 = .ok (.lshl, 1) := dk_121 (dk_at dksL_law_37 3 rfl rfl)
theorem dL_law_1003 : decode cL_law 1003 = .ok (.aload_n 0, 1) := dk_42 (dk_at dksL_law_37 4 rfl rfl)
theorem dL_law_1004 : decode cL_law 1004 = .ok (.iload_n 3, 1) := dk_29 (dk_at dksL_law_37 5 rfl rfl)
theorem dL_law_1005 : decode cL_law 1005 = .ok (.iconst 4, 1) := dk_7 (dk_at dksL_law_37 6 rfl rfl)
theorem dL_law_1006 : decode cL_law 1006 = .ok (.iadd, 1) := dk_96 (dk_at dksL_law_37 7 rfl rfl)
theorem dL_law_1007 : decode cL_law 1007 = .ok (.iaload, 1) := dk_46 (dk_at dksL_law_37 8 rfl rfl)
theorem dL_law_1008 : decode cL_law 1008 = .ok (.i2l, 1) := dk_133 (dk_at dksL_law_37 9 rfl rfl)
theorem dL_law_1009 : decode cL_law 1009 = .ok (.ldc2_w 135, 3) := dk_20 0 135 (dk_at dksL_law_37 10 rfl rfl)
theorem dL_law_1012 : decode cL_law 1012 = .ok (.land, 1) := dk_127 (dk_at dksL_law_37 13 rfl rfl)
theorem dL_law_1013 : decode cL_law 1013 = .ok (.lor, 1) := dk_129 (dk_at dksL_law_37 14 rfl rfl)
theorem dL_law_1014 : decode cL_law 1014 = .ok (.invokevirtual 137, 3) := dk_182 0 137 (dk_at dksL_law_37 15 rfl rfl)
theorem dL_law_1017 : decode cL_law 1017 = .ok (.aload_n 2, 1) := dk_44 (dk_at dksL_law_37 18 rfl rfl)
theorem dL_law_1018 : decode cL_law 1018 = .ok (.aload_n 0, 1) := dk_42 (dk_at dksL_law_37 19 rfl rfl)
theorem dL_law_1019 : decode cL_law 1019 = .ok (.iload_n 3, 1) := dk_29 (dk_at dksL_law_37 20 rfl rfl)
theorem dL_law_1020 : decode cL_law 1020 = .ok (.iconst 1, 1) := dk_4 (dk_at dksL_law_37 21 rfl rfl)
theorem dL_law_1021 : decode cL_law 1021 = .ok (.iadd, 1) := dk_96 (dk_at dksL_law_37 22 rfl rfl)
theorem dL_law_1022 : decode cL_law 1022 = .ok (.iaload, 1) := dk_46 (dk_at dksL_law_37 23 rfl rfl)
theorem dL_law_1023 : decode cL_law 1023 = .ok (.aload_n 0, 1) := dk_42 (dk_at dksL_law_38 0 rfl rfl)
theorem dL_law_1024 : decode cL_law 1024 = .ok (.iload_n 3, 1) := dk_29 (dk_at dksL_law_38 1 rfl rfl)
theorem dL_law_1025 : decode cL_law 1025 = .ok (.iconst 2, 1) := dk_5 (dk_at dksL_law_38 2 rfl rfl)
theorem dL_law_1026 : decode cL_law 1026 = .ok (.iadd, 1) := dk_96 (dk_at dksL_law_38 3 rfl rfl)
theorem dL_law_1027 : decode cL_law 1027 = .ok (.iaload, 1) := dk_46 (dk_at dksL_law_38 4 rfl rfl)
theorem dL_law_1028 : decode cL_law 1028 = .ok (.aload_n 0, 1) := dk_42 (dk_at dksL_law_38 5 rfl rfl)
theorem dL_law_1029 : decode cL_law 1029 = .ok (.iload_n 3, 1) := dk_29 (dk_at dksL_law_38 6 rfl rfl)
theorem dL_law_1030 : decode cL_law 1030 = .ok (.iconst 3, 1) := dk_6 (dk_at dksL_law_38 7 rfl rfl)
theorem dL_law_1031 : decode cL_law 1031 = .ok (.iadd, 1) := dk_96 (dk_at dksL_law_38 8 rfl rfl)
theorem dL_law_1032 : decode cL_law 1032 = .ok (.iaload, 1) := dk_46 (dk_at dksL_law_38 9 rfl rfl)
theorem dL_law_1033 : decode cL_law 1033 = .ok (.i2l, 1) := dk_133 (dk_at dksL_law_38 10 rfl rfl)
theorem dL_law_1034 : decode cL_law 1034 = .ok (.bipush 32, 2) := dk_16 32 (dk_at dksL_law_38 11 rfl rfl)
theorem dL_law_1036 : decode cL_law 1036 = .ok (.lshl, 1) := dk_121 (dk_at dksL_law_38 13 rfl rfl)
theorem dL_law_1037 : decode cL_law 1037 = .ok (.aload_n 0, 1) := dk_42 (dk_at dksL_law_38 14 rfl rfl)
theorem dL_law_1038 : decode cL_law 1038 = .ok (.iload_n 3, 1) := dk_29 (dk_at dksL_law_38 15 rfl rfl)
theorem dL_law_1039 : decode cL_law 1039 = .ok (.iconst 4, 1) := dk_7 (dk_at dksL_law_38 16 rfl rfl)
theorem dL_law_1040 : decode cL_law 1040 = .ok (.iadd, 1) := dk_96 (dk_at dksL_law_38 17 rfl rfl)
theorem dL_law_1041 : decode cL_law 1041 = .ok (.iaload, 1) := dk_46 (dk_at dksL_law_38 18 rfl rfl)
theorem dL_law_1042 : decode cL_law 1042 = .ok (.i2l, 1) := dk_133 (dk_at dksL_law_38 19 rfl rfl)
theorem dL_law_1043 : decode cL_law 1043 = .ok (.ldc2_w 135, 3) := dk_20 0 135 (dk_at dksL_law_38 20 rfl rfl)
theorem dL_law_1046 : decode cL_law 1046 = .ok (.land, 1) := dk_127 (dk_at dksL_law_38 23 rfl rfl)
theorem dL_law_1047 : decode cL_law 1047 = .ok (.lor, 1) := dk_129 (dk_at dksL_law_39 0 rfl rfl)
theorem dL_law_1048 : decode cL_law 1048 = .ok (.invokevirtual 141, 3) := dk_182 0 141 (dk_at dksL_law_39 1 rfl rfl)
theorem dL_law_1051 : decode cL_law 1051 = .ok (.lcmp, 1) := dk_148 (dk_at dksL_law_39 4 rfl rfl)
theorem dL_law_1052 : decode cL_law 1052 = .ok (.ifCond .eq 199, 3) := dk_153 0 199 (dk_at dksL_law_39 5 rfl rfl)
theorem dL_law_1055 : decode cL_law 1055 = .ok (.iconst 0, 1) := dk_3 (dk_at dksL_law_39 8 rfl rfl)
theorem dL_law_1056 : decode cL_law 1056 = .ok (.ireturn, 1) := dk_172 (dk_at dksL_law_39 9 rfl rfl)
theorem dL_law_1057 : decode cL_law 1057 = .ok (.aload_n 1, 1) := dk_43 (dk_at dksL_law_39 10 rfl rfl)
theorem dL_law_1058 : decode cL_law 1058 = .ok (.aload_n 0, 1) := dk_42 (dk_at dksL_law_39 11 rfl rfl)
theorem dL_law_1059 : decode cL_law 1059 = .ok (.iload_n 3, 1) := dk_29 (dk_at dksL_law_39 12 rfl rfl)
theorem dL_law_1060 : decode cL_law 1060 = .ok (.iconst 1, 1) := dk_4 (dk_at dksL_law_39 13 rfl rfl)
theorem dL_law_1061 : decode cL_law 1061 = .ok (.iadd, 1) := dk_96 (dk_at dksL_law_39 14 rfl rfl)
theorem dL_law_1062 : decode cL_law 1062 = .ok (.iaload, 1) := dk_46 (dk_at dksL_law_39 15 rfl rfl)
theorem dL_law_1063 : decode cL_law 1063 = .ok (.aload_n 0, 1) := dk_42 (dk_at dksL_law_39 16 rfl rfl)
theorem dL_law_1064 : decode cL_law 1064 = .ok (.iload_n 3, 1) := dk_29 (dk_at dksL_law_39 17 rfl rfl)
theorem dL_law_1065 : decode cL_law 1065 = .ok (.iconst 2, 1) := dk_5 (dk_at dksL_law_39 18 rfl rfl)
theorem dL_law_1066 : decode cL_law 1066 = .ok (.iadd, 1) := dk_96 (dk_at dksL_law_39 19 rfl rfl)
theorem dL_law_1067 : decode cL_law 1067 = .ok (.iaload, 1) := dk_46 (dk_at dksL_law_39 20 rfl rfl)
theorem dL_law_1068 : decode cL_law 1068 = .ok (.aload_n 0, 1) := dk_42 (dk_at dksL_law_39 21 rfl rfl)
theorem dL_law_1069 : decode cL_law 1069 = .ok (.iload_n 3, 1) := dk_29 (dk_at dksL_law_39 22 rfl rfl)
theorem dL_law_1070 : decode cL_law 1070 = .ok (.iconst 3, 1) := dk_6 (dk_at dksL_law_39 23 rfl rfl)
theorem dL_law_1071 : decode cL_law 1071 = .ok (.iadd, 1) := dk_96 (dk_at dksL_law_40 0 rfl rfl)
theorem dL_law_1072 : decode cL_law 1072 = .ok (.iaload, 1) := dk_46 (dk_at dksL_law_40 1 rfl rfl)
theorem dL_law_1073 : decode cL_law 1073 = .ok (.aload_n 0, 1) := dk_42 (dk_at dksL_law_40 2 rfl rfl)
theorem dL_law_1074 : decode cL_law 1074 = .ok (.iload_n 3, 1) := dk_29 (dk_at dksL_law_40 3 rfl rfl)
theorem dL_law_1075 : decode cL_law 1075 = .ok (.iconst 4, 1) := dk_7 (dk_at dksL_law_40 4 rfl rfl)
theorem dL_law_1076 : decode cL_law 1076 = .ok (.iadd, 1) := dk_96 (dk_at dksL_law_40 5 rfl rfl)
theorem dL_law_1077 : decode cL_law 1077 = .ok (.iaload, 1) := dk_46 (dk_at dksL_law_40 6 rfl rfl)
theorem dL_law_1078 : decode cL_law 1078 = .ok (.aload_n 0, 1) := dk_42 (dk_at dksL_law_40 7 rfl rfl)
theorem dL_law_1079 : decode cL_law 1079 = .ok (.iload_n 3, 1) := dk_29 (dk_at dksL_law_40 8 rfl rfl)
theorem dL_law_1080 : decode cL_law 1080 = .ok (.iconst 5, 1) := dk_8 (dk_at dksL_law_40 9 rfl rfl)
theorem dL_law_1081 : decode cL_law 1081 = .ok (.iadd, 1) := dk_96 (dk_at dksL_law_40 10 rfl rfl)
theorem dL_law_1082 : decode cL_law 1082 = .ok (.iaload, 1) := dk_46 (dk_at dksL_law_40 11 rfl rfl)
theorem dL_law_1083 : decode cL_law 1083 = .ok (.invokevirtual 142, 3) := dk_182 0 142 (dk_at dksL_law_40 12 rfl rfl)
theorem dL_law_1086 : decode cL_law 1086 = .ok (.aload_n 2, 1) := dk_44 (dk_at dksL_law_40 15 rfl rfl)
theorem dL_law_1087 : decode cL_law 1087 = .ok (.aload_n 0, 1) := dk_42 (dk_at dksL_law_40 16 rfl rfl)
theorem dL_law_1088 : decode cL_law 1088 = .ok (.iload_n 3, 1) := dk_29 (dk_at dksL_law_40 17 rfl rfl)
theorem dL_law_1089 : decode cL_law 1089 = .ok (.iconst 1, 1) := dk_4 (dk_at dksL_law_40 18 rfl rfl)
theorem dL_law_1090 : decode cL_law 1090 = .ok (.iadd, 1) := dk_96 (dk_at dksL_law_40 19 rfl rfl)
theorem dL_law_1091 : decode cL_law 1091 = .ok (.iaload, 1) := dk_46 (dk_at dksL_law_40 20 rfl rfl)
theorem dL_law_1092 : decode cL_law 1092 = .ok (.aload_n 0, 1) := dk_42 (dk_at dksL_law_40 21 rfl rfl)
theorem dL_law_1093 : decode cL_law 1093 = .ok (.iload_n 3, 1) := dk_29 (dk_at dksL_law_40 22 rfl rfl)
theorem dL_law_1094 : decode cL_law 1094 = .ok (.iconst 2, 1) := dk_5 (dk_at dksL_law_40 23 rfl rfl)
theorem dL_law_1095 : decode cL_law 1095 = .ok (.iadd, 1) := dk_96 (dk_at dksL_law_41 0 rfl rfl)
theorem dL_law_1096 : decode cL_law 1096 = .ok (.iaload, 1) := dk_46 (dk_at dksL_law_41 1 rfl rfl)
theorem dL_law_1097 : decode cL_law 1097 = .ok (.aload_n 0, 1) := dk_42 (dk_at dksL_law_41 2 rfl rfl)
theorem dL_law_1098 : decode cL_law 1098 = .ok (.iload_n 3, 1) := dk_29 (dk_at dksL_law_41 3 rfl rfl)
theorem dL_law_1099 : decode cL_law 1099 = .ok (.iconst 3, 1) := dk_6 (dk_at dksL_law_41 4 rfl rfl)
theorem dL_law_1100 : decode cL_law 1100 = .ok (.iadd, 1) := dk_96 (dk_at dksL_law_41 5 rfl rfl)
theorem dL_law_1101 : decode cL_law 1101 = .ok (.iaload, 1) := dk_46 (dk_at dksL_law_41 6 rfl rfl)
theorem dL_law_1102 : decode cL_law 1102 = .ok (.aload_n 0, 1) := dk_42 (dk_at dksL_law_41 7 rfl rfl)
theorem dL_law_1103 : decode cL_law 1103 = .ok (.iload_n 3, 1) := dk_29 (dk_at dksL_law_41 8 rfl rfl)
theorem dL_law_1104 : decode cL_law 1104 = .ok (.iconst 4, 1) := dk_7 (dk_at dksL_law_41 9 rfl rfl)
theorem dL_law_1105 : decode cL_law 1105 = .ok (.iadd, 1) := dk_96 (dk_at dksL_law_41 10 rfl rfl)
theorem dL_law_1106 : decode cL_law 1106 = .ok (.iaload, 1) := dk_46 (dk_at dksL_law_41 11 rfl rfl)
theorem dL_law_1107 : decode cL_law 1107 = .ok (.aload_n 0, 1) := dk_42 (dk_at dksL_law_41 12 rfl rfl)
theorem dL_law_1108 : decode cL_law 1108 = .ok (.iload_n 3, 1) := dk_29 (dk_at dksL_law_41 13 rfl rfl)
theorem dL_law_1109 : decode cL_law 1109 = .ok (.iconst 5, 1) := dk_8 (dk_at dksL_law_41 14 rfl rfl)
theorem dL_law_1110 : decode cL_law 1110 = .ok (.iadd, 1) := dk_96 (dk_at dksL_law_41 15 rfl rfl)
theorem dL_law_1111 : decode cL_law 1111 = .ok (.iaload, 1) := dk_46 (dk_at dksL_law_41 16 rfl rfl)
theorem dL_law_1112 : decode cL_law 1112 = .ok (.invokevirtual 146, 3) := dk_182 0 146 (dk_at dksL_law_41 17 rfl rfl)
theorem dL_law_1115 : decode cL_law 1115 = .ok (.if_icmp .eq 136, 3) := dk_159 0 136 (dk_at dksL_law_41 20 rfl rfl)
theorem dL_law_1118 : decode cL_law 1118 = .ok (.iconst 0, 1) := dk_3 (dk_at dksL_law_41 23 rfl rfl)
theorem dL_law_1119 : decode cL_law 1119 = .ok (.ireturn, 1) := dk_172 (dk_at dksL_law_42 0 rfl rfl)
theorem dL_law_1120 : decode cL_law 1120 = .ok (.aload_n 1, 1) := dk_43 (dk_at dksL_law_42 1 rfl rfl)
theorem dL_law_1121 : decode cL_law 1121 = .ok (.aload_n 0, 1) := dk_42 (dk_at dksL_law_42 2 rfl rfl)
theorem dL_law_1122 : decode cL_law 1122 = .ok (.iload_n 3, 1) := dk_29 (dk_at dksL_law_42 3 rfl rfl)
theorem dL_law_1123 : decode cL_law 1123 = .ok (.iconst 1, 1) := dk_4 (dk_at dksL_law_42 4 rfl rfl)
theorem dL_law_1124 : decode cL_law 1124 = .ok (.iadd, 1) := dk_96 (dk_at dksL_law_42 5 rfl rfl)
theorem dL_law_1125 : decode cL_law 1125 = .ok (.iaload, 1) := dk_46 (dk_at dksL_law_42 6 rfl rfl)
theorem dL_law_1126 : decode cL_law 1126 = .ok (.invokevirtual 147, 3) := dk_182 0 147 (dk_at dksL_law_42 7 rfl rfl)
theorem dL_law_1129 : decode cL_law 1129 = .ok (.aload_n 2, 1) := dk_44 (dk_at dksL_law_42 10 rfl rfl)
theorem dL_law_1130 : decode cL_law 1130 = .ok (.aload_n 0, 1) := dk_42 (dk_at dksL_law_42 11 rfl rfl)
theorem dL_law_1131 : decode cL_law 1131 = .ok (.iload_n 3, 1) := dk_29 (dk_at dksL_law_42 12 rfl rfl)
theorem dL_law_1132 : decode cL_law 1132 = .ok (.iconst 1, 1) := dk_4 (dk_at dksL_law_42 13 rfl rfl)
theorem dL_law_1133 : decode cL_law 1133 = .ok (.iadd, 1) := dk_96 (dk_at dksL_law_42 14 rfl rfl)
theorem dL_law_1134 : decode cL_law 1134 = .ok (.iaload, 1) := dk_46 (dk_at dksL_law_42 15 rfl rfl)
theorem dL_law_1135 : decode cL_law 1135 = .ok (.invokevirtual 150, 3) := dk_182 0 150 (dk_at dksL_law_42 16 rfl rfl)
theorem dL_law_1138 : decode cL_law 1138 = .ok (.if_icmp .eq 113, 3) := dk_159 0 113 (dk_at dksL_law_42 19 rfl rfl)
theorem dL_law_1141 : decode cL_law 1141 = .ok (.iconst 0, 1) := dk_3 (dk_at dksL_law_42 22 rfl rfl)
theorem dL_law_1142 : decode cL_law 1142 = .ok (.ireturn, 1) := dk_172 (dk_at dksL_law_42 23 rfl rfl)
theorem dL_law_1143 : decode cL_law 1143 = .ok (.aload_n 1, 1) := dk_43 (dk_at dksL_law_43 0 rfl rfl)
theorem dL_law_1144 : decode cL_law 1144 = .ok (.aload_n 0, 1) := dk_42 (dk_at dksL_law_43 1 rfl rfl)
theorem dL_law_1145 : decode cL_law 1145 = .ok (.iload_n 3, 1) := dk_29 (dk_at dksL_law_43 2 rfl rfl)
theorem dL_law_1146 : decode cL_law 1146 = .ok (.iconst 1, 1) := dk_4 (dk_at dksL_law_43 3 rfl rfl)
theorem dL_law_1147 : decode cL_law 1147 = .ok (.iadd, 1) := dk_96 (dk_at dksL_law_43 4 rfl rfl)
theorem dL_law_1148 : decode cL_law 1148 = .ok (.iaload, 1) := dk_46 (dk_at dksL_law_43 5 rfl rfl)
theorem dL_law_1149 : decode cL_law 1149 = .ok (.invokevirtual 151, 3) := dk_182 0 151 (dk_at dksL_law_43 6 rfl rfl)
theorem dL_law_1152 : decode cL_law 1152 = .ok (.aload_n 2, 1) := dk_44 (dk_at dksL_law_43 9 rfl rfl)
theorem dL_law_1153 : decode cL_law 1153 = .ok (.aload_n 0, 1) := dk_42 (dk_at dksL_law_43 10 rfl rfl)
theorem dL_law_1154 : decode cL_law 1154 = .ok (.iload_n 3, 1) := dk_29 (dk_at dksL_law_43 11 rfl rfl)
theorem dL_law_1155 : decode cL_law 1155 = .ok (.iconst 1, 1) := dk_4 (dk_at dksL_law_43 12 rfl rfl)
theorem dL_law_1156 : decode cL_law 1156 = .ok (.iadd, 1) := dk_96 (dk_at dksL_law_43 13 rfl rfl)
theorem dL_law_1157 : decode cL_law 1157 = .ok (.iaload, 1) := dk_46 (dk_at dksL_law_43 14 rfl rfl)
theorem dL_law_1158 : decode cL_law 1158 = .ok (.invokevirtual 154, 3) := dk_182 0 154 (dk_at dksL_law_43 15 rfl rfl)
theorem dL_law_1161 : decode cL_law 1161 = .ok (.if_icmp .eq 90, 3) := dk_159 0 90 (dk_at dksL_law_43 18 rfl rfl)
theorem dL_law_1164 : decode cL_law 1164 = .ok (.iconst 0, 1) := dk_3 (dk_at dksL_law_43 21 rfl rfl)
theorem dL_law_1165 : decode cL_law 1165 = .ok (.ireturn, 1) := dk_172 (dk_at dksL_law_43 22 rfl rfl)
theorem dL_law_1166 : decode cL_law 1166 = .ok (.aload_n 1, 1) := dk_43 (dk_at dksL_law_43 23 rfl rfl)
theorem dL_law_1167 : decode cL_law 1167 = .ok (.invokevirtual 155, 3) := dk_182 0 155 (dk_at dksL_law_44 0 rfl rfl)
theorem dL_law_1170 : decode cL_law 1170 = .ok (.aload_n 2, 1) := dk_44 (dk_at dksL_law_44 3 rfl rfl)
theorem dL_law_1171 : decode cL_law 1171 = .ok (.invokevirtual 158, 3) := dk_182 0 158 (dk_at dksL_law_44 4 rfl rfl)
theorem dL_law_1174 : decode cL_law 1174 = .ok (.if_icmp .eq 77, 3) := dk_159 0 77 (dk_at dksL_law_44 7 rfl rfl)
theorem dL_law_1177 : decode cL_law 1177 = .ok (.iconst 0, 1) := dk_3 (dk_at dksL_law_44 10 rfl rfl)
theorem dL_law_1178 : decode cL_law 1178 = .ok (.ireturn, 1) := dk_172 (dk_at dksL_law_44 11 rfl rfl)
theorem dL_law_1179 : decode cL_law 1179 = .ok (.aload_n 1, 1) := dk_43 (dk_at dksL_law_44 12 rfl rfl)
theorem dL_law_1180 : decode cL_law 1180 = .ok (.invokevirtual 159, 3) := dk_182 0 159 (dk_at dksL_law_44 13 rfl rfl)
theorem dL_law_1183 : decode cL_law 1183 = .ok (.aload_n 2, 1) := dk_44 (dk_at dksL_law_44 16 rfl rfl)
theorem dL_law_1184 : decode cL_law 1184 = .ok (.invokevirtual 162, 3) := dk_182 0 162 (dk_at dksL_law_44 17 rfl rfl)
theorem dL_law_1187 : decode cL_law 1187 = .ok (.if_icmp .eq 64, 3) := dk_159 0 64 (dk_at dksL_law_44 20 rfl rfl)
theorem dL_law_1190 : decode cL_law 1190 = .ok (.iconst 0, 1) := dk_3 (dk_at dksL_law_44 23 rfl rfl)
theorem dL_law_1191 : decode cL_law 1191 = .ok (.ireturn, 1) := dk_172 (dk_at dksL_law_45 0 rfl rfl)
theorem dL_law_1192 : decode cL_law 1192 = .ok (.aload_n 1, 1) := dk_43 (dk_at dksL_law_45 1 rfl rfl)
theorem dL_law_1193 : decode cL_law 1193 = .ok (.invokevirtual 163, 3) := dk_182 0 163 (dk_at dksL_law_45 2 rfl rfl)
theorem dL_law_1196 : decode cL_law 1196 = .ok (.aload_n 2, 1) := dk_44 (dk_at dksL_law_45 5 rfl rfl)
theorem dL_law_1197 : decode cL_law 1197 = .ok (.invokevirtual 166, 3) := dk_182 0 166 (dk_at dksL_law_45 6 rfl rfl)
theorem dL_law_1200 : decode cL_law 1200 = .ok (.if_icmp .eq 51, 3) := dk_159 0 51 (dk_at dksL_law_45 9 rfl rfl)
theorem dL_law_1203 : decode cL_law 1203 = .ok (.iconst 0, 1) := dk_3 (dk_at dksL_law_45 12 rfl rfl)
theorem dL_law_1204 : decode cL_law 1204 = .ok (.ireturn, 1) := dk_172 (dk_at dksL_law_45 13 rfl rfl)
theorem dL_law_1205 : decode cL_law 1205 = .ok (.aload_n 1, 1) := dk_43 (dk_at dksL_law_45 14 rfl rfl)
theorem dL_law_1206 : decode cL_law 1206 = .ok (.aload_n 0, 1) := dk_42 (dk_at dksL_law_45 15 rfl rfl)
theorem dL_law_1207 : decode cL_law 1207 = .ok (.iload_n 3, 1) := dk_29 (dk_at dksL_law_45 16 rfl rfl)
theorem dL_law_1208 : decode cL_law 1208 = .ok (.iconst 1, 1) := dk_4 (dk_at dksL_law_45 17 rfl rfl)
theorem dL_law_1209 : decode cL_law 1209 = .ok (.iadd, 1) := dk_96 (dk_at dksL_law_45 18 rfl rfl)
theorem dL_law_1210 : decode cL_law 1210 = .ok (.iaload, 1) := dk_46 (dk_at dksL_law_45 19 rfl rfl)
theorem dL_law_1211 : decode cL_law 1211 = .ok (.invokevirtual 167, 3) := dk_182 0 167 (dk_at dksL_law_45 20 rfl rfl)
theorem dL_law_1214 : decode cL_law 1214 = .ok (.aload_n 2, 1) := dk_44 (dk_at dksL_law_45 23 rfl rfl)
theorem dL_law_1215 : decode cL_law 1215 = .ok (.aload_n 0, 1) := dk_42 (dk_at dksL_law_46 0 rfl rfl)
theorem dL_law_1216 : decode cL_law 1216 = .ok (.iload_n 3, 1) := dk_29 (dk_at dksL_law_46 1 rfl rfl)
theorem dL_law_1217 : decode cL_law 1217 = .ok (.iconst 1, 1) := dk_4 (dk_at dksL_law_46 2 rfl rfl)
theorem dL_law_1218 : decode cL_law 1218 = .ok (.iadd, 1) := dk_96 (dk_at dksL_law_46 3 rfl rfl)
theorem dL_law_1219 : decode cL_law 1219 = .ok (.iaload, 1) := dk_46 (dk_at dksL_law_46 4 rfl rfl)
theorem dL_law_1220 : decode cL_law 1220 = .ok (.invokevirtual 170, 3) := dk_182 0 170 (dk_at dksL_law_46 5 rfl rfl)
theorem dL_law_1223 : decode cL_law 1223 = .ok (.if_icmp .eq 28, 3) := dk_159 0 28 (dk_at dksL_law_46 8 rfl rfl)
theorem dL_law_1226 : decode cL_law 1226 = .ok (.iconst 0, 1) := dk_3 (dk_at dksL_law_46 11 rfl rfl)
theorem dL_law_1227 : decode cL_law 1227 = .ok (.ireturn, 1) := dk_172 (dk_at dksL_law_46 12 rfl rfl)
theorem dL_law_1228 : decode cL_law 1228 = .ok (.aload_n 1, 1) := dk_43 (dk_at dksL_law_46 13 rfl rfl)
theorem dL_law_1229 : decode cL_law 1229 = .ok (.aload_n 0, 1) := dk_42 (dk_at dksL_law_46 14 rfl rfl)
theorem dL_law_1230 : decode cL_law 1230 = .ok (.iload_n 3, 1) := dk_29 (dk_at dksL_law_46 15 rfl rfl)
theorem dL_law_1231 : decode cL_law 1231 = .ok (.iconst 1, 1) := dk_4 (dk_at dksL_law_46 16 rfl rfl)
theorem dL_law_1232 : decode cL_law 1232 = .ok (.iadd, 1) := dk_96 (dk_at dksL_law_46 17 rfl rfl)
theorem dL_law_1233 : decode cL_law 1233 = .ok (.iaload, 1) := dk_46 (dk_at dksL_law_46 18 rfl rfl)
theorem dL_law_1234 : decode cL_law 1234 = .ok (.invokevirtual 171, 3) := dk_182 0 171 (dk_at dksL_law_46 19 rfl rfl)
theorem dL_law_1237 : decode cL_law 1237 = .ok (.aload_n 2, 1) := dk_44 (dk_at dksL_law_46 22 rfl rfl)
theorem dL_law_1238 : decode cL_law 1238 = .ok (.aload_n 0, 1) := dk_42 (dk_at dksL_law_46 23 rfl rfl)
theorem dL_law_1239 : decode cL_law 1239 = .ok (.iload_n 3, 1) := dk_29 (dk_at dksL_law_47 0 rfl rfl)
theorem dL_law_1240 : decode cL_law 1240 = .ok (.iconst 1, 1) := dk_4 (dk_at dksL_law_47 1 rfl rfl)
theorem dL_law_1241 : decode cL_law 1241 = .ok (.iadd, 1) := dk_96 (dk_at dksL_law_47 2 rfl rfl)
theorem dL_law_1242 : decode cL_law 1242 = .ok (.iaload, 1) := dk_46 (dk_at dksL_law_47 3 rfl rfl)
theorem dL_law_1243 : decode cL_law 1243 = .ok (.invokevirtual 174, 3) := dk_182 0 174 (dk_at dksL_law_47 4 rfl rfl)
theorem dL_law_1246 : decode cL_law 1246 = .ok (.if_icmp .eq 5, 3) := dk_159 0 5 (dk_at dksL_law_47 7 rfl rfl)
theorem dL_law_1249 : decode cL_law 1249 = .ok (.iconst 0, 1) := dk_3 (dk_at dksL_law_47 10 rfl rfl)
theorem dL_law_1250 : decode cL_law 1250 = .ok (.ireturn, 1) := dk_172 (dk_at dksL_law_47 11 rfl rfl)
theorem dL_law_1251 : decode cL_law 1251 = .ok (.iinc 3 6, 3) := dk_132 3 6 (dk_at dksL_law_47 12 rfl rfl)
theorem dL_law_1254 : decode cL_law 1254 = .ok (.goto (-1236), 3) := dk_167 251 44 (dk_at dksL_law_47 15 rfl rfl)
theorem dL_law_1257 : decode cL_law 1257 = .ok (.iconst 1, 1) := dk_4 (dk_at dksL_law_47 18 rfl rfl)
theorem dL_law_1258 : decode cL_law 1258 = .ok (.ireturn, 1) := dk_172 (dk_at dksL_law_47 19 rfl rfl)

theorem q66 : (Jvm.Cond.initialized "SmokeLeansLaw") ∈ lw_all := lw_g (lw_at lw_m1 0 rfl) rfl
set_option maxRecDepth 100000
theorem q89 : (Jvm.Cond.classLink "SmokeLeansLaw" (7 : Nat) "SmokeLeans") ∈ lw_all := lw_g (lw_at lw_m1 23 rfl) rfl
theorem q91 : (Jvm.Cond.methodLink "SmokeLeansLaw" (9 : Nat) ({ cls := "SmokeLeans", name := "<init>", desc := "()V" } : Jvm.MethodName)) ∈ lw_all := lw_g (lw_at lw_m1 25 rfl) rfl
theorem q202 : (Jvm.Cond.methodLink "SmokeLeansLaw" (13 : Nat) ({ cls := "SmokeLeans", name := "room", desc := "()I" } : Jvm.MethodName)) ∈ lw_all := lw_g (lw_at lw_m1 136 rfl) rfl
theorem q286 : (Jvm.Cond.methodLink "SmokeLeansLaw" (18 : Nat) ({ cls := "SmokeLeans", name := "gap", desc := "(IIII)I" } : Jvm.MethodName)) ∈ lw_all := lw_g (lw_at lw_m1 220 rfl) rfl
theorem q419 : (Jvm.Cond.methodLink "SmokeLeansLaw" (23 : Nat) ({ cls := "SmokeLeans", name := "of", desc := "(II)I" } : Jvm.MethodName)) ∈ lw_all := lw_g (lw_at lw_m2 113 rfl) rfl
theorem q510 : (Jvm.Cond.methodLink "SmokeLeansLaw" (28 : Nat) ({ cls := "SmokeLeans", name := "width", desc := "(II)I" } : Jvm.MethodName)) ∈ lw_all := lw_g (lw_at lw_m2 204 rfl) rfl
theorem q514 : (Jvm.Cond.methodLink "SmokeLeansLaw" (32 : Nat) ({ cls := "SmokeLeans", name := "shut", desc := "(IZ)I" } : Jvm.MethodName)) ∈ lw_all := lw_g (lw_at lw_m2 208 rfl) rfl
theorem q523 : (Jvm.Cond.methodLink "SmokeLeansLaw" (37 : Nat) ({ cls := "SmokeLeans", name := "as", desc := "(II)I" } : Jvm.MethodName)) ∈ lw_all := lw_g (lw_at lw_m2 217 rfl) rfl
theorem q541 : (Jvm.Cond.methodLink "SmokeLeansLaw" (41 : Nat) ({ cls := "SmokeLeans", name := "night", desc := "(II)I" } : Jvm.MethodName)) ∈ lw_all := lw_g (lw_at lw_m2 235 rfl) rfl
theorem q552 : (Jvm.Cond.methodLink "SmokeLeansLaw" (45 : Nat) ({ cls := "SmokeLeans", name := "feed", desc := "(II)I" } : Jvm.MethodName)) ∈ lw_all := lw_g (lw_at lw_m3 6 rfl) rfl
theorem q557 : (Jvm.Cond.methodLink "SmokeLeansLaw" (49 : Nat) ({ cls := "SmokeLeans", name := "wipe", desc := "()I" } : Jvm.MethodName)) ∈ lw_all := lw_g (lw_at lw_m3 11 rfl) rfl
theorem q561 : (Jvm.Cond.methodLink "SmokeLeansLaw" (53 : Nat) ({ cls := "SmokeLeans", name := "house", desc := "()I" } : Jvm.MethodName)) ∈ lw_all := lw_g (lw_at lw_m3 15 rfl) rfl
theorem q728 : (Jvm.Cond.methodLink "SmokeLeansLaw" (57 : Nat) ({ cls := "SmokeLeans", name := "pressure", desc := "(I)I" } : Jvm.MethodName)) ∈ lw_all := lw_g (lw_at lw_m3 182 rfl) rfl
theorem q753 : (Jvm.Cond.methodLink "SmokeLeansLaw" (62 : Nat) ({ cls := "SmokeLeans", name := "flow", desc := "(I)I" } : Jvm.MethodName)) ∈ lw_all := lw_g (lw_at lw_m3 207 rfl) rfl
theorem q761 : (Jvm.Cond.methodLink "SmokeLeansLaw" (66 : Nat) ({ cls := "SmokeLeans", name := "lean", desc := "(I)I" } : Jvm.MethodName)) ∈ lw_all := lw_g (lw_at lw_m3 215 rfl) rfl
theorem q776 : (Jvm.Cond.methodLink "SmokeLeansLaw" (70 : Nat) ({ cls := "SmokeLeans", name := "rounds", desc := "()I" } : Jvm.MethodName)) ∈ lw_all := lw_g (lw_at lw_m3 230 rfl) rfl
theorem q784 : (Jvm.Cond.methodLink "SmokeLeansLaw" (74 : Nat) ({ cls := "SmokeLeans", name := "rest", desc := "(I)I" } : Jvm.MethodName)) ∈ lw_all := lw_g (lw_at lw_m3 238 rfl) rfl
theorem q788 : (Jvm.Cond.methodLink "SmokeLeansLaw" (78 : Nat) ({ cls := "SmokeLeans", name := "air", desc := "(I)I" } : Jvm.MethodName)) ∈ lw_all := lw_g (lw_at lw_m4 2 rfl) rfl
theorem q813 : (Jvm.Cond.methodLink "SmokeLeansLaw" (82 : Nat) ({ cls := "SmokeLeans", name := "seed", desc := "(I)I" } : Jvm.MethodName)) ∈ lw_all := lw_g (lw_at lw_m4 27 rfl) rfl
theorem q817 : (Jvm.Cond.methodLink "SmokeLeansLaw" (86 : Nat) ({ cls := "SmokeLeans", name := "stick", desc := "(I)I" } : Jvm.MethodName)) ∈ lw_all := lw_g (lw_at lw_m4 31 rfl) rfl
theorem q832 : (Jvm.Cond.methodLink "SmokeLeansLaw" (90 : Nat) ({ cls := "SmokeLeans", name := "sticks", desc := "(I)I" } : Jvm.MethodName)) ∈ lw_all := lw_g (lw_at lw_m4 46 rfl) rfl
theorem q853 : (Jvm.Cond.methodLink "SmokeLeansLaw" (94 : Nat) ({ cls := "SmokeLeans", name := "widths", desc := "(III)I" } : Jvm.MethodName)) ∈ lw_all := lw_g (lw_at lw_m4 67 rfl) rfl
theorem q862 : (Jvm.Cond.methodLink "SmokeLeansLaw" (99 : Nat) ({ cls := "SmokeLeans", name := "most", desc := "()I" } : Jvm.MethodName)) ∈ lw_all := lw_g (lw_at lw_m4 76 rfl) rfl
theorem q867 : (Jvm.Cond.methodLink "SmokeLeansLaw" (103 : Nat) ({ cls := "SmokeLeans", name := "stop", desc := "(IIII)I" } : Jvm.MethodName)) ∈ lw_all := lw_g (lw_at lw_m4 81 rfl) rfl
theorem q898 : (Jvm.Cond.methodLink "SmokeLeansLaw" (107 : Nat) ({ cls := "SmokeLeans", name := "order", desc := "(I)I" } : Jvm.MethodName)) ∈ lw_all := lw_g (lw_at lw_m4 112 rfl) rfl
theorem q911 : (Jvm.Cond.methodLink "SmokeLeansLaw" (111 : Nat) ({ cls := "SmokeLeans", name := "saved", desc := "(I)I" } : Jvm.MethodName)) ∈ lw_all := lw_g (lw_at lw_m4 125 rfl) rfl
theorem q916 : (Jvm.Cond.methodLink "SmokeLeansLaw" (115 : Nat) ({ cls := "SmokeLeans", name := "line", desc := "()I" } : Jvm.MethodName)) ∈ lw_all := lw_g (lw_at lw_m4 130 rfl) rfl
theorem q920 : (Jvm.Cond.methodLink "SmokeLeansLaw" (119 : Nat) ({ cls := "SmokeLeans", name := "alone", desc := "(II)I" } : Jvm.MethodName)) ∈ lw_all := lw_g (lw_at lw_m4 134 rfl) rfl
theorem q924 : (Jvm.Cond.methodLink "SmokeLeansLaw" (123 : Nat) ({ cls := "SmokeLeans", name := "turns", desc := "(I)I" } : Jvm.MethodName)) ∈ lw_all := lw_g (lw_at lw_m4 138 rfl) rfl
theorem q928 : (Jvm.Cond.methodLink "SmokeLeansLaw" (127 : Nat) ({ cls := "SmokeLeans", name := "worst", desc := "()I" } : Jvm.MethodName)) ∈ lw_all := lw_g (lw_at lw_m4 142 rfl) rfl
theorem q932 : (Jvm.Cond.methodLink "SmokeLeansLaw" (147 : Nat) ({ cls := "SmokeLeans", name := "lays", desc := "(I)I" } : Jvm.MethodName)) ∈ lw_all := lw_g (lw_at lw_m4 146 rfl) rfl
theorem q939 : (Jvm.Cond.methodLink "SmokeLeansLaw" (151 : Nat) ({ cls := "SmokeLeans", name := "read", desc := "(I)I" } : Jvm.MethodName)) ∈ lw_all := lw_g (lw_at lw_m4 153 rfl) rfl
theorem q943 : (Jvm.Cond.methodLink "SmokeLeansLaw" (131 : Nat) ({ cls := "SmokeLeans", name := "sheet", desc := "(III)I" } : Jvm.MethodName)) ∈ lw_all := lw_g (lw_at lw_m4 157 rfl) rfl
theorem q952 : (Jvm.Cond.methodLink "SmokeLeansLaw" (137 : Nat) ({ cls := "SmokeLeans", name := "write", desc := "(IIJ)J" } : Jvm.MethodName)) ∈ lw_all := lw_g (lw_at lw_m4 166 rfl) rfl
theorem q960 : (Jvm.Cond.methodLink "SmokeLeansLaw" (142 : Nat) ({ cls := "SmokeLeans", name := "copy", desc := "(IIIII)I" } : Jvm.MethodName)) ∈ lw_all := lw_g (lw_at lw_m4 174 rfl) rfl
theorem q968 : (Jvm.Cond.methodLink "SmokeLeansLaw" (155 : Nat) ({ cls := "SmokeLeans", name := "image", desc := "()I" } : Jvm.MethodName)) ∈ lw_all := lw_g (lw_at lw_m4 182 rfl) rfl
theorem q972 : (Jvm.Cond.methodLink "SmokeLeansLaw" (159 : Nat) ({ cls := "SmokeLeans", name := "undo", desc := "()I" } : Jvm.MethodName)) ∈ lw_all := lw_g (lw_at lw_m4 186 rfl) rfl
theorem q976 : (Jvm.Cond.methodLink "SmokeLeansLaw" (163 : Nat) ({ cls := "SmokeLeans", name := "tear", desc := "()I" } : Jvm.MethodName)) ∈ lw_all := lw_g (lw_at lw_m4 190 rfl) rfl
theorem q980 : (Jvm.Cond.methodLink "SmokeLeansLaw" (167 : Nat) ({ cls := "SmokeLeans", name := "count", desc := "(I)I" } : Jvm.MethodName)) ∈ lw_all := lw_g (lw_at lw_m4 194 rfl) rfl
theorem q988 : (Jvm.Cond.methodLink "SmokeLeansLaw" (171 : Nat) ({ cls := "SmokeLeans", name := "status", desc := "(I)I" } : Jvm.MethodName)) ∈ lw_all := lw_g (lw_at lw_m4 202 rfl) rfl
theorem q994 : (Jvm.Cond.classLink "SmokeLeansLaw" (10 : Nat) "SmokeLeansModel") ∈ lw_all := lw_g (lw_at lw_m4 208 rfl) rfl
theorem q996 : (Jvm.Cond.methodLink "SmokeLeansLaw" (12 : Nat) ({ cls := "SmokeLeansModel", name := "<init>", desc := "()V" } : Jvm.MethodName)) ∈ lw_all := lw_g (lw_at lw_m4 210 rfl) rfl
theorem q1070 : (Jvm.Cond.methodLink "SmokeLeansLaw" (17 : Nat) ({ cls := "SmokeLeansModel", name := "room", desc := "()I" } : Jvm.MethodName)) ∈ lw_all := lw_g (lw_at lw_m5 44 rfl) rfl
theorem q1084 : (Jvm.Cond.methodLink "SmokeLeansLaw" (22 : Nat) ({ cls := "SmokeLeansModel", name := "gap", desc := "(IIII)I" } : Jvm.MethodName)) ∈ lw_all := lw_g (lw_at lw_m5 58 rfl) rfl
theorem q1101 : (Jvm.Cond.methodLink "SmokeLeansLaw" (27 : Nat) ({ cls := "SmokeLeansModel", name := "of", desc := "(II)I" } : Jvm.MethodName)) ∈ lw_all := lw_g (lw_at lw_m5 75 rfl) rfl
theorem q1122 : (Jvm.Cond.methodLink "SmokeLeansLaw" (31 : Nat) ({ cls := "SmokeLeansModel", name := "width", desc := "(II)I" } : Jvm.MethodName)) ∈ lw_all := lw_g (lw_at lw_m5 96 rfl) rfl
theorem q1127 : (Jvm.Cond.methodLink "SmokeLeansLaw" (36 : Nat) ({ cls := "SmokeLeansModel", name := "shut", desc := "(IZ)I" } : Jvm.MethodName)) ∈ lw_all := lw_g (lw_at lw_m5 101 rfl) rfl
theorem q1131 : (Jvm.Cond.methodLink "SmokeLeansLaw" (40 : Nat) ({ cls := "SmokeLeansModel", name := "as", desc := "(II)I" } : Jvm.MethodName)) ∈ lw_all := lw_g (lw_at lw_m5 105 rfl) rfl
theorem q1140 : (Jvm.Cond.methodLink "SmokeLeansLaw" (44 : Nat) ({ cls := "SmokeLeansModel", name := "night", desc := "(II)I" } : Jvm.MethodName)) ∈ lw_all := lw_g (lw_at lw_m5 114 rfl) rfl
theorem q1150 : (Jvm.Cond.methodLink "SmokeLeansLaw" (48 : Nat) ({ cls := "SmokeLeansModel", name := "feed", desc := "(II)I" } : Jvm.MethodName)) ∈ lw_all := lw_g (lw_at lw_m5 124 rfl) rfl
theorem q1155 : (Jvm.Cond.methodLink "SmokeLeansLaw" (52 : Nat) ({ cls := "SmokeLeansModel", name := "wipe", desc := "()I" } : Jvm.MethodName)) ∈ lw_all := lw_g (lw_at lw_m5 129 rfl) rfl
theorem q1159 : (Jvm.Cond.methodLink "SmokeLeansLaw" (56 : Nat) ({ cls := "SmokeLeansModel", name := "house", desc := "()I" } : Jvm.MethodName)) ∈ lw_all := lw_g (lw_at lw_m5 133 rfl) rfl
theorem q1229 : (Jvm.Cond.methodLink "SmokeLeansLaw" (61 : Nat) ({ cls := "SmokeLeansModel", name := "pressure", desc := "(I)I" } : Jvm.MethodName)) ∈ lw_all := lw_g (lw_at lw_m5 203 rfl) rfl
theorem q1245 : (Jvm.Cond.methodLink "SmokeLeansLaw" (65 : Nat) ({ cls := "SmokeLeansModel", name := "flow", desc := "(I)I" } : Jvm.MethodName)) ∈ lw_all := lw_g (lw_at lw_m5 219 rfl) rfl
theorem q1253 : (Jvm.Cond.methodLink "SmokeLeansLaw" (69 : Nat) ({ cls := "SmokeLeansModel", name := "lean", desc := "(I)I" } : Jvm.MethodName)) ∈ lw_all := lw_g (lw_at lw_m5 227 rfl) rfl
theorem q1264 : (Jvm.Cond.methodLink "SmokeLeansLaw" (73 : Nat) ({ cls := "SmokeLeansModel", name := "rounds", desc := "()I" } : Jvm.MethodName)) ∈ lw_all := lw_g (lw_at lw_m5 238 rfl) rfl
theorem q1268 : (Jvm.Cond.methodLink "SmokeLeansLaw" (77 : Nat) ({ cls := "SmokeLeansModel", name := "rest", desc := "(I)I" } : Jvm.MethodName)) ∈ lw_all := lw_g (lw_at lw_m6 2 rfl) rfl
theorem q1272 : (Jvm.Cond.methodLink "SmokeLeansLaw" (81 : Nat) ({ cls := "SmokeLeansModel", name := "air", desc := "(I)I" } : Jvm.MethodName)) ∈ lw_all := lw_g (lw_at lw_m6 6 rfl) rfl
theorem q1289 : (Jvm.Cond.methodLink "SmokeLeansLaw" (85 : Nat) ({ cls := "SmokeLeansModel", name := "seed", desc := "(I)I" } : Jvm.MethodName)) ∈ lw_all := lw_g (lw_at lw_m6 23 rfl) rfl
theorem q1293 : (Jvm.Cond.methodLink "SmokeLeansLaw" (89 : Nat) ({ cls := "SmokeLeansModel", name := "stick", desc := "(I)I" } : Jvm.MethodName)) ∈ lw_all := lw_g (lw_at lw_m6 27 rfl) rfl
theorem q1302 : (Jvm.Cond.methodLink "SmokeLeansLaw" (98 : Nat) ({ cls := "SmokeLeansModel", name := "widths", desc := "(III)I" } : Jvm.MethodName)) ∈ lw_all := lw_g (lw_at lw_m6 36 rfl) rfl
theorem q1309 : (Jvm.Cond.methodLink "SmokeLeansLaw" (102 : Nat) ({ cls := "SmokeLeansModel", name := "most", desc := "()I" } : Jvm.MethodName)) ∈ lw_all := lw_g (lw_at lw_m6 43 rfl) rfl
theorem q1313 : (Jvm.Cond.methodLink "SmokeLeansLaw" (106 : Nat) ({ cls := "SmokeLeansModel", name := "stop", desc := "(IIII)I" } : Jvm.MethodName)) ∈ lw_all := lw_g (lw_at lw_m6 47 rfl) rfl
theorem q1334 : (Jvm.Cond.methodLink "SmokeLeansLaw" (110 : Nat) ({ cls := "SmokeLeansModel", name := "order", desc := "(I)I" } : Jvm.MethodName)) ∈ lw_all := lw_g (lw_at lw_m6 68 rfl) rfl
theorem q1347 : (Jvm.Cond.methodLink "SmokeLeansLaw" (114 : Nat) ({ cls := "SmokeLeansModel", name := "saved", desc := "(I)I" } : Jvm.MethodName)) ∈ lw_all := lw_g (lw_at lw_m6 81 rfl) rfl
theorem q1352 : (Jvm.Cond.methodLink "SmokeLeansLaw" (118 : Nat) ({ cls := "SmokeLeansModel", name := "line", desc := "()I" } : Jvm.MethodName)) ∈ lw_all := lw_g (lw_at lw_m6 86 rfl) rfl
theorem q1356 : (Jvm.Cond.methodLink "SmokeLeansLaw" (122 : Nat) ({ cls := "SmokeLeansModel", name := "alone", desc := "(II)I" } : Jvm.MethodName)) ∈ lw_all := lw_g (lw_at lw_m6 90 rfl) rfl
theorem q1360 : (Jvm.Cond.methodLink "SmokeLeansLaw" (126 : Nat) ({ cls := "SmokeLeansModel", name := "turns", desc := "(I)I" } : Jvm.MethodName)) ∈ lw_all := lw_g (lw_at lw_m6 94 rfl) rfl
theorem q1364 : (Jvm.Cond.methodLink "SmokeLeansLaw" (130 : Nat) ({ cls := "SmokeLeansModel", name := "worst", desc := "()I" } : Jvm.MethodName)) ∈ lw_all := lw_g (lw_at lw_m6 98 rfl) rfl
theorem q1368 : (Jvm.Cond.methodLink "SmokeLeansLaw" (134 : Nat) ({ cls := "SmokeLeansModel", name := "sheet", desc := "(III)I" } : Jvm.MethodName)) ∈ lw_all := lw_g (lw_at lw_m6 102 rfl) rfl
theorem q1376 : (Jvm.Cond.methodLink "SmokeLeansLaw" (141 : Nat) ({ cls := "SmokeLeansModel", name := "write", desc := "(IIJ)J" } : Jvm.MethodName)) ∈ lw_all := lw_g (lw_at lw_m6 110 rfl) rfl
theorem q1388 : (Jvm.Cond.methodLink "SmokeLeansLaw" (146 : Nat) ({ cls := "SmokeLeansModel", name := "copy", desc := "(IIIII)I" } : Jvm.MethodName)) ∈ lw_all := lw_g (lw_at lw_m6 122 rfl) rfl
theorem q1392 : (Jvm.Cond.methodLink "SmokeLeansLaw" (93 : Nat) ({ cls := "SmokeLeansModel", name := "sticks", desc := "(I)I" } : Jvm.MethodName)) ∈ lw_all := lw_g (lw_at lw_m6 126 rfl) rfl
theorem q1396 : (Jvm.Cond.methodLink "SmokeLeansLaw" (150 : Nat) ({ cls := "SmokeLeansModel", name := "lays", desc := "(I)I" } : Jvm.MethodName)) ∈ lw_all := lw_g (lw_at lw_m6 130 rfl) rfl
theorem q1400 : (Jvm.Cond.methodLink "SmokeLeansLaw" (154 : Nat) ({ cls := "SmokeLeansModel", name := "read", desc := "(I)I" } : Jvm.MethodName)) ∈ lw_all := lw_g (lw_at lw_m6 134 rfl) rfl
theorem q1404 : (Jvm.Cond.methodLink "SmokeLeansLaw" (158 : Nat) ({ cls := "SmokeLeansModel", name := "image", desc := "()I" } : Jvm.MethodName)) ∈ lw_all := lw_g (lw_at lw_m6 138 rfl) rfl
theorem q1408 : (Jvm.Cond.methodLink "SmokeLeansLaw" (162 : Nat) ({ cls := "SmokeLeansModel", name := "undo", desc := "()I" } : Jvm.MethodName)) ∈ lw_all := lw_g (lw_at lw_m6 142 rfl) rfl
theorem q1412 : (Jvm.Cond.methodLink "SmokeLeansLaw" (166 : Nat) ({ cls := "SmokeLeansModel", name := "tear", desc := "()I" } : Jvm.MethodName)) ∈ lw_all := lw_g (lw_at lw_m6 146 rfl) rfl
theorem q1416 : (Jvm.Cond.methodLink "SmokeLeansLaw" (170 : Nat) ({ cls := "SmokeLeansModel", name := "count", desc := "(I)I" } : Jvm.MethodName)) ∈ lw_all := lw_g (lw_at lw_m6 150 rfl) rfl
theorem q1420 : (Jvm.Cond.methodLink "SmokeLeansLaw" (174 : Nat) ({ cls := "SmokeLeansModel", name := "status", desc := "(I)I" } : Jvm.MethodName)) ∈ lw_all := lw_g (lw_at lw_m6 154 rfl) rfl
theorem q1426 : (Jvm.Cond.constantLong "SmokeLeansLaw" (135 : Nat) (4294967295 : Int64)) ∈ lw_all := lw_g (lw_at lw_m6 160 rfl) rfl

theorem q80 : (Jvm.Cond.initialized "java/lang/System") ∈ lw_all := lw_g (lw_at lw_m1 14 rfl) rfl
set_option maxRecDepth 100000
theorem q574 : (Jvm.Cond.static ({ cls := "java/lang/System", name := "arraycopy", desc := "(Ljava/lang/Object;ILjava/lang/Object;II)V" } : Jvm.MethodName)) ∈ lw_all := lw_g (lw_at lw_m3 28 rfl) rfl
theorem q575 : (Jvm.Cond.native ({ cls := "java/lang/System", name := "arraycopy", desc := "(Ljava/lang/Object;ILjava/lang/Object;II)V" } : Jvm.MethodName)) ∈ lw_all := lw_g (lw_at lw_m3 29 rfl) rfl

theorem q107 : (Jvm.Cond.arrayOver (Jvm.ClassFile.FieldType.object "SmokeLeans$Slot")) ∈ lw_tbl := lw_at lw_m1 41 rfl
set_option maxRecDepth 100000
theorem q159 : (Jvm.Cond.arrayClass Jvm.ClassFile.FieldType.int) ∈ lw_all := lw_g (lw_at lw_m1 93 rfl) rfl
theorem q201 : (Jvm.Cond.arrayClass Jvm.ClassFile.FieldType.byte) ∈ lw_all := lw_g (lw_at lw_m1 135 rfl) rfl
theorem q950 : (Jvm.Cond.arrayClass Jvm.ClassFile.FieldType.short) ∈ lw_all := lw_g (lw_at lw_m4 164 rfl) rfl
theorem q951 : (Jvm.Cond.arrayClass Jvm.ClassFile.FieldType.long) ∈ lw_all := lw_g (lw_at lw_m4 165 rfl) rfl
