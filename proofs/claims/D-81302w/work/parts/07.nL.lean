/-! the law's own entry -/
set_option maxRecDepth 100000
abbrev cL_law : ByteArray := code
def dkwL_law_45 : List UInt8 := [172]
abbrev dktL_law_45 : List UInt8 := dkwL_law_45 ++ []
def dkwL_law_44 : List UInt8 := [182, 0, 145, 44, 42, 29, 4, 96, 46, 182, 0, 148, 159, 0, 5, 3, 172, 132, 3, 6, 167, 251, 131, 4]
abbrev dktL_law_44 : List UInt8 := dkwL_law_44 ++ dktL_law_45
def dkwL_law_43 : List UInt8 := [159, 0, 41, 3, 172, 43, 182, 0, 141, 44, 182, 0, 144, 159, 0, 28, 3, 172, 43, 42, 29, 4, 96, 46]
abbrev dktL_law_43 : List UInt8 := dkwL_law_43 ++ dktL_law_44
def dkwL_law_42 : List UInt8 := [46, 42, 29, 5, 96, 46, 182, 0, 136, 159, 0, 54, 3, 172, 43, 182, 0, 137, 44, 182, 0, 140]
abbrev dktL_law_42 : List UInt8 := dkwL_law_42 ++ dktL_law_43
def dkwL_law_41 : List UInt8 := [159, 0, 87, 3, 172, 43, 42, 29, 4, 96, 46, 42, 29, 5, 96, 46, 182, 0, 133, 44, 42, 29, 4, 96]
abbrev dktL_law_41 : List UInt8 := dkwL_law_41 ++ dktL_law_42
def dkwL_law_40 : List UInt8 := [159, 0, 110, 3, 172, 43, 42, 29, 4, 96, 46, 182, 0, 129, 44, 42, 29, 4, 96, 46, 182, 0, 132]
abbrev dktL_law_40 : List UInt8 := dkwL_law_40 ++ dktL_law_41
def dkwL_law_39 : List UInt8 := [159, 0, 133, 3, 172, 43, 42, 29, 4, 96, 46, 182, 0, 125, 44, 42, 29, 4, 96, 46, 182, 0, 128]
abbrev dktL_law_39 : List UInt8 := dkwL_law_39 ++ dktL_law_40
def dkwL_law_38 : List UInt8 := [46, 42, 29, 5, 96, 46, 42, 29, 6, 96, 46, 42, 29, 7, 96, 46, 42, 29, 8, 96, 46, 182, 0, 124]
abbrev dktL_law_38 : List UInt8 := dkwL_law_38 ++ dktL_law_39
def dkwL_law_37 : List UInt8 := [46, 42, 29, 6, 96, 46, 42, 29, 7, 96, 46, 42, 29, 8, 96, 46, 182, 0, 120, 44, 42, 29, 4, 96]
abbrev dktL_law_37 : List UInt8 := dkwL_law_37 ++ dktL_law_38
def dkwL_law_36 : List UInt8 := [42, 29, 6, 96, 46, 182, 0, 119, 148, 153, 0, 196, 3, 172, 43, 42, 29, 4, 96, 46, 42, 29, 5, 96]
abbrev dktL_law_36 : List UInt8 := dkwL_law_36 ++ dktL_law_37
def dkwL_law_35 : List UInt8 := [42, 29, 5, 96, 46, 42, 29, 6, 96, 46, 182, 0, 115, 44, 42, 29, 4, 96, 46, 42, 29, 5, 96, 46]
abbrev dktL_law_35 : List UInt8 := dkwL_law_35 ++ dktL_law_36
def dkwL_law_34 : List UInt8 := [42, 29, 5, 96, 46, 42, 29, 6, 96, 46, 182, 0, 114, 159, 0, 240, 3, 172, 43, 42, 29, 4, 96, 46]
abbrev dktL_law_34 : List UInt8 := dkwL_law_34 ++ dktL_law_35
def dkwL_law_33 : List UInt8 := [42, 29, 4, 96, 46, 42, 29, 5, 96, 46, 42, 29, 6, 96, 46, 182, 0, 111, 44, 42, 29, 4, 96, 46]
abbrev dktL_law_33 : List UInt8 := dkwL_law_33 ++ dktL_law_34
def dkwL_law_32 : List UInt8 := [43, 42, 29, 4, 96, 46, 182, 0, 107, 44, 42, 29, 4, 96, 46, 182, 0, 110, 159, 1, 27, 3, 172, 43]
abbrev dktL_law_32 : List UInt8 := dkwL_law_32 ++ dktL_law_33
def dkwL_law_31 : List UInt8 := [44, 42, 29, 4, 96, 46, 42, 29, 5, 96, 46, 42, 29, 6, 96, 46, 182, 0, 106, 159, 1, 50, 3, 172]
abbrev dktL_law_31 : List UInt8 := dkwL_law_31 ++ dktL_law_32
def dkwL_law_30 : List UInt8 := [159, 1, 93, 3, 172, 43, 42, 29, 4, 96, 46, 42, 29, 5, 96, 46, 42, 29, 6, 96, 46, 182, 0, 103]
abbrev dktL_law_30 : List UInt8 := dkwL_law_30 ++ dktL_law_31
def dkwL_law_29 : List UInt8 := [42, 29, 5, 96, 46, 182, 0, 99, 44, 42, 29, 4, 96, 46, 42, 29, 5, 96, 46, 182, 0, 102]
abbrev dktL_law_29 : List UInt8 := dkwL_law_29 ++ dktL_law_30
def dkwL_law_28 : List UInt8 := [42, 29, 5, 96, 46, 42, 29, 6, 96, 46, 182, 0, 98, 159, 1, 126, 3, 172, 43, 42, 29, 4, 96, 46]
abbrev dktL_law_28 : List UInt8 := dkwL_law_28 ++ dktL_law_29
def dkwL_law_27 : List UInt8 := [42, 29, 4, 96, 46, 42, 29, 5, 96, 46, 42, 29, 6, 96, 46, 182, 0, 95, 44, 42, 29, 4, 96, 46]
abbrev dktL_law_27 : List UInt8 := dkwL_law_27 ++ dktL_law_28
def dkwL_law_26 : List UInt8 := [46, 182, 0, 91, 44, 42, 29, 4, 96, 46, 42, 29, 5, 96, 46, 182, 0, 94, 159, 1, 169, 3, 172, 43]
abbrev dktL_law_26 : List UInt8 := dkwL_law_26 ++ dktL_law_27
def dkwL_law_25 : List UInt8 := [172, 43, 182, 0, 87, 44, 182, 0, 90, 159, 1, 202, 3, 172, 43, 42, 29, 4, 96, 46, 42, 29, 5, 96]
abbrev dktL_law_25 : List UInt8 := dkwL_law_25 ++ dktL_law_26
def dkwL_law_24 : List UInt8 := [3, 172, 43, 42, 29, 4, 96, 46, 182, 0, 83, 44, 42, 29, 4, 96, 46, 182, 0, 86, 159, 1, 215, 3]
abbrev dktL_law_24 : List UInt8 := dkwL_law_24 ++ dktL_law_25
def dkwL_law_23 : List UInt8 := [42, 29, 4, 96, 46, 182, 0, 78, 159, 1, 251, 3, 172, 43, 182, 0, 79, 44, 182, 0, 82, 159, 1, 238]
abbrev dktL_law_23 : List UInt8 := dkwL_law_23 ++ dktL_law_24
def dkwL_law_22 : List UInt8 := [46, 42, 29, 5, 96, 46, 182, 0, 74, 159, 2, 18, 3, 172, 43, 42, 29, 4, 96, 46, 182, 0, 75, 44]
abbrev dktL_law_22 : List UInt8 := dkwL_law_22 ++ dktL_law_23
def dkwL_law_21 : List UInt8 := [159, 2, 51, 3, 172, 43, 42, 29, 4, 96, 46, 42, 29, 5, 96, 46, 182, 0, 71, 44, 42, 29, 4, 96]
abbrev dktL_law_21 : List UInt8 := dkwL_law_21 ++ dktL_law_22
def dkwL_law_20 : List UInt8 := [182, 0, 67, 44, 42, 29, 4, 96, 46, 42, 29, 5, 96, 46, 42, 29, 6, 96, 46, 182, 0, 70]
abbrev dktL_law_20 : List UInt8 := dkwL_law_20 ++ dktL_law_21
def dkwL_law_19 : List UInt8 := [182, 0, 66, 159, 2, 94, 3, 172, 43, 42, 29, 4, 96, 46, 42, 29, 5, 96, 46, 42, 29, 6, 96, 46]
abbrev dktL_law_19 : List UInt8 := dkwL_law_19 ++ dktL_law_20
def dkwL_law_18 : List UInt8 := [182, 0, 62, 159, 2, 117, 3, 172, 43, 42, 29, 4, 96, 46, 182, 0, 63, 44, 42, 29, 4, 96, 46]
abbrev dktL_law_18 : List UInt8 := dkwL_law_18 ++ dktL_law_19
def dkwL_law_17 : List UInt8 := [4, 96, 46, 42, 29, 5, 96, 46, 182, 0, 59, 44, 42, 29, 4, 96, 46, 42, 29, 5, 96, 46]
abbrev dktL_law_17 : List UInt8 := dkwL_law_17 ++ dktL_law_18
def dkwL_law_16 : List UInt8 := [4, 96, 46, 42, 29, 5, 96, 46, 42, 29, 6, 96, 46, 182, 0, 58, 159, 2, 150, 3, 172, 43, 42, 29]
abbrev dktL_law_16 : List UInt8 := dkwL_law_16 ++ dktL_law_17
def dkwL_law_15 : List UInt8 := [3, 172, 43, 42, 29, 4, 96, 46, 42, 29, 5, 96, 46, 42, 29, 6, 96, 46, 182, 0, 54, 44, 42, 29]
abbrev dktL_law_15 : List UInt8 := dkwL_law_15 ++ dktL_law_16
def dkwL_law_14 : List UInt8 := [29, 5, 96, 46, 182, 0, 50, 44, 42, 29, 4, 96, 46, 42, 29, 5, 96, 46, 182, 0, 53, 159, 2, 193]
abbrev dktL_law_14 : List UInt8 := dkwL_law_14 ++ dktL_law_15
def dkwL_law_13 : List UInt8 := [182, 0, 45, 44, 42, 29, 4, 96, 46, 182, 0, 49, 159, 2, 226, 3, 172, 43, 42, 29, 4, 96, 46, 42]
abbrev dktL_law_13 : List UInt8 := dkwL_law_13 ++ dktL_law_14
def dkwL_law_12 : List UInt8 := [29, 4, 96, 46, 42, 29, 5, 96, 46, 182, 0, 44, 148, 153, 2, 249, 3, 172, 43, 42, 29, 4, 96, 46]
abbrev dktL_law_12 : List UInt8 := dkwL_law_12 ++ dktL_law_13
def dkwL_law_11 : List UInt8 := [182, 0, 39, 159, 3, 27, 3, 172, 43, 42, 29, 4, 96, 46, 42, 29, 5, 96, 46, 182, 0, 40, 44, 42]
abbrev dktL_law_11 : List UInt8 := dkwL_law_11 ++ dktL_law_12
def dkwL_law_10 : List UInt8 := [4, 96, 46, 42, 29, 5, 96, 46, 182, 0, 36, 44, 42, 29, 4, 96, 46, 42, 29, 5, 96, 46]
abbrev dktL_law_10 : List UInt8 := dkwL_law_10 ++ dktL_law_11
def dkwL_law_9 : List UInt8 := [182, 0, 30, 159, 3, 73, 3, 172, 43, 182, 0, 31, 44, 182, 0, 35, 159, 3, 60, 3, 172, 43, 42, 29]
abbrev dktL_law_9 : List UInt8 := dkwL_law_9 ++ dktL_law_10
def dkwL_law_8 : List UInt8 := [42, 29, 4, 96, 46, 42, 29, 5, 96, 46, 182, 0, 27, 44, 42, 29, 4, 96, 46, 42, 29, 5, 96, 46]
abbrev dktL_law_8 : List UInt8 := dkwL_law_8 ++ dktL_law_9
def dkwL_law_7 : List UInt8 := [46, 182, 0, 23, 44, 42, 29, 4, 96, 46, 42, 29, 5, 96, 46, 182, 0, 26, 159, 3, 106, 3, 172, 43]
abbrev dktL_law_7 : List UInt8 := dkwL_law_7 ++ dktL_law_8
def dkwL_law_6 : List UInt8 := [46, 42, 29, 5, 96, 46, 182, 0, 22, 159, 3, 139, 3, 172, 43, 42, 29, 4, 96, 46, 42, 29, 5, 96]
abbrev dktL_law_6 : List UInt8 := dkwL_law_6 ++ dktL_law_7
def dkwL_law_5 : List UInt8 := [159, 3, 172, 3, 172, 43, 42, 29, 4, 96, 46, 42, 29, 5, 96, 46, 182, 0, 18, 44, 42, 29, 4, 96]
abbrev dktL_law_5 : List UInt8 := dkwL_law_5 ++ dktL_law_6
def dkwL_law_4 : List UInt8 := [44, 42, 29, 4, 96, 46, 42, 29, 5, 96, 46, 42, 29, 6, 96, 46, 42, 29, 7, 96, 46, 182, 0, 17]
abbrev dktL_law_4 : List UInt8 := dkwL_law_4 ++ dktL_law_5
def dkwL_law_3 : List UInt8 := [43, 42, 29, 4, 96, 46, 42, 29, 5, 96, 46, 42, 29, 6, 96, 46, 42, 29, 7, 96, 46, 182, 0, 13]
abbrev dktL_law_3 : List UInt8 := dkwL_law_3 ++ dktL_law_4
def dkwL_law_2 : List UInt8 := [170, 0, 0, 0, 0, 4, 107, 0, 0, 0, 0, 0, 0, 0, 31, 0, 0, 0, 143, 0, 0, 0, 196, 0, 0, 0, 229, 0, 0, 1, 6, 0, 0, 1, 39, 0, 0, 1, 52, 0, 0, 1, 85, 0, 0, 1, 119, 0, 0, 1, 142, 0, 0, 1, 175, 0, 0, 1, 218, 0, 0, 1, 251, 0, 0, 2, 18, 0, 0, 2, 61, 0, 0, 2, 94, 0, 0, 2, 117, 0, 0, 2, 130, 0, 0, 2, 153, 0, 0, 2, 166, 0, 0, 2, 199, 0, 0, 2, 242, 0, 0, 3, 19, 0, 0, 3, 62, 0, 0, 3, 85, 0, 0, 3, 128, 0, 0, 3, 172, 0, 0, 3, 235, 0, 0, 4, 2, 0, 0, 4, 25, 0, 0, 4, 58, 0, 0, 4, 71, 0, 0, 4, 84]
abbrev dktL_law_2 : List UInt8 := dkwL_law_2 ++ dktL_law_3
def dkwL_law_1 : List UInt8 := [163, 4, 122, 42, 29, 46, 16, 31, 126]
abbrev dktL_law_1 : List UInt8 := dkwL_law_1 ++ dktL_law_2
def dkwL_law_0 : List UInt8 := [187, 0, 7, 89, 183, 0, 9, 76, 187, 0, 10, 89, 183, 0, 12, 77, 3, 62, 29, 42, 190, 16, 6, 100]
abbrev dktL_law_0 : List UInt8 := dkwL_law_0 ++ dktL_law_1
theorem dksL_law_0 : cL_law.data.toList.drop 0 = dktL_law_0 := by decide +kernel
theorem dksL_law_1 : cL_law.data.toList.drop 24 = dktL_law_1 := dk_seg dksL_law_0 24 rfl rfl
theorem dksL_law_2 : cL_law.data.toList.drop 33 = dktL_law_2 := dk_seg dksL_law_1 9 rfl rfl
theorem dksL_law_3 : cL_law.data.toList.drop 176 = dktL_law_3 := dk_seg dksL_law_2 143 rfl rfl
theorem dksL_law_4 : cL_law.data.toList.drop 200 = dktL_law_4 := dk_seg dksL_law_3 24 rfl rfl
theorem dksL_law_5 : cL_law.data.toList.drop 224 = dktL_law_5 := dk_seg dksL_law_4 24 rfl rfl
theorem dksL_law_6 : cL_law.data.toList.drop 248 = dktL_law_6 := dk_seg dksL_law_5 24 rfl rfl
theorem dksL_law_7 : cL_law.data.toList.drop 272 = dktL_law_7 := dk_seg dksL_law_6 24 rfl rfl
theorem dksL_law_8 : cL_law.data.toList.drop 296 = dktL_law_8 := dk_seg dksL_law_7 24 rfl rfl
theorem dksL_law_9 : cL_law.data.toList.drop 320 = dktL_law_9 := dk_seg dksL_law_8 24 rfl rfl
theorem dksL_law_10 : cL_law.data.toList.drop 344 = dktL_law_10 := dk_seg dksL_law_9 24 rfl rfl
theorem dksL_law_11 : cL_law.data.toList.drop 366 = dktL_law_11 := dk_seg dksL_law_10 22 rfl rfl
theorem dksL_law_12 : cL_law.data.toList.drop 390 = dktL_law_12 := dk_seg dksL_law_11 24 rfl rfl
theorem dksL_law_13 : cL_law.data.toList.drop 414 = dktL_law_13 := dk_seg dksL_law_12 24 rfl rfl
theorem dksL_law_14 : cL_law.data.toList.drop 438 = dktL_law_14 := dk_seg dksL_law_13 24 rfl rfl
theorem dksL_law_15 : cL_law.data.toList.drop 462 = dktL_law_15 := dk_seg dksL_law_14 24 rfl rfl
theorem dksL_law_16 : cL_law.data.toList.drop 486 = dktL_law_16 := dk_seg dksL_law_15 24 rfl rfl
theorem dksL_law_17 : cL_law.data.toList.drop 510 = dktL_law_17 := dk_seg dksL_law_16 24 rfl rfl
theorem dksL_law_18 : cL_law.data.toList.drop 532 = dktL_law_18 := dk_seg dksL_law_17 22 rfl rfl
theorem dksL_law_19 : cL_law.data.toList.drop 555 = dktL_law_19 := dk_seg dksL_law_18 23 rfl rfl
theorem dksL_law_20 : cL_law.data.toList.drop 579 = dktL_law_20 := dk_seg dksL_law_19 24 rfl rfl
theorem dksL_law_21 : cL_law.data.toList.drop 601 = dktL_law_21 := dk_seg dksL_law_20 22 rfl rfl
theorem dksL_law_22 : cL_law.data.toList.drop 625 = dktL_law_22 := dk_seg dksL_law_21 24 rfl rfl
theorem dksL_law_23 : cL_law.data.toList.drop 649 = dktL_law_23 := dk_seg dksL_law_22 24 rfl rfl
theorem dksL_law_24 : cL_law.data.toList.drop 673 = dktL_law_24 := dk_seg dksL_law_23 24 rfl rfl
theorem dksL_law_25 : cL_law.data.toList.drop 697 = dktL_law_25 := dk_seg dksL_law_24 24 rfl rfl
theorem dksL_law_26 : cL_law.data.toList.drop 721 = dktL_law_26 := dk_seg dksL_law_25 24 rfl rfl
theorem dksL_law_27 : cL_law.data.toList.drop 745 = dktL_law_27 := dk_seg dksL_law_26 24 rfl rfl
theorem dksL_law_28 : cL_law.data.toList.drop 769 = dktL_law_28 := dk_seg dksL_law_27 24 rfl rfl
theorem dksL_law_29 : cL_law.data.toList.drop 793 = dktL_law_29 := dk_seg dksL_law_28 24 rfl rfl
theorem dksL_law_30 : cL_law.data.toList.drop 815 = dktL_law_30 := dk_seg dksL_law_29 22 rfl rfl
theorem dksL_law_31 : cL_law.data.toList.drop 839 = dktL_law_31 := dk_seg dksL_law_30 24 rfl rfl
theorem dksL_law_32 : cL_law.data.toList.drop 863 = dktL_law_32 := dk_seg dksL_law_31 24 rfl rfl
theorem dksL_law_33 : cL_law.data.toList.drop 887 = dktL_law_33 := dk_seg dksL_law_32 24 rfl rfl
theorem dksL_law_34 : cL_law.data.toList.drop 911 = dktL_law_34 := dk_seg dksL_law_33 24 rfl rfl
theorem dksL_law_35 : cL_law.data.toList.drop 935 = dktL_law_35 := dk_seg dksL_law_34 24 rfl rfl
theorem dksL_law_36 : cL_law.data.toList.drop 959 = dktL_law_36 := dk_seg dksL_law_35 24 rfl rfl
theorem dksL_law_37 : cL_law.data.toList.drop 983 = dktL_law_37 := dk_seg dksL_law_36 24 rfl rfl
theorem dksL_law_38 : cL_law.data.toList.drop 1007 = dktL_law_38 := dk_seg dksL_law_37 24 rfl rfl
theorem dksL_law_39 : cL_law.data.toList.drop 1031 = dktL_law_39 := dk_seg dksL_law_38 24 rfl rfl
theorem dksL_law_40 : cL_law.data.toList.drop 1054 = dktL_law_40 := dk_seg dksL_law_39 23 rfl rfl
theorem dksL_law_41 : cL_law.data.toList.drop 1077 = dktL_law_41 := dk_seg dksL_law_40 23 rfl rfl
theorem dksL_law_42 : cL_law.data.toList.drop 1101 = dktL_law_42 := dk_seg dksL_law_41 24 rfl rfl
theorem dksL_law_43 : cL_law.data.toList.drop 1123 = dktL_law_43 := dk_seg dksL_law_42 22 rfl rfl
theorem dksL_law_44 : cL_law.data.toList.drop 1147 = dktL_law_44 := dk_seg dksL_law_43 24 rfl rfl
theorem dksL_law_45 : cL_law.data.toList.drop 1171 = dktL_law_45 := dk_seg dksL_law_44 24 rfl rfl
theorem dL_law_0 : decode cL_law 0 = .ok (.new 7, 3) := dk_187 0 7 (dk_at dksL_law_0 0 rfl rfl)
theorem dL_law_3 : decode cL_law 3 = .ok (.dup, 1) := dk_89 (dk_at dksL_law_0 3 rfl rfl)
theorem dL_law_4 : decode cL_law 4 = .ok (.invokespecial 9, 3) := dk_183 0 9 (dk_at dksL_law_0 4 rfl rfl)
theorem dL_law_7 : decode cL_law 7 = .ok (.astore_n 1, 1) := dk_76 (dk_at dksL_law_0 7 rfl rfl)
theorem dL_law_8 : decode cL_law 8 = .ok (.new 10, 3) := dk_187 0 10 (dk_at dksL_law_0 8 rfl rfl)
theorem dL_law_11 : decode cL_law 11 = .ok (.dup, 1) := dk_89 (dk_at dksL_law_0 11 rfl rfl)
theorem dL_law_12 : decode cL_law 12 = .ok (.invokespecial 12, 3) := dk_183 0 12 (dk_at dksL_law_0 12 rfl rfl)
theorem dL_law_15 : decode cL_law 15 = .ok (.astore_n 2, 1) := dk_77 (dk_at dksL_law_0 15 rfl rfl)
theorem dL_law_16 : decode cL_law 16 = .ok (.iconst 0, 1) := dk_3 (dk_at dksL_law_0 16 rfl rfl)
theorem dL_law_17 : decode cL_law 17 = .ok (.istore_n 3, 1) := dk_62 (dk_at dksL_law_0 17 rfl rfl)
theorem dL_law_18 : decode cL_law 18 = .ok (.iload_n 3, 1) := dk_29 (dk_at dksL_law_0 18 rfl rfl)
theorem dL_law_19 : decode cL_law 19 = .ok (.aload_n 0, 1) := dk_42 (dk_at dksL_law_0 19 rfl rfl)
theorem dL_law_20 : decode cL_law 20 = .ok (.arraylength, 1) := dk_190 (dk_at dksL_law_0 20 rfl rfl)
theorem dL_law_21 : decode cL_law 21 = .ok (.bipush 6, 2) := dk_16 6 (dk_at dksL_law_0 21 rfl rfl)
theorem dL_law_23 : decode cL_law 23 = .ok (.isub, 1) := dk_100 (dk_at dksL_law_0 23 rfl rfl)
theorem dL_law_24 : decode cL_law 24 = .ok (.if_icmp .gt 1146, 3) := dk_163 4 122 (dk_at dksL_law_1 0 rfl rfl)
theorem dL_law_27 : decode cL_law 27 = .ok (.aload_n 0, 1) := dk_42 (dk_at dksL_law_1 3 rfl rfl)
theorem dL_law_28 : decode cL_law 28 = .ok (.iload_n 3, 1) := dk_29 (dk_at dksL_law_1 4 rfl rfl)
theorem dL_law_29 : decode cL_law 29 = .ok (.iaload, 1) := dk_46 (dk_at dksL_law_1 5 rfl rfl)
theorem dL_law_30 : decode cL_law 30 = .ok (.bipush 31, 2) := dk_16 31 (dk_at dksL_law_1 6 rfl rfl)
theorem dL_law_32 : decode cL_law 32 = .ok (.iand, 1) := dk_126 (dk_at dksL_law_1 8 rfl rfl)
theorem dL_law_33 : decode cL_law 33 = .ok (.tableswitch 1131 0 31 #[143, 196, 229, 262, 295, 308, 341, 375, 398, 431, 474, 507, 530, 573, 606, 629, 642, 665, 678, 711, 754, 787, 830, 853, 896, 940, 1003, 1026, 1049, 1082, 1095, 1108], 143) := by decide +kernel
theorem dL_law_176 : decode cL_law 176 = .ok (.aload_n 1, 1) := dk_43 (dk_at dksL_law_3 0 rfl rfl)
theorem dL_law_177 : decode cL_law 177 = .ok (.aload_n 0, 1) := dk_42 (dk_at dksL_law_3 1 rfl rfl)
theorem dL_law_178 : decode cL_law 178 = .ok (.iload_n 3, 1) := dk_29 (dk_at dksL_law_3 2 rfl rfl)
theorem dL_law_179 : decode cL_law 179 = .ok (.iconst 1, 1) := dk_4 (dk_at dksL_law_3 3 rfl rfl)
theorem dL_law_180 : decode cL_law 180 = .ok (.iadd, 1) := dk_96 (dk_at dksL_law_3 4 rfl rfl)
theorem dL_law_181 : decode cL_law 181 = .ok (.iaload, 1) := dk_46 (dk_at dksL_law_3 5 rfl rfl)
theorem dL_law_182 : decode cL_law 182 = .ok (.aload_n 0, 1) := dk_42 (dk_at dksL_law_3 6 rfl rfl)
theorem dL_law_183 : decode cL_law 183 = .ok (.iload_n 3, 1) := dk_29 (dk_at dksL_law_3 7 rfl rfl)
theorem dL_law_184 : decode cL_law 184 = .ok (.iconst 2, 1) := dk_5 (dk_at dksL_law_3 8 rfl rfl)
theorem dL_law_185 : decode cL_law 185 = .ok (.iadd, 1) := dk_96 (dk_at dksL_law_3 9 rfl rfl)
theorem dL_law_186 : decode cL_law 186 = .ok (.iaload, 1) := dk_46 (dk_at dksL_law_3 10 rfl rfl)
theorem dL_law_187 : decode cL_law 187 = .ok (.aload_n 0, 1) := dk_42 (dk_at dksL_law_3 11 rfl rfl)
theorem dL_law_188 : decode cL_law 188 = .ok (.iload_n 3, 1) := dk_29 (dk_at dksL_law_3 12 rfl rfl)
theorem dL_law_189 : decode cL_law 189 = .ok (.iconst 3, 1) := dk_6 (dk_at dksL_law_3 13 rfl rfl)
theorem dL_law_190 : decode cL_law 190 = .ok (.iadd, 1) := dk_96 (dk_at dksL_law_3 14 rfl rfl)
theorem dL_law_191 : decode cL_law 191 = .ok (.iaload, 1) := dk_46 (dk_at dksL_law_3 15 rfl rfl)
theorem dL_law_192 : decode cL_law 192 = .ok (.aload_n 0, 1) := dk_42 (dk_at dksL_law_3 16 rfl rfl)
theorem dL_law_193 : decode cL_law 193 = .ok (.iload_n 3, 1) := dk_29 (dk_at dksL_law_3 17 rfl rfl)
theorem dL_law_194 : decode cL_law 194 = .ok (.iconst 4, 1) := dk_7 (dk_at dksL_law_3 18 rfl rfl)
theorem dL_law_195 : decode cL_law 195 = .ok (.iadd, 1) := dk_96 (dk_at dksL_law_3 19 rfl rfl)
theorem dL_law_196 : decode cL_law 196 = .ok (.iaload, 1) := dk_46 (dk_at dksL_law_3 20 rfl rfl)
theorem dL_law_197 : decode cL_law 197 = .ok (.invokevirtual 13, 3) := dk_182 0 13 (dk_at dksL_law_3 21 rfl rfl)
theorem dL_law_200 : decode cL_law 200 = .ok (.aload_n 2, 1) := dk_44 (dk_at dksL_law_4 0 rfl rfl)
theorem dL_law_201 : decode cL_law 201 = .ok (.aload_n 0, 1) := dk_42 (dk_at dksL_law_4 1 rfl rfl)
theorem dL_law_202 : decode cL_law 202 = .ok (.iload_n 3, 1) := dk_29 (dk_at dksL_law_4 2 rfl rfl)
theorem dL_law_203 : decode cL_law 203 = .ok (.iconst 1, 1) := dk_4 (dk_at dksL_law_4 3 rfl rfl)
theorem dL_law_204 : decode cL_law 204 = .ok (.iadd, 1) := dk_96 (dk_at dksL_law_4 4 rfl rfl)
theorem dL_law_205 : decode cL_law 205 = .ok (.iaload, 1) := dk_46 (dk_at dksL_law_4 5 rfl rfl)
theorem dL_law_206 : decode cL_law 206 = .ok (.aload_n 0, 1) := dk_42 (dk_at dksL_law_4 6 rfl rfl)
theorem dL_law_207 : decode cL_law 207 = .ok (.iload_n 3, 1) := dk_29 (dk_at dksL_law_4 7 rfl rfl)
theorem dL_law_208 : decode cL_law 208 = .ok (.iconst 2, 1) := dk_5 (dk_at dksL_law_4 8 rfl rfl)
theorem dL_law_209 : decode cL_law 209 = .ok (.iadd, 1) := dk_96 (dk_at dksL_law_4 9 rfl rfl)
theorem dL_law_210 : decode cL_law 210 = .ok (.iaload, 1) := dk_46 (dk_at dksL_law_4 10 rfl rfl)
theorem dL_law_211 : decode cL_law 211 = .ok (.aload_n 0, 1) := dk_42 (dk_at dksL_law_4 11 rfl rfl)
theorem dL_law_212 : decode cL_law 212 = .ok (.iload_n 3, 1) := dk_29 (dk_at dksL_law_4 12 rfl rfl)
theorem dL_law_213 : decode cL_law 213 = .ok (.iconst 3, 1) := dk_6 (dk_at dksL_law_4 13 rfl rfl)
theorem dL_law_214 : decode cL_law 214 = .ok (.iadd, 1) := dk_96 (dk_at dksL_law_4 14 rfl rfl)
theorem dL_law_215 : decode cL_law 215 = .ok (.iaload, 1) := dk_46 (dk_at dksL_law_4 15 rfl rfl)
theorem dL_law_216 : decode cL_law 216 = .ok (.aload_n 0, 1) := dk_42 (dk_at dksL_law_4 16 rfl rfl)
theorem dL_law_217 : decode cL_law 217 = .ok (.iload_n 3, 1) := dk_29 (dk_at dksL_law_4 17 rfl rfl)
theorem dL_law_218 : decode cL_law 218 = .ok (.iconst 4, 1) := dk_7 (dk_at dksL_law_4 18 rfl rfl)
theorem dL_law_219 : decode cL_law 219 = .ok (.iadd, 1) := dk_96 (dk_at dksL_law_4 19 rfl rfl)
theorem dL_law_220 : decode cL_law 220 = .ok (.iaload, 1) := dk_46 (dk_at dksL_law_4 20 rfl rfl)
theorem dL_law_221 : decode cL_law 221 = .ok (.invokevirtual 17, 3) := dk_182 0 17 (dk_at dksL_law_4 21 rfl rfl)
theorem dL_law_224 : decode cL_law 224 = .ok (.if_icmp .eq 940, 3) := dk_159 3 172 (dk_at dksL_law_5 0 rfl rfl)
theorem dL_law_227 : decode cL_law 227 = .ok (.iconst 0, 1) := dk_3 (dk_at dksL_law_5 3 rfl rfl)
theorem dL_law_228 : decode cL_law 228 = .ok (.ireturn, 1) := dk_172 (dk_at dksL_law_5 4 rfl rfl)
theorem dL_law_229 : decode cL_law 229 = .ok (.aload_n 1, 1) := dk_43 (dk_at dksL_law_5 5 rfl rfl)
theorem dL_law_230 : decode cL_law 230 = .ok (.aload_n 0, 1) := dk_42 (dk_at dksL_law_5 6 rfl rfl)
theorem dL_law_231 : decode cL_law 231 = .ok (.iload_n 3, 1) := dk_29 (dk_at dksL_law_5 7 rfl rfl)
theorem dL_law_232 : decode cL_law 232 = .ok (.iconst 1, 1) := dk_4 (dk_at dksL_law_5 8 rfl rfl)
theorem dL_law_233 : decode cL_law 233 = .ok (.iadd, 1) := dk_96 (dk_at dksL_law_5 9 rfl rfl)
theorem dL_law_234 : decode cL_law 234 = .ok (.iaload, 1) := dk_46 (dk_at dksL_law_5 10 rfl rfl)
theorem dL_law_235 : decode cL_law 235 = .ok (.aload_n 0, 1) := dk_42 (dk_at dksL_law_5 11 rfl rfl)
theorem dL_law_236 : decode cL_law 236 = .ok (.iload_n 3, 1) := dk_29 (dk_at dksL_law_5 12 rfl rfl)
theorem dL_law_237 : decode cL_law 237 = .ok (.iconst 2, 1) := dk_5 (dk_at dksL_law_5 13 rfl rfl)
theorem dL_law_238 : decode cL_law 238 = .ok (.iadd, 1) := dk_96 (dk_at dksL_law_5 14 rfl rfl)
theorem dL_law_239 : decode cL_law 239 = .ok (.iaload, 1) := dk_46 (dk_at dksL_law_5 15 rfl rfl)
theorem dL_law_240 : decode cL_law 240 = .ok (.invokevirtual 18, 3) := dk_182 0 18 (dk_at dksL_law_5 16 rfl rfl)
theorem dL_law_243 : decode cL_law 243 = .ok (.aload_n 2, 1) := dk_44 (dk_at dksL_law_5 19 rfl rfl)
theorem dL_law_244 : decode cL_law 244 = .ok (.aload_n 0, 1) := dk_42 (dk_at dksL_law_5 20 rfl rfl)
theorem dL_law_245 : decode cL_law 245 = .ok (.iload_n 3, 1) := dk_29 (dk_at dksL_law_5 21 rfl rfl)
theorem dL_law_246 : decode cL_law 246 = .ok (.iconst 1, 1) := dk_4 (dk_at dksL_law_5 22 rfl rfl)
theorem dL_law_247 : decode cL_law 247 = .ok (.iadd, 1) := dk_96 (dk_at dksL_law_5 23 rfl rfl)
theorem dL_law_248 : decode cL_law 248 = .ok (.iaload, 1) := dk_46 (dk_at dksL_law_6 0 rfl rfl)
theorem dL_law_249 : decode cL_law 249 = .ok (.aload_n 0, 1) := dk_42 (dk_at dksL_law_6 1 rfl rfl)
theorem dL_law_250 : decode cL_law 250 = .ok (.iload_n 3, 1) := dk_29 (dk_at dksL_law_6 2 rfl rfl)
theorem dL_law_251 : decode cL_law 251 = .ok (.iconst 2, 1) := dk_5 (dk_at dksL_law_6 3 rfl rfl)
theorem dL_law_252 : decode cL_law 252 = .ok (.iadd, 1) := dk_96 (dk_at dksL_law_6 4 rfl rfl)
theorem dL_law_253 : decode cL_law 253 = .ok (.iaload, 1) := dk_46 (dk_at dksL_law_6 5 rfl rfl)
theorem dL_law_254 : decode cL_law 254 = .ok (.invokevirtual 22, 3) := dk_182 0 22 (dk_at dksL_law_6 6 rfl rfl)
theorem dL_law_257 : decode cL_law 257 = .ok (.if_icmp .eq 907, 3) := dk_159 3 139 (dk_at dksL_law_6 9 rfl rfl)
theorem dL_law_260 : decode cL_law 260 = .ok (.iconst 0, 1) := dk_3 (dk_at dksL_law_6 12 rfl rfl)
theorem dL_law_261 : decode cL_law 261 = .ok (.ireturn, 1) := dk_172 (dk_at dksL_law_6 13 rfl rfl)
theorem dL_law_262 : decode cL_law 262 = .ok (.aload_n 1, 1) := dk_43 (dk_at dksL_law_6 14 rfl rfl)
theorem dL_law_263 : decode cL_law 263 = .ok (.aload_n 0, 1) := dk_42 (dk_at dksL_law_6 15 rfl rfl)
theorem dL_law_264 : decode cL_law 264 = .ok (.iload_n 3, 1) := dk_29 (dk_at dksL_law_6 16 rfl rfl)
theorem dL_law_265 : decode cL_law 265 = .ok (.iconst 1, 1) := dk_4 (dk_at dksL_law_6 17 rfl rfl)
theorem dL_law_266 : decode cL_law 266 = .ok (.iadd, 1) := dk_96 (dk_at dksL_law_6 18 rfl rfl)
theorem dL_law_267 : decode cL_law 267 = .ok (.iaload, 1) := dk_46 (dk_at dksL_law_6 19 rfl rfl)
theorem dL_law_268 : decode cL_law 268 = .ok (.aload_n 0, 1) := dk_42 (dk_at dksL_law_6 20 rfl rfl)
theorem dL_law_269 : decode cL_law 269 = .ok (.iload_n 3, 1) := dk_29 (dk_at dksL_law_6 21 rfl rfl)
theorem dL_law_270 : decode cL_law 270 = .ok (.iconst 2, 1) := dk_5 (dk_at dksL_law_6 22 rfl rfl)
theorem dL_law_271 : decode cL_law 271 = .ok (.iadd, 1) := dk_96 (dk_at dksL_law_6 23 rfl rfl)
theorem dL_law_272 : decode cL_law 272 = .ok (.iaload, 1) := dk_46 (dk_at dksL_law_7 0 rfl rfl)
theorem dL_law_273 : decode cL_law 273 = .ok (.invokevirtual 23, 3) := dk_182 0 23 (dk_at dksL_law_7 1 rfl rfl)
theorem dL_law_276 : decode cL_law 276 = .ok (.aload_n 2, 1) := dk_44 (dk_at dksL_law_7 4 rfl rfl)
theorem dL_law_277 : decode cL_law 277 = .ok (.aload_n 0, 1) := dk_42 (dk_at dksL_law_7 5 rfl rfl)
theorem dL_law_278 : decode cL_law 278 = .ok (.iload_n 3, 1) := dk_29 (dk_at dksL_law_7 6 rfl rfl)
theorem dL_law_279 : decode cL_law 279 = .ok (.iconst 1, 1) := dk_4 (dk_at dksL_law_7 7 rfl rfl)
theorem dL_law_280 : decode cL_law 280 = .ok (.iadd, 1) := dk_96 (dk_at dksL_law_7 8 rfl rfl)
theorem dL_law_281 : decode cL_law 281 = .ok (.iaload, 1) := dk_46 (dk_at dksL_law_7 9 rfl rfl)
theorem dL_law_282 : decode cL_law 282 = .ok (.aload_n 0, 1) := dk_42 (dk_at dksL_law_7 10 rfl rfl)
theorem dL_law_283 : decode cL_law 283 = .ok (.iload_n 3, 1) := dk_29 (dk_at dksL_law_7 11 rfl rfl)
theorem dL_law_284 : decode cL_law 284 = .ok (.iconst 2, 1) := dk_5 (dk_at dksL_law_7 12 rfl rfl)
theorem dL_law_285 : decode cL_law 285 = .ok (.iadd, 1) := dk_96 (dk_at dksL_law_7 13 rfl rfl)
theorem dL_law_286 : decode cL_law 286 = .ok (.iaload, 1) := dk_46 (dk_at dksL_law_7 14 rfl rfl)
theorem dL_law_287 : decode cL_law 287 = .ok (.invokevirtual 26, 3) := dk_182 0 26 (dk_at dksL_law_7 15 rfl rfl)
theorem dL_law_290 : decode cL_law 290 = .ok (.if_icmp .eq 874, 3) := dk_159 3 106 (dk_at dksL_law_7 18 rfl rfl)
theorem dL_law_293 : decode cL_law 293 = .ok (.iconst 0, 1) := dk_3 (dk_at dksL_law_7 21 rfl rfl)
theorem dL_law_294 : decode cL_law 294 = .ok (.ireturn, 1) := dk_172 (dk_at dksL_law_7 22 rfl rfl)
theorem dL_law_295 : decode cL_law 295 = .ok (.aload_n 1, 1) := dk_43 (dk_at dksL_law_7 23 rfl rfl)
theorem dL_law_296 : decode cL_law 296 = .ok (.aload_n 0, 1) := dk_42 (dk_at dksL_law_8 0 rfl rfl)
theorem dL_law_297 : decode cL_law 297 = .ok (.iload_n 3, 1) := dk_29 (dk_at dksL_law_8 1 rfl rfl)
theorem dL_law_298 : decode cL_law 298 = .ok (.iconst 1, 1) := dk_4 (dk_at dksL_law_8 2 rfl rfl)
theorem dL_law_299 : decode cL_law 299 = .ok (.iadd, 1) := dk_96 (dk_at dksL_law_8 3 rfl rfl)
theorem dL_law_300 : decode cL_law 300 = .ok (.iaload, 1) := dk_46 (dk_at dksL_law_8 4 rfl rfl)
theorem dL_law_301 : decode cL_law 301 = .ok (.aload_n 0, 1) := dk_42 (dk_at dksL_law_8 5 rfl rfl)
theorem dL_law_302 : decode cL_law 302 = .ok (.iload_n 3, 1) := dk_29 (dk_at dksL_law_8 6 rfl rfl)
theorem dL_law_303 : decode cL_law 303 = .ok (.iconst 2, 1) := dk_5 (dk_at dksL_law_8 7 rfl rfl)
theorem dL_law_304 : decode cL_law 304 = .ok (.iadd, 1) := dk_96 (dk_at dksL_law_8 8 rfl rfl)
theorem dL_law_305 : decode cL_law 305 = .ok (.iaload, 1) := dk_46 (dk_at dksL_law_8 9 rfl rfl)
theorem dL_law_306 : decode cL_law 306 = .ok (.invokevirtual 27, 3) := dk_182 0 27 (dk_at dksL_law_8 10 rfl rfl)
theorem dL_law_309 : decode cL_law 309 = .ok (.aload_n 2, 1) := dk_44 (dk_at dksL_law_8 13 rfl rfl)
theorem dL_law_310 : decode cL_law 310 = .ok (.aload_n 0, 1) := dk_42 (dk_at dksL_law_8 14 rfl rfl)
theorem dL_law_311 : decode cL_law 311 = .ok (.iload_n 3, 1) := dk_29 (dk_at dksL_law_8 15 rfl rfl)
theorem dL_law_312 : decode cL_law 312 = .ok (.iconst 1, 1) := dk_4 (dk_at dksL_law_8 16 rfl rfl)
theorem dL_law_313 : decode cL_law 313 = .ok (.iadd, 1) := dk_96 (dk_at dksL_law_8 17 rfl rfl)
theorem dL_law_314 : decode cL_law 314 = .ok (.iaload, 1) := dk_46 (dk_at dksL_law_8 18 rfl rfl)
theorem dL_law_315 : decode cL_law 315 = .ok (.aload_n 0, 1) := dk_42 (dk_at dksL_law_8 19 rfl rfl)
theorem dL_law_316 : decode cL_law 316 = .ok (.iload_n 3, 1) := dk_29 (dk_at dksL_law_8 20 rfl rfl)
theorem dL_law_317 : decode cL_law 317 = .ok (.iconst 2, 1) := dk_5 (dk_at dksL_law_8 21 rfl rfl)
theorem dL_law_318 : decode cL_law 318 = .ok (.iadd, 1) := dk_96 (dk_at dksL_law_8 22 rfl rfl)
theorem dL_law_319 : decode cL_law 319 = .ok (.iaload, 1) := dk_46 (dk_at dksL_law_8 23 rfl rfl)
theorem dL_law_320 : decode cL_law 320 = .ok (.invokevirtual 30, 3) := dk_182 0 30 (dk_at dksL_law_9 0 rfl rfl)
theorem dL_law_323 : decode cL_law 323 = .ok (.if_icmp .eq 841, 3) := dk_159 3 73 (dk_at dksL_law_9 3 rfl rfl)
theorem dL_law_326 : decode cL_law 326 = .ok (.iconst 0, 1) := dk_3 (dk_at dksL_law_9 6 rfl rfl)
theorem dL_law_327 : decode cL_law 327 = .ok (.ireturn, 1) := dk_172 (dk_at dksL_law_9 7 rfl rfl)
theorem dL_law_328 : decode cL_law 328 = .ok (.aload_n 1, 1) := dk_43 (dk_at dksL_law_9 8 rfl rfl)
theorem dL_law_329 : decode cL_law 329 = .ok (.invokevirtual 31, 3) := dk_182 0 31 (dk_at dksL_law_9 9 rfl rfl)
theorem dL_law_332 : decode cL_law 332 = .ok (.aload_n 2, 1) := dk_44 (dk_at dksL_law_9 12 rfl rfl)
theorem dL_law_333 : decode cL_law 333 = .ok (.invokevirtual 35, 3) := dk_182 0 35 (dk_at dksL_law_9 13 rfl rfl)
theorem dL_law_336 : decode cL_law 336 = .ok (.if_icmp .eq 828, 3) := dk_159 3 60 (dk_at dksL_law_9 16 rfl rfl)
theorem dL_law_339 : decode cL_law 339 = .ok (.iconst 0, 1) := dk_3 (dk_at dksL_law_9 19 rfl rfl)
theorem dL_law_340 : decode cL_law 340 = .ok (.ireturn, 1) := dk_172 (dk_at dksL_law_9 20 rfl rfl)
theorem dL_law_341 : decode cL_law 341 = .ok (.aload_n 1, 1) := dk_43 (dk_at dksL_law_9 21 rfl rfl)
theorem dL_law_342 : decode cL_law 342 = .ok (.aload_n 0, 1) := dk_42 (dk_at dksL_law_9 22 rfl rfl)
theorem dL_law_343 : decode cL_law 343 = .ok (.iload_n 3, 1) := dk_29 (dk_at dksL_law_9 23 rfl rfl)
theorem dL_law_344 : decode cL_law 344 = .ok (.iconst 1, 1) := dk_4 (dk_at dksL_law_10 0 rfl rfl)
theorem dL_law_345 : decode cL_law 345 = .ok (.iadd, 1) := dk_96 (dk_at dksL_law_10 1 rfl rfl)
theorem dL_law_346 : decode cL_law 346 = .ok (.iaload, 1) := dk_46 (dk_at dksL_law_10 2 rfl rfl)
theorem dL_law_347 : decode cL_law 347 = .ok (.aload_n 0, 1) := dk_42 (dk_at dksL_law_10 3 rfl rfl)
theorem dL_law_348 : decode cL_law 348 = .ok (.iload_n 3, 1) := dk_29 (dk_at dksL_law_10 4 rfl rfl)
theorem dL_law_349 : decode cL_law 349 = .ok (.iconst 2, 1) := dk_5 (dk_at dksL_law_10 5 rfl rfl)
theorem dL_law_350 : decode cL_law 350 = .ok (.iadd, 1) := dk_96 (dk_at dksL_law_10 6 rfl rfl)
theorem dL_law_351 : decode cL_law 351 = .ok (.iaload, 1) := dk_46 (dk_at dksL_law_10 7 rfl rfl)
theorem dL_law_352 : decode cL_law 352 = .ok (.invokevirtual 36, 3) := dk_182 0 36 (dk_at dksL_law_10 8 rfl rfl)
theorem dL_law_355 : decode cL_law 355 = .ok (.aload_n 2, 1) := dk_44 (dk_at dksL_law_10 11 rfl rfl)
theorem dL_law_356 : decode cL_law 356 = .ok (.aload_n 0, 1) := dk_42 (dk_at dksL_law_10 12 rfl rfl)
theorem dL_law_357 : decode cL_law 357 = .ok (.iload_n 3, 1) := dk_29 (dk_at dksL_law_10 13 rfl rfl)
theorem dL_law_358 : decode cL_law 358 = .ok (.iconst 1, 1) := dk_4 (dk_at dksL_law_10 14 rfl rfl)
theorem dL_law_359 : decode cL_law 359 = .ok (.iadd, 1) := dk_96 (dk_at dksL_law_10 15 rfl rfl)
theorem dL_law_360 : decode cL_law 360 = .ok (.iaload, 1) := dk_46 (dk_at dksL_law_10 16 rfl rfl)
theorem dL_law_361 : decode cL_law 361 = .ok (.aload_n 0, 1) := dk_42 (dk_at dksL_law_10 17 rfl rfl)
theorem dL_law_362 : decode cL_law 362 = .ok (.iload_n 3, 1) := dk_29 (dk_at dksL_law_10 18 rfl rfl)
theorem dL_law_363 : decode cL_law 363 = .ok (.iconst 2, 1) := dk_5 (dk_at dksL_law_10 19 rfl rfl)
theorem dL_law_364 : decode cL_law 364 = .ok (.iadd, 1) := dk_96 (dk_at dksL_law_10 20 rfl rfl)
theorem dL_law_365 : decode cL_law 365 = .ok (.iaload, 1) := dk_46 (dk_at dksL_law_10 21 rfl rfl)
theorem dL_law_366 : decode cL_law 366 = .ok (.invokevirtual 39, 3) := dk_182 0 39 (dk_at dksL_law_11 0 rfl rfl)
theorem dL_law_369 : decode cL_law 369 = .ok (.if_icmp .eq 795, 3) := dk_159 3 27 (dk_at dksL_law_11 3 rfl rfl)
theorem dL_law_372 : decode cL_law 372 = .ok (.iconst 0, 1) := dk_3 (dk_at dksL_law_11 6 rfl rfl)
theorem dL_law_373 : decode cL_law 373 = .ok (.ireturn, 1) := dk_172 (dk_at dksL_law_11 7 rfl rfl)
theorem dL_law_374 : decode cL_law 374 = .ok (.aload_n 1, 1) := dk_43 (dk_at dksL_law_11 8 rfl rfl)
theorem dL_law_375 : decode cL_law 375 = .ok (.aload_n 0, 1) := dk_42 (dk_at dksL_law_11 9 rfl rfl)
theorem dL_law_376 : decode cL_law 376 = .ok (.iload_n 3, 1) := dk_29 (dk_at dksL_law_11 10 rfl rfl)
theorem dL_law_377 : decode cL_law 377 = .ok (.iconst 1, 1) := dk_4 (dk_at dksL_law_11 11 rfl rfl)
theorem dL_law_378 : decode cL_law 378 = .ok (.iadd, 1) := dk_96 (dk_at dksL_law_11 12 rfl rfl)
theorem dL_law_379 : decode cL_law 379 = .ok (.iaload, 1) := dk_46 (dk_at dksL_law_11 13 rfl rfl)
theorem dL_law_380 : decode cL_law 380 = .ok (.aload_n 0, 1) := dk_42 (dk_at dksL_law_11 14 rfl rfl)
theorem dL_law_381 : decode cL_law 381 = .ok (.iload_n 3, 1) := dk_29 (dk_at dksL_law_11 15 rfl rfl)
theorem dL_law_382 : decode cL_law 382 = .ok (.iconst 2, 1) := dk_5 (dk_at dksL_law_11 16 rfl rfl)
theorem dL_law_383 : decode cL_law 383 = .ok (.iadd, 1) := dk_96 (dk_at dksL_law_11 17 rfl rfl)
theorem dL_law_384 : decode cL_law 384 = .ok (.iaload, 1) := dk_46 (dk_at dksL_law_11 18 rfl rfl)
theorem dL_law_385 : decode cL_law 385 = .ok (.invokevirtual 40, 3) := dk_182 0 40 (dk_at dksL_law_11 19 rfl rfl)
theorem dL_law_388 : decode cL_law 388 = .ok (.aload_n 2, 1) := dk_44 (dk_at dksL_law_11 22 rfl rfl)
theorem dL_law_389 : decode cL_law 389 = .ok (.aload_n 0, 1) := dk_42 (dk_at dksL_law_11 23 rfl rfl)
theorem dL_law_390 : decode cL_law 390 = .ok (.iload_n 3, 1) := dk_29 (dk_at dksL_law_12 0 rfl rfl)
theorem dL_law_391 : decode cL_law 391 = .ok (.iconst 1, 1) := dk_4 (dk_at dksL_law_12 1 rfl rfl)
theorem dL_law_392 : decode cL_law 392 = .ok (.iadd, 1) := dk_96 (dk_at dksL_law_12 2 rfl rfl)
theorem dL_law_393 : decode cL_law 393 = .ok (.iaload, 1) := dk_46 (dk_at dksL_law_12 3 rfl rfl)
theorem dL_law_394 : decode cL_law 394 = .ok (.aload_n 0, 1) := dk_42 (dk_at dksL_law_12 4 rfl rfl)
theorem dL_law_395 : decode cL_law 395 = .ok (.iload_n 3, 1) := dk_29 (dk_at dksL_law_12 5 rfl rfl)
theorem dL_law_396 : decode cL_law 396 = .ok (.iconst 2, 1) := dk_5 (dk_at dksL_law_12 6 rfl rfl)
theorem dL_law_397 : decode cL_law 397 = .ok (.iadd, 1) := dk_96 (dk_at dksL_law_12 7 rfl rfl)
theorem dL_law_398 : decode cL_law 398 = .ok (.iaload, 1) := dk_46 (dk_at dksL_law_12 8 rfl rfl)
theorem dL_law_399 : decode cL_law 399 = .ok (.invokevirtual 44, 3) := dk_182 0 44 (dk_at dksL_law_12 9 rfl rfl)
theorem dL_law_402 : decode cL_law 402 = .ok (.lcmp, 1) := dk_148 (dk_at dksL_law_12 12 rfl rfl)
theorem dL_law_403 : decode cL_law 403 = .ok (.ifCond .eq 761, 3) := dk_153 2 249 (dk_at dksL_law_12 13 rfl rfl)
theorem dL_law_406 : decode cL_law 406 = .ok (.iconst 0, 1) := dk_3 (dk_at dksL_law_12 16 rfl rfl)
theorem dL_law_407 : decode cL_law 407 = .ok (.ireturn, 1) := dk_172 (dk_at dksL_law_12 17 rfl rfl)
theorem dL_law_408 : decode cL_law 408 = .ok (.aload_n 1, 1) := dk_43 (dk_at dksL_law_12 18 rfl rfl)
theorem dL_law_409 : decode cL_law 409 = .ok (.aload_n 0, 1) := dk_42 (dk_at dksL_law_12 19 rfl rfl)
theorem dL_law_410 : decode cL_law 410 = .ok (.iload_n 3, 1) := dk_29 (dk_at dksL_law_12 20 rfl rfl)
theorem dL_law_411 : decode cL_law 411 = .ok (.iconst 1, 1) := dk_4 (dk_at dksL_law_12 21 rfl rfl)
theorem dL_law_412 : decode cL_law 412 = .ok (.iadd, 1) := dk_96 (dk_at dksL_law_12 22 rfl rfl)
theorem dL_law_413 : decode cL_law 413 = .ok (.iaload, 1) := dk_46 (dk_at dksL_law_12 23 rfl rfl)
theorem dL_law_414 : decode cL_law 414 = .ok (.invokevirtual 45, 3) := dk_182 0 45 (dk_at dksL_law_13 0 rfl rfl)
theorem dL_law_417 : decode cL_law 417 = .ok (.aload_n 2, 1) := dk_44 (dk_at dksL_law_13 3 rfl rfl)
theorem dL_law_418 : decode cL_law 418 = .ok (.aload_n 0, 1) := dk_42 (dk_at dksL_law_13 4 rfl rfl)
theorem dL_law_419 : decode cL_law 419 = .ok (.iload_n 3, 1) := dk_29 (dk_at dksL_law_13 5 rfl rfl)
theorem dL_law_420 : decode cL_law 420 = .ok (.iconst 1, 1) := dk_4 (dk_at dksL_law_13 6 rfl rfl)
theorem dL_law_421 : decode cL_law 421 = .ok (.iadd, 1) := dk_96 (dk_at dksL_law_13 7 rfl rfl)
theorem dL_law_422 : decode cL_law 422 = .ok (.iaload, 1) := dk_46 (dk_at dksL_law_13 8 rfl rfl)
theorem dL_law_423 : decode cL_law 423 = .ok (.invokevirtual 49, 3) := dk_182 0 49 (dk_at dksL_law_13 9 rfl rfl)
theorem dL_law_426 : decode cL_law 426 = .ok (.if_icmp .eq 738, 3) := dk_159 2 226 (dk_at dksL_law_13 12 rfl rfl)
theorem dL_law_429 : decode cL_law 429 = .ok (.iconst 0, 1) := dk_3 (dk_at dksL_law_13 15 rfl rfl)
theorem dL_law_430 : decode cL_law 430 = .ok (.ireturn, 1) := dk_172 (dk_at dksL_law_13 16 rfl rfl)
theorem dL_law_431 : decode cL_law 431 = .ok (.aload_n 1, 1) := dk_43 (dk_at dksL_law_13 17 rfl rfl)
theorem dL_law_432 : decode cL_law 432 = .ok (.aload_n 0, 1) := dk_42 (dk_at dksL_law_13 18 rfl rfl)
theorem dL_law_433 : decode cL_law 433 = .ok (.iload_n 3, 1) := dk_29 (dk_at dksL_law_13 19 rfl rfl)
theorem dL_law_434 : decode cL_law 434 = .ok (.iconst 1, 1) := dk_4 (dk_at dksL_law_13 20 rfl rfl)
theorem dL_law_435 : decode cL_law 435 = .ok (.iadd, 1) := dk_96 (dk_at dksL_law_13 21 rfl rfl)
theorem dL_law_436 : decode cL_law 436 = .ok (.iaload, 1) := dk_46 (dk_at dksL_law_13 22 rfl rfl)
theorem dL_law_437 : decode cL_law 437 = .ok (.aload_n 0, 1) := dk_42 (dk_at dksL_law_13 23 rfl rfl)
theorem dL_law_438 : decode cL_law 438 = .ok (.iload_n 3, 1) := dk_29 (dk_at dksL_law_14 0 rfl rfl)
theorem dL_law_439 : decode cL_law 439 = .ok (.iconst 2, 1) := dk_5 (dk_at dksL_law_14 1 rfl rfl)
theorem dL_law_440 : decode cL_law 440 = .ok (.iadd, 1) := dk_96 (dk_at dksL_law_14 2 rfl rfl)
theorem dL_law_441 : decode cL_law 441 = .ok (.iaload, 1) := dk_46 (dk_at dksL_law_14 3 rfl rfl)
theorem dL_law_442 : decode cL_law 442 = .ok (.invokevirtual 50, 3) := dk_182 0 50 (dk_at dksL_law_14 4 rfl rfl)
theorem dL_law_445 : decode cL_law 445 = .ok (.aload_n 2, 1) := dk_44 (dk_at dksL_law_14 7 rfl rfl)
theorem dL_law_446 : decode cL_law 446 = .ok (.aload_n 0, 1) := dk_42 (dk_at dksL_law_14 8 rfl rfl)
theorem dL_law_447 : decode cL_law 447 = .ok (.iload_n 3, 1) := dk_29 (dk_at dksL_law_14 9 rfl rfl)
theorem dL_law_448 : decode cL_law 448 = .ok (.iconst 1, 1) := dk_4 (dk_at dksL_law_14 10 rfl rfl)
theorem dL_law_449 : decode cL_law 449 = .ok (.iadd, 1) := dk_96 (dk_at dksL_law_14 11 rfl rfl)
theorem dL_law_450 : decode cL_law 450 = .ok (.iaload, 1) := dk_46 (dk_at dksL_law_14 12 rfl rfl)
theorem dL_law_451 : decode cL_law 451 = .ok (.aload_n 0, 1) := dk_42 (dk_at dksL_law_14 13 rfl rfl)
theorem dL_law_452 : decode cL_law 452 = .ok (.iload_n 3, 1) := dk_29 (dk_at dksL_law_14 14 rfl rfl)
theorem dL_law_453 : decode cL_law 453 = .ok (.iconst 2, 1) := dk_5 (dk_at dksL_law_14 15 rfl rfl)
theorem dL_law_454 : decode cL_law 454 = .ok (.iadd, 1) := dk_96 (dk_at dksL_law_14 16 rfl rfl)
theorem dL_law_455 : decode cL_law 455 = .ok (.iaload, 1) := dk_46 (dk_at dksL_law_14 17 rfl rfl)
theorem dL_law_456 : decode cL_law 456 = .ok (.invokevirtual 53, 3) := dk_182 0 53 (dk_at dksL_law_14 18 rfl rfl)
theorem dL_law_459 : decode cL_law 459 = .ok (.if_icmp .eq 705, 3) := dk_159 2 193 (dk_at dksL_law_14 21 rfl rfl)
theorem dL_law_462 : decode cL_law 462 = .ok (.iconst 0, 1) := dk_3 (dk_at dksL_law_15 0 rfl rfl)
theorem dL_law_463 : decode cL_law 463 = .ok (.ireturn, 1) := dk_172 (dk_at dksL_law_15 1 rfl rfl)
theorem dL_law_464 : decode cL_law 464 = .ok (.aload_n 1, 1) := dk_43 (dk_at dksL_law_15 2 rfl rfl)
theorem dL_law_465 : decode cL_law 465 = .ok (.aload_n 0, 1) := dk_42 (dk_at dksL_law_15 3 rfl rfl)
theorem dL_law_466 : decode cL_law 466 = .ok (.iload_n 3, 1) := dk_29 (dk_at dksL_law_15 4 rfl rfl)
theorem dL_law_467 : decode cL_law 467 = .ok (.iconst 1, 1) := dk_4 (dk_at dksL_law_15 5 rfl rfl)
theorem dL_law_468 : decode cL_law 468 = .ok (.iadd, 1) := dk_96 (dk_at dksL_law_15 6 rfl rfl)
theorem dL_law_469 : decode cL_law 469 = .ok (.iaload, 1) := dk_46 (dk_at dksL_law_15 7 rfl rfl)
theorem dL_law_470 : decode cL_law 470 = .ok (.aload_n 0, 1) := dk_42 (dk_at dksL_law_15 8 rfl rfl)
theorem dL_law_471 : decode cL_law 471 = .ok (.iload_n 3, 1) := dk_29 (dk_at dksL_law_15 9 rfl rfl)
theorem dL_law_472 : decode cL_law 472 = .ok (.iconst 2, 1) := dk_5 (dk_at dksL_law_15 10 rfl rfl)
theorem dL_law_473 : decode cL_law 473 = .ok (.iadd, 1) := dk_96 (dk_at dksL_law_15 11 rfl rfl)
theorem dL_law_474 : decode cL_law 474 = .ok (.iaload, 1) := dk_46 (dk_at dksL_law_15 12 rfl rfl)
theorem dL_law_475 : decode cL_law 475 = .ok (.aload_n 0, 1) := dk_42 (dk_at dksL_law_15 13 rfl rfl)
theorem dL_law_476 : decode cL_law 476 = .ok (.iload_n 3, 1) := dk_29 (dk_at dksL_law_15 14 rfl rfl)
theorem dL_law_477 : decode cL_law 477 = .ok (.iconst 3, 1) := dk_6 (dk_at dksL_law_15 15 rfl rfl)
theorem dL_law_478 : decode cL_law 478 = .ok (.iadd, 1) := dk_96 (dk_at dksL_law_15 16 rfl rfl)
theorem dL_law_479 : decode cL_law 479 = .ok (.iaload, 1) := dk_46 (dk_at dksL_law_15 17 rfl rfl)
theorem dL_law_480 : decode cL_law 480 = .ok (.invokevirtual 54, 3) := dk_182 0 54 (dk_at dksL_law_15 18 rfl rfl)
theorem dL_law_483 : decode cL_law 483 = .ok (.aload_n 2, 1) := dk_44 (dk_at dksL_law_15 21 rfl rfl)
theorem dL_law_484 : decode cL_law 484 = .ok (.aload_n 0, 1) := dk_42 (dk_at dksL_law_15 22 rfl rfl)
theorem dL_law_485 : decode cL_law 485 = .ok (.iload_n 3, 1) := dk_29 (dk_at dksL_law_15 23 rfl rfl)
theorem dL_law_486 : decode cL_law 486 = .ok (.iconst 1, 1) := dk_4 (dk_at dksL_law_16 0 rfl rfl)
theorem dL_law_487 : decode cL_law 487 = .ok (.iadd, 1) := dk_96 (dk_at dksL_law_16 1 rfl rfl)
theorem dL_law_488 : decode cL_law 488 = .ok (.iaload, 1) := dk_46 (dk_at dksL_law_16 2 rfl rfl)
theorem dL_law_489 : decode cL_law 489 = .ok (.aload_n 0, 1) := dk_42 (dk_at dksL_law_16 3 rfl rfl)
theorem dL_law_490 : decode cL_law 490 = .ok (.iload_n 3, 1) := dk_29 (dk_at dksL_law_16 4 rfl rfl)
theorem dL_law_491 : decode cL_law 491 = .ok (.iconst 2, 1) := dk_5 (dk_at dksL_law_16 5 rfl rfl)
theorem dL_law_492 : decode cL_law 492 = .ok (.iadd, 1) := dk_96 (dk_at dksL_law_16 6 rfl rfl)
theorem dL_law_493 : decode cL_law 493 = .ok (.iaload, 1) := dk_46 (dk_at dksL_law_16 7 rfl rfl)
theorem dL_law_494 : decode cL_law 494 = .ok (.aload_n 0, 1) := dk_42 (dk_at dksL_law_16 8 rfl rfl)
theorem dL_law_495 : decode cL_law 495 = .ok (.iload_n 3, 1) := dk_29 (dk_at dksL_law_16 9 rfl rfl)
theorem dL_law_496 : decode cL_law 496 = .ok (.iconst 3, 1) := dk_6 (dk_at dksL_law_16 10 rfl rfl)
theorem dL_law_497 : decode cL_law 497 = .ok (.iadd, 1) := dk_96 (dk_at dksL_law_16 11 rfl rfl)
theorem dL_law_498 : decode cL_law 498 = .ok (.iaload, 1) := dk_46 (dk_at dksL_law_16 12 rfl rfl)
theorem dL_law_499 : decode cL_law 499 = .ok (.invokevirtual 58, 3) := dk_182 0 58 (dk_at dksL_law_16 13 rfl rfl)
theorem dL_law_502 : decode cL_law 502 = .ok (.if_icmp .eq 662, 3) := dk_159 2 150 (dk_at dksL_law_16 16 rfl rfl)
theorem dL_law_505 : decode cL_law 505 = .ok (.iconst 0, 1) := dk_3 (dk_at dksL_law_16 19 rfl rfl)
theorem dL_law_506 : decode cL_law 506 = .ok (.ireturn, 1) := dk_172 (dk_at dksL_law_16 20 rfl rfl)
theorem dL_law_507 : decode cL_law 507 = .ok (.aload_n 1, 1) := dk_43 (dk_at dksL_law_16 21 rfl rfl)
theorem dL_law_508 : decode cL_law 508 = .ok (.aload_n 0, 1) := dk_42 (dk_at dksL_law_16 22 rfl rfl)
theorem dL_law_509 : decode cL_law 509 = .ok (.iload_n 3, 1) := dk_29 (dk_at dksL_law_16 23 rfl rfl)
theorem dL_law_510 : decode cL_law 510 = .ok (.iconst 1, 1) := dk_4 (dk_at dksL_law_17 0 rfl rfl)
theorem dL_law_511 : decode cL_law 511 = .ok (.iadd, 1) := dk_96 (dk_at dksL_law_17 1 rfl rfl)
theorem dL_law_512 : decode cL_law 512 = .ok (.iaload, 1) := dk_46 (dk_at dksL_law_17 2 rfl rfl)
theorem dL_law_513 : decode cL_law 513 = .ok (.aload_n 0, 1) := dk_42 (dk_at dksL_law_17 3 rfl rfl)
theorem dL_law_514 : decode cL_law 514 = .ok (.iload_n 3, 1) := dk_29 (dk_at dksL_law_17 4 rfl rfl)
theorem dL_law_515 : decode cL_law 515 = .ok (.iconst 2, 1) := dk_5 (dk_at dksL_law_17 5 rfl rfl)
theorem dL_law_516 : decode cL_law 516 = .ok (.iadd, 1) := dk_96 (dk_at dksL_law_17 6 rfl rfl)
theorem dL_law_517 : decode cL_law 517 = .ok (.iaload, 1) := dk_46 (dk_at dksL_law_17 7 rfl rfl)
theorem dL_law_518 : decode cL_law 518 = .ok (.invokevirtual 59, 3) := dk_182 0 59 (dk_at dksL_law_17 8 rfl rfl)
theorem dL_law_521 : decode cL_law 521 = .ok (.aload_n 2, 1) := dk_44 (dk_at dksL_law_17 11 rfl rfl)
theorem dL_law_522 : decode cL_law 522 = .ok (.aload_n 0, 1) := dk_42 (dk_at dksL_law_17 12 rfl rfl)
theorem dL_law_523 : decode cL_law 523 = .ok (.iload_n 3, 1) := dk_29 (dk_at dksL_law_17 13 rfl rfl)
theorem dL_law_524 : decode cL_law 524 = .ok (.iconst 1, 1) := dk_4 (dk_at dksL_law_17 14 rfl rfl)
theorem dL_law_525 : decode cL_law 525 = .ok (.iadd, 1) := dk_96 (dk_at dksL_law_17 15 rfl rfl)
theorem dL_law_526 : decode cL_law 526 = .ok (.iaload, 1) := dk_46 (dk_at dksL_law_17 16 rfl rfl)
theorem dL_law_527 : decode cL_law 527 = .ok (.aload_n 0, 1) := dk_42 (dk_at dksL_law_17 17 rfl rfl)
theorem dL_law_528 : decode cL_law 528 = .ok (.iload_n 3, 1) := dk_29 (dk_at dksL_law_17 18 rfl rfl)
theorem dL_law_529 : decode cL_law 529 = .ok (.iconst 2, 1) := dk_5 (dk_at dksL_law_17 19 rfl rfl)
theorem dL_law_530 : decode cL_law 530 = .ok (.iadd, 1) := dk_96 (dk_at dksL_law_17 20 rfl rfl)
theorem dL_law_531 : decode cL_law 531 = .ok (.iaload, 1) := dk_46 (dk_at dksL_law_17 21 rfl rfl)
theorem dL_law_532 : decode cL_law 532 = .ok (.invokevirtual 62, 3) := dk_182 0 62 (dk_at dksL_law_18 0 rfl rfl)
theorem dL_law_535 : decode cL_law 535 = .ok (.if_icmp .eq 629, 3) := dk_159 2 117 (dk_at dksL_law_18 3 rfl rfl)
theorem dL_law_538 : decode cL_law 538 = .ok (.iconst 0, 1) := dk_3 (dk_at dksL_law_18 6 rfl rfl)
theorem dL_law_539 : decode cL_law 539 = .ok (.ireturn, 1) := dk_172 (dk_at dksL_law_18 7 rfl rfl)
theorem dL_law_540 : decode cL_law 540 = .ok (.aload_n 1, 1) := dk_43 (dk_at dksL_law_18 8 rfl rfl)
theorem dL_law_541 : decode cL_law 541 = .ok (.aload_n 0, 1) := dk_42 (dk_at dksL_law_18 9 rfl rfl)
theorem dL_law_542 : decode cL_law 542 = .ok (.iload_n 3, 1) := dk_29 (dk_at dksL_law_18 10 rfl rfl)
theorem dL_law_543 : decode cL_law 543 = .ok (.iconst 1, 1) := dk_4 (dk_at dksL_law_18 11 rfl rfl)
theorem dL_law_544 : decode cL_law 544 = .ok (.iadd, 1) := dk_96 (dk_at dksL_law_18 12 rfl rfl)
theorem dL_law_545 : decode cL_law 545 = .ok (.iaload, 1) := dk_46 (dk_at dksL_law_18 13 rfl rfl)
theorem dL_law_546 : decode cL_law 546 = .ok (.invokevirtual 63, 3) := dk_182 0 63 (dk_at dksL_law_18 14 rfl rfl)
theorem dL_law_549 : decode cL_law 549 = .ok (.aload_n 2, 1) := dk_44 (dk_at dksL_law_18 17 rfl rfl)
theorem dL_law_550 : decode cL_law 550 = .ok (.aload_n 0, 1) := dk_42 (dk_at dksL_law_18 18 rfl rfl)
theorem dL_law_551 : decode cL_law 551 = .ok (.iload_n 3, 1) := dk_29 (dk_at dksL_law_18 19 rfl rfl)
theorem dL_law_552 : decode cL_law 552 = .ok (.iconst 1, 1) := dk_4 (dk_at dksL_law_18 20 rfl rfl)
theorem dL_law_553 : decode cL_law 553 = .ok (.iadd, 1) := dk_96 (dk_at dksL_law_18 21 rfl rfl)
theorem dL_law_554 : decode cL_law 554 = .ok (.iaload, 1) := dk_46 (dk_at dksL_law_18 22 rfl rfl)
theorem dL_law_555 : decode cL_law 555 = .ok (.invokevirtual 66, 3) := dk_182 0 66 (dk_at dksL_law_19 0 rfl rfl)
theorem dL_law_558 : decode cL_law 558 = .ok (.if_icmp .eq 606, 3) := dk_159 2 94 (dk_at dksL_law_19 3 rfl rfl)
theorem dL_law_561 : decode cL_law 561 = .ok (.iconst 0, 1) := dk_3 (dk_at dksL_law_19 6 rfl rfl)
theorem dL_law_562 : decode cL_law 562 = .ok (.ireturn, 1) := dk_172 (dk_at dksL_law_19 7 rfl rfl)
theorem dL_law_563 : decode cL_law 563 = .ok (.aload_n 1, 1) := dk_43 (dk_at dksL_law_19 8 rfl rfl)
theorem dL_law_564 : decode cL_law 564 = .ok (.aload_n 0, 1) := dk_42 (dk_at dksL_law_19 9 rfl rfl)
theorem dL_law_565 : decode cL_law 565 = .ok (.iload_n 3, 1) := dk_29 (dk_at dksL_law_19 10 rfl rfl)
theorem dL_law_566 : decode cL_law 566 = .ok (.iconst 1, 1) := dk_4 (dk_at dksL_law_19 11 rfl rfl)
theorem dL_law_567 : decode cL_law 567 = .ok (.iadd, 1) := dk_96 (dk_at dksL_law_19 12 rfl rfl)
theorem dL_law_568 : decode cL_law 568 = .ok (.iaload, 1) := dk_46 (dk_at dksL_law_19 13 rfl rfl)
theorem dL_law_569 : decode cL_law 569 = .ok (.aload_n 0, 1) := dk_42 (dk_at dksL_law_19 14 rfl rfl)
theorem dL_law_570 : decode cL_law 570 = .ok (.iload_n 3, 1) := dk_29 (dk_at dksL_law_19 15 rfl rfl)
theorem dL_law_571 : decode cL_law 571 = .ok (.iconst 2, 1) := dk_5 (dk_at dksL_law_19 16 rfl rfl)
theorem dL_law_572 : decode cL_law 572 = .ok (.iadd, 1) := dk_96 (dk_at dksL_law_19 17 rfl rfl)
theorem dL_law_573 : decode cL_law 573 = .ok (.iaload, 1) := dk_46 (dk_at dksL_law_19 18 rfl rfl)
theorem dL_law_574 : decode cL_law 574 = .ok (.aload_n 0, 1) := dk_42 (dk_at dksL_law_19 19 rfl rfl)
theorem dL_law_575 : decode cL_law 575 = .ok (.iload_n 3, 1) := dk_29 (dk_at dksL_law_19 20 rfl rfl)
theorem dL_law_576 : decode cL_law 576 = .ok (.iconst 3, 1) := dk_6 (dk_at dksL_law_19 21 rfl rfl)
theorem dL_law_577 : decode cL_law 577 = .ok (.iadd, 1) := dk_96 (dk_at dksL_law_19 22 rfl rfl)
theorem dL_law_578 : decode cL_law 578 = .ok (.iaload, 1) := dk_46 (dk_at dksL_law_19 23 rfl rfl)
theorem dL_law_579 : decode cL_law 579 = .ok (.invokevirtual 67, 3) := dk_182 0 67 (dk_at dksL_law_20 0 rfl rfl)
theorem dL_law_582 : decode cL_law 582 = .ok (.aload_n 2, 1) := dk_44 (dk_at dksL_law_20 3 rfl rfl)
theorem dL_law_583 : decode cL_law 583 = .ok (.aload_n 0, 1) := dk_42 (dk_at dksL_law_20 4 rfl rfl)
theorem dL_law_584 : decode cL_law 584 = .ok (.iload_n 3, 1) := dk_29 (dk_at dksL_law_20 5 rfl rfl)
theorem dL_law_585 : decode cL_law 585 = .ok (.iconst 1, 1) := dk_4 (dk_at dksL_law_20 6 rfl rfl)
theorem dL_law_586 : decode cL_law 586 = .ok (.iadd, 1) := dk_96 (dk_at dksL_law_20 7 rfl rfl)
theorem dL_law_587 : decode cL_law 587 = .ok (.iaload, 1) := dk_46 (dk_at dksL_law_20 8 rfl rfl)
theorem dL_law_588 : decode cL_law 588 = .ok (.aload_n 0, 1) := dk_42 (dk_at dksL_law_20 9 rfl rfl)
theorem dL_law_589 : decode cL_law 589 = .ok (.iload_n 3, 1) := dk_29 (dk_at dksL_law_20 10 rfl rfl)
theorem dL_law_590 : decode cL_law 590 = .ok (.iconst 2, 1) := dk_5 (dk_at dksL_law_20 11 rfl rfl)
theorem dL_law_591 : decode cL_law 591 = .ok (.iadd, 1) := dk_96 (dk_at dksL_law_20 12 rfl rfl)
theorem dL_law_592 : decode cL_law 592 = .ok (.iaload, 1) := dk_46 (dk_at dksL_law_20 13 rfl rfl)
theorem dL_law_593 : decode cL_law 593 = .ok (.aload_n 0, 1) := dk_42 (dk_at dksL_law_20 14 rfl rfl)
theorem dL_law_594 : decode cL_law 594 = .ok (.iload_n 3, 1) := dk_29 (dk_at dksL_law_20 15 rfl rfl)
theorem dL_law_595 : decode cL_law 595 = .ok (.iconst 3, 1) := dk_6 (dk_at dksL_law_20 16 rfl rfl)
theorem dL_law_596 : decode cL_law 596 = .ok (.iadd, 1) := dk_96 (dk_at dksL_law_20 17 rfl rfl)
theorem dL_law_597 : decode cL_law 597 = .ok (.iaload, 1) := dk_46 (dk_at dksL_law_20 18 rfl rfl)
theorem dL_law_598 : decode cL_law 598 = .ok (.invokevirtual 70, 3) := dk_182 0 70 (dk_at dksL_law_20 19 rfl rfl)
theorem dL_law_601 : decode cL_law 601 = .ok (.if_icmp .eq 563, 3) := dk_159 2 51 (dk_at dksL_law_21 0 rfl rfl)
theorem dL_law_604 : decode cL_law 604 = .ok (.iconst 0, 1) := dk_3 (dk_at dksL_law_21 3 rfl rfl)
theorem dL_law_605 : decode cL_law 605 = .ok (.ireturn, 1) := dk_172 (dk_at dksL_law_21 4 rfl rfl)
theorem dL_law_606 : decode cL_law 606 = .ok (.aload_n 1, 1) := dk_43 (dk_at dksL_law_21 5 rfl rfl)
theorem dL_law_607 : decode cL_law 607 = .ok (.aload_n 0, 1) := dk_42 (dk_at dksL_law_21 6 rfl rfl)
theorem dL_law_608 : decode cL_law 608 = .ok (.iload_n 3, 1) := dk_29 (dk_at dksL_law_21 7 rfl rfl)
theorem dL_law_609 : decode cL_law 609 = .ok (.iconst 1, 1) := dk_4 (dk_at dksL_law_21 8 rfl rfl)
theorem dL_law_610 : decode cL_law 610 = .ok (.iadd, 1) := dk_96 (dk_at dksL_law_21 9 rfl rfl)
theorem dL_law_611 : decode cL_law 611 = .ok (.iaload, 1) := dk_46 (dk_at dksL_law_21 10 rfl rfl)
theorem dL_law_612 : decode cL_law 612 = .ok (.aload_n 0, 1) := dk_42 (dk_at dksL_law_21 11 rfl rfl)
theorem dL_law_613 : decode cL_law 613 = .ok (.iload_n 3, 1) := dk_29 (dk_at dksL_law_21 12 rfl rfl)
theorem dL_law_614 : decode cL_law 614 = .ok (.iconst 2, 1) := dk_5 (dk_at dksL_law_21 13 rfl rfl)
theorem dL_law_615 : decode cL_law 615 = .ok (.iadd, 1) := dk_96 (dk_at dksL_law_21 14 rfl rfl)
theorem dL_law_616 : decode cL_law 616 = .ok (.iaload, 1) := dk_46 (dk_at dksL_law_21 15 rfl rfl)
theorem dL_law_617 : decode cL_law 617 = .ok (.invokevirtual 71, 3) := dk_182 0 71 (dk_at dksL_law_21 16 rfl rfl)
theorem dL_law_620 : decode cL_law 620 = .ok (.aload_n 2, 1) := dk_44 (dk_at dksL_law_21 19 rfl rfl)
theorem dL_law_621 : decode cL_law 621 = .ok (.aload_n 0, 1) := dk_42 (dk_at dksL_law_21 20 rfl rfl)
theorem dL_law_622 : decode cL_law 622 = .ok (.iload_n 3, 1) := dk_29 (dk_at dksL_law_21 21 rfl rfl)
theorem dL_law_623 : decode cL_law 623 = .ok (.iconst 1, 1) := dk_4 (dk_at dksL_law_21 22 rfl rfl)
theorem dL_law_624 : decode cL_law 624 = .ok (.iadd, 1) := dk_96 (dk_at dksL_law_21 23 rfl rfl)
theorem dL_law_625 : decode cL_law 625 = .ok (.iaload, 1) := dk_46 (dk_at dksL_law_22 0 rfl rfl)
theorem dL_law_626 : decode cL_law 626 = .ok (.aload_n 0, 1) := dk_42 (dk_at dksL_law_22 1 rfl rfl)
theorem dL_law_627 : decode cL_law 627 = .ok (.iload_n 3, 1) := dk_29 (dk_at dksL_law_22 2 rfl rfl)
theorem dL_law_628 : decode cL_law 628 = .ok (.iconst 2, 1) := dk_5 (dk_at dksL_law_22 3 rfl rfl)
theorem dL_law_629 : decode cL_law 629 = .ok (.iadd, 1) := dk_96 (dk_at dksL_law_22 4 rfl rfl)
theorem dL_law_630 : decode cL_law 630 = .ok (.iaload, 1) := dk_46 (dk_at dksL_law_22 5 rfl rfl)
theorem dL_law_631 : decode cL_law 631 = .ok (.invokevirtual 74, 3) := dk_182 0 74 (dk_at dksL_law_22 6 rfl rfl)
theorem dL_law_634 : decode cL_law 634 = .ok (.if_icmp .eq 530, 3) := dk_159 2 18 (dk_at dksL_law_22 9 rfl rfl)
theorem dL_law_637 : decode cL_law 637 = .ok (.iconst 0, 1) := dk_3 (dk_at dksL_law_22 12 rfl rfl)
theorem dL_law_638 : decode cL_law 638 = .ok (.ireturn, 1) := dk_172 (dk_at dksL_law_22 13 rfl rfl)
theorem dL_law_639 : decode cL_law 639 = .ok (.aload_n 1, 1) := dk_43 (dk_at dksL_law_22 14 rfl rfl)
theorem dL_law_640 : decode cL_law 640 = .ok (.aload_n 0, 1) := dk_42 (dk_at dksL_law_22 15 rfl rfl)
theorem dL_law_641 : decode cL_law 641 = .ok (.iload_n 3, 1) := dk_29 (dk_at dksL_law_22 16 rfl rfl)
theorem dL_law_642 : decode cL_law 642 = .ok (.iconst 1, 1) := dk_4 (dk_at dksL_law_22 17 rfl rfl)
theorem dL_law_643 : decode cL_law 643 = .ok (.iadd, 1) := dk_96 (dk_at dksL_law_22 18 rfl rfl)
theorem dL_law_644 : decode cL_law 644 = .ok (.iaload, 1) := dk_46 (dk_at dksL_law_22 19 rfl rfl)
theorem dL_law_645 : decode cL_law 645 = .ok (.invokevirtual 75, 3) := dk_182 0 75 (dk_at dksL_law_22 20 rfl rfl)
theorem dL_law_648 : decode cL_law 648 = .ok (.aload_n 2, 1) := dk_44 (dk_at dksL_law_22 23 rfl rfl)
theorem dL_law_649 : decode cL_law 649 = .ok (.aload_n 0, 1) := dk_42 (dk_at dksL_law_23 0 rfl rfl)
theorem dL_law_650 : decode cL_law 650 = .ok (.iload_n 3, 1) := dk_29 (dk_at dksL_law_23 1 rfl rfl)
theorem dL_law_651 : decode cL_law 651 = .ok (.iconst 1, 1) := dk_4 (dk_at dksL_law_23 2 rfl rfl)
theorem dL_law_652 : decode cL_law 652 = .ok (.iadd, 1) := dk_96 (dk_at dksL_law_23 3 rfl rfl)
theorem dL_law_653 : decode cL_law 653 = .ok (.iaload, 1) := dk_46 (dk_at dksL_law_23 4 rfl rfl)
theorem dL_law_654 : decode cL_law 654 = .ok (.invokevirtual 78, 3) := dk_182 0 78 (dk_at dksL_law_23 5 rfl rfl)
theorem dL_law_657 : decode cL_law 657 = .ok (.if_icmp .eq 507, 3) := dk_159 1 251 (dk_at dksL_law_23 8 rfl rfl)
theorem dL_law_660 : decode cL_law 660 = .ok (.iconst 0, 1) := dk_3 (dk_at dksL_law_23 11 rfl rfl)
theorem dL_law_661 : decode cL_law 661 = .ok (.ireturn, 1) := dk_172 (dk_at dksL_law_23 12 rfl rfl)
theorem dL_law_662 : decode cL_law 662 = .ok (.aload_n 1, 1) := dk_43 (dk_at dksL_law_23 13 rfl rfl)
theorem dL_law_663 : decode cL_law 663 = .ok (.invokevirtual 79, 3) := dk_182 0 79 (dk_at dksL_law_23 14 rfl rfl)
theorem dL_law_666 : decode cL_law 666 = .ok (.aload_n 2, 1) := dk_44 (dk_at dksL_law_23 17 rfl rfl)
theorem dL_law_667 : decode cL_law 667 = .ok (.invokevirtual 82, 3) := dk_182 0 82 (dk_at dksL_law_23 18 rfl rfl)
theorem dL_law_670 : decode cL_law 670 = .ok (.if_icmp .eq 494, 3) := dk_159 1 238 (dk_at dksL_law_23 21 rfl rfl)
theorem dL_law_673 : decode cL_law 673 = .ok (.iconst 0, 1) := dk_3 (dk_at dksL_law_24 0 rfl rfl)
theorem dL_law_674 : decode cL_law 674 = .ok (.ireturn, 1) := dk_172 (dk_at dksL_law_24 1 rfl rfl)
theorem dL_law_675 : decode cL_law 675 = .ok (.aload_n 1, 1) := dk_43 (dk_at dksL_law_24 2 rfl rfl)
theorem dL_law_676 : decode cL_law 676 = .ok (.aload_n 0, 1) := dk_42 (dk_at dksL_law_24 3 rfl rfl)
theorem dL_law_677 : decode cL_law 677 = .ok (.iload_n 3, 1) := dk_29 (dk_at dksL_law_24 4 rfl rfl)
theorem dL_law_678 : decode cL_law 678 = .ok (.iconst 1, 1) := dk_4 (dk_at dksL_law_24 5 rfl rfl)
theorem dL_law_679 : decode cL_law 679 = .ok (.iadd, 1) := dk_96 (dk_at dksL_law_24 6 rfl rfl)
theorem dL_law_680 : decode cL_law 680 = .ok (.iaload, 1) := dk_46 (dk_at dksL_law_24 7 rfl rfl)
theorem dL_law_681 : decode cL_law 681 = .ok (.invokevirtual 83, 3) := dk_182 0 83 (dk_at dksL_law_24 8 rfl rfl)
theorem dL_law_684 : decode cL_law 684 = .ok (.aload_n 2, 1) := dk_44 (dk_at dksL_law_24 11 rfl rfl)
theorem dL_law_685 : decode cL_law 685 = .ok (.aload_n 0, 1) := dk_42 (dk_at dksL_law_24 12 rfl rfl)
theorem dL_law_686 : decode cL_law 686 = .ok (.iload_n 3, 1) := dk_29 (dk_at dksL_law_24 13 rfl rfl)
theorem dL_law_687 : decode cL_law 687 = .ok (.iconst 1, 1) := dk_4 (dk_at dksL_law_24 14 rfl rfl)
theorem dL_law_688 : decode cL_law 688 = .ok (.iadd, 1) := dk_96 (dk_at dksL_law_24 15 rfl rfl)
theorem dL_law_689 : decode cL_law 689 = .ok (.iaload, 1) := dk_46 (dk_at dksL_law_24 16 rfl rfl)
theorem dL_law_690 : decode cL_law 690 = .ok (.invokevirtual 86, 3) := dk_182 0 86 (dk_at dksL_law_24 17 rfl rfl)
theorem dL_law_693 : decode cL_law 693 = .ok (.if_icmp .eq 471, 3) := dk_159 1 215 (dk_at dksL_law_24 20 rfl rfl)
theorem dL_law_696 : decode cL_law 696 = .ok (.iconst 0, 1) := dk_3 (dk_at dksL_law_24 23 rfl rfl)
theorem dL_law_697 : decode cL_law 697 = .ok (.ireturn, 1) := dk_172 (dk_at dksL_law_25 0 rfl rfl)
theorem dL_law_698 : decode cL_law 698 = .ok (.aload_n 1, 1) := dk_43 (dk_at dksL_law_25 1 rfl rfl)
theorem dL_law_699 : decode cL_law 699 = .ok (.invokevirtual 87, 3) := dk_182 0 87 (dk_at dksL_law_25 2 rfl rfl)
theorem dL_law_702 : decode cL_law 702 = .ok (.aload_n 2, 1) := dk_44 (dk_at dksL_law_25 5 rfl rfl)
theorem dL_law_703 : decode cL_law 703 = .ok (.invokevirtual 90, 3) := dk_182 0 90 (dk_at dksL_law_25 6 rfl rfl)
theorem dL_law_706 : decode cL_law 706 = .ok (.if_icmp .eq 458, 3) := dk_159 1 202 (dk_at dksL_law_25 9 rfl rfl)
theorem dL_law_709 : decode cL_law 709 = .ok (.iconst 0, 1) := dk_3 (dk_at dksL_law_25 12 rfl rfl)
theorem dL_law_710 : decode cL_law 710 = .ok (.ireturn, 1) := dk_172 (dk_at dksL_law_25 13 rfl rfl)
theorem dL_law_711 : decode cL_law 711 = .ok (.aload_n 1, 1) := dk_43 (dk_at dksL_law_25 14 rfl rfl)
theorem dL_law_712 : decode cL_law 712 = .ok (.aload_n 0, 1) := dk_42 (dk_at dksL_law_25 15 rfl rfl)
theorem dL_law_713 : decode cL_law 713 = .ok (.iload_n 3, 1) := dk_29 (dk_at dksL_law_25 16 rfl rfl)
theorem dL_law_714 : decode cL_law 714 = .ok (.iconst 1, 1) := dk_4 (dk_at dksL_law_25 17 rfl rfl)
theorem dL_law_715 : decode cL_law 715 = .ok (.iadd, 1) := dk_96 (dk_at dksL_law_25 18 rfl rfl)
theorem dL_law_716 : decode cL_law 716 = .ok (.iaload, 1) := dk_46 (dk_at dksL_law_25 19 rfl rfl)
theorem dL_law_717 : decode cL_law 717 = .ok (.aload_n 0, 1) := dk_42 (dk_at dksL_law_25 20 rfl rfl)
theorem dL_law_718 : decode cL_law 718 = .ok (.iload_n 3, 1) := dk_29 (dk_at dksL_law_25 21 rfl rfl)
theorem dL_law_719 : decode cL_law 719 = .ok (.iconst 2, 1) := dk_5 (dk_at dksL_law_25 22 rfl rfl)
theorem dL_law_720 : decode cL_law 720 = .ok (.iadd, 1) := dk_96 (dk_at dksL_law_25 23 rfl rfl)
theorem dL_law_721 : decode cL_law 721 = .ok (.iaload, 1) := dk_46 (dk_at dksL_law_26 0 rfl rfl)
theorem dL_law_722 : decode cL_law 722 = .ok (.invokevirtual 91, 3) := dk_182 0 91 (dk_at dksL_law_26 1 rfl rfl)
theorem dL_law_725 : decode cL_law 725 = .ok (.aload_n 2, 1) := dk_44 (dk_at dksL_law_26 4 rfl rfl)
theorem dL_law_726 : decode cL_law 726 = .ok (.aload_n 0, 1) := dk_42 (dk_at dksL_law_26 5 rfl rfl)
theorem dL_law_727 : decode cL_law 727 = .ok (.iload_n 3, 1) := dk_29 (dk_at dksL_law_26 6 rfl rfl)
theorem dL_law_728 : decode cL_law 728 = .ok (.iconst 1, 1) := dk_4 (dk_at dksL_law_26 7 rfl rfl)
theorem dL_law_729 : decode cL_law 729 = .ok (.iadd, 1) := dk_96 (dk_at dksL_law_26 8 rfl rfl)
theorem dL_law_730 : decode cL_law 730 = .ok (.iaload, 1) := dk_46 (dk_at dksL_law_26 9 rfl rfl)
theorem dL_law_731 : decode cL_law 731 = .ok (.aload_n 0, 1) := dk_42 (dk_at dksL_law_26 10 rfl rfl)
theorem dL_law_732 : decode cL_law 732 = .ok (.iload_n 3, 1) := dk_29 (dk_at dksL_law_26 11 rfl rfl)
theorem dL_law_733 : decode cL_law 733 = .ok (.iconst 2, 1) := dk_5 (dk_at dksL_law_26 12 rfl rfl)
theorem dL_law_734 : decode cL_law 734 = .ok (.iadd, 1) := dk_96 (dk_at dksL_law_26 13 rfl rfl)
theorem dL_law_735 : decode cL_law 735 = .ok (.iaload, 1) := dk_46 (dk_at dksL_law_26 14 rfl rfl)
theorem dL_law_736 : decode cL_law 736 = .ok (.invokevirtual 94, 3) := dk_182 0 94 (dk_at dksL_law_26 15 rfl rfl)
theorem dL_law_739 : decode cL_law 739 = .ok (.if_icmp .eq 425, 3) := dk_159 1 169 (dk_at dksL_law_26 18 rfl rfl)
theorem dL_law_742 : decode cL_law 742 = .ok (.iconst 0, 1) := dk_3 (dk_at dksL_law_26 21 rfl rfl)
theorem dL_law_743 : decode cL_law 743 = .ok (.ireturn, 1) := dk_172 (dk_at dksL_law_26 22 rfl rfl)
theorem dL_law_744 : decode cL_law 744 = .ok (.aload_n 1, 1) := dk_43 (dk_at dksL_law_26 23 rfl rfl)
theorem dL_law_745 : decode cL_law 745 = .ok (.aload_n 0, 1) := dk_42 (dk_at dksL_law_27 0 rfl rfl)
theorem dL_law_746 : decode cL_law 746 = .ok (.iload_n 3, 1) := dk_29 (dk_at dksL_law_27 1 rfl rfl)
theorem dL_law_747 : decode cL_law 747 = .ok (.iconst 1, 1) := dk_4 (dk_at dksL_law_27 2 rfl rfl)
theorem dL_law_748 : decode cL_law 748 = .ok (.iadd, 1) := dk_96 (dk_at dksL_law_27 3 rfl rfl)
theorem dL_law_749 : decode cL_law 749 = .ok (.iaload, 1) := dk_46 (dk_at dksL_law_27 4 rfl rfl)
theorem dL_law_750 : decode cL_law 750 = .ok (.aload_n 0, 1) := dk_42 (dk_at dksL_law_27 5 rfl rfl)
theorem dL_law_751 : decode cL_law 751 = .ok (.iload_n 3, 1) := dk_29 (dk_at dksL_law_27 6 rfl rfl)
theorem dL_law_752 : decode cL_law 752 = .ok (.iconst 2, 1) := dk_5 (dk_at dksL_law_27 7 rfl rfl)
theorem dL_law_753 : decode cL_law 753 = .ok (.iadd, 1) := dk_96 (dk_at dksL_law_27 8 rfl rfl)
theorem dL_law_754 : decode cL_law 754 = .ok (.iaload, 1) := dk_46 (dk_at dksL_law_27 9 rfl rfl)
theorem dL_law_755 : decode cL_law 755 = .ok (.aload_n 0, 1) := dk_42 (dk_at dksL_law_27 10 rfl rfl)
theorem dL_law_756 : decode cL_law 756 = .ok (.iload_n 3, 1) := dk_29 (dk_at dksL_law_27 11 rfl rfl)
theorem dL_law_757 : decode cL_law 757 = .ok (.iconst 3, 1) := dk_6 (dk_at dksL_law_27 12 rfl rfl)
theorem dL_law_758 : decode cL_law 758 = .ok (.iadd, 1) := dk_96 (dk_at dksL_law_27 13 rfl rfl)
theorem dL_law_759 : decode cL_law 759 = .ok (.iaload, 1) := dk_46 (dk_at dksL_law_27 14 rfl rfl)
theorem dL_law_760 : decode cL_law 760 = .ok (.invokevirtual 95, 3) := dk_182 0 95 (dk_at dksL_law_27 15 rfl rfl)
theorem dL_law_763 : decode cL_law 763 = .ok (.aload_n 2, 1) := dk_44 (dk_at dksL_law_27 18 rfl rfl)
theorem dL_law_764 : decode cL_law 764 = .ok (.aload_n 0, 1) := dk_42 (dk_at dksL_law_27 19 rfl rfl)
theorem dL_law_765 : decode cL_law 765 = .ok (.iload_n 3, 1) := dk_29 (dk_at dksL_law_27 20 rfl rfl)
theorem dL_law_766 : decode cL_law 766 = .ok (.iconst 1, 1) := dk_4 (dk_at dksL_law_27 21 rfl rfl)
theorem dL_law_767 : decode cL_law 767 = .ok (.iadd, 1) := dk_96 (dk_at dksL_law_27 22 rfl rfl)
theorem dL_law_768 : decode cL_law 768 = .ok (.iaload, 1) := dk_46 (dk_at dksL_law_27 23 rfl rfl)
theorem dL_law_769 : decode cL_law 769 = .ok (.aload_n 0, 1) := dk_42 (dk_at dksL_law_28 0 rfl rfl)
theorem dL_law_770 : decode cL_law 770 = .ok (.iload_n 3, 1) := dk_29 (dk_at dksL_law_28 1 rfl rfl)
theorem dL_law_771 : decode cL_law 771 = .ok (.iconst 2, 1) := dk_5 (dk_at dksL_law_28 2 rfl rfl)
theorem dL_law_772 : decode cL_law 772 = .ok (.iadd, 1) := dk_96 (dk_at dksL_law_28 3 rfl rfl)
theorem dL_law_773 : decode cL_law 773 = .ok (.iaload, 1) := dk_46 (dk_at dksL_law_28 4 rfl rfl)
theorem dL_law_774 : decode cL_law 774 = .ok (.aload_n 0, 1) := dk_42 (dk_at dksL_law_28 5 rfl rfl)
theorem dL_law_775 : decode cL_law 775 = .ok (.iload_n 3, 1) := dk_29 (dk_at dksL_law_28 6 rfl rfl)
theorem dL_law_776 : decode cL_law 776 = .ok (.iconst 3, 1) := dk_6 (dk_at dksL_law_28 7 rfl rfl)
theorem dL_law_777 : decode cL_law 777 = .ok (.iadd, 1) := dk_96 (dk_at dksL_law_28 8 rfl rfl)
theorem dL_law_778 : decode cL_law 778 = .ok (.iaload, 1) := dk_46 (dk_at dksL_law_28 9 rfl rfl)
theorem dL_law_779 : decode cL_law 779 = .ok (.invokevirtual 98, 3) := dk_182 0 98 (dk_at dksL_law_28 10 rfl rfl)
theorem dL_law_782 : decode cL_law 782 = .ok (.if_icmp .eq 382, 3) := dk_159 1 126 (dk_at dksL_law_28 13 rfl rfl)
theorem dL_law_785 : decode cL_law 785 = .ok (.iconst 0, 1) := dk_3 (dk_at dksL_law_28 16 rfl rfl)
theorem dL_law_786 : decode cL_law 786 = .ok (.ireturn, 1) := dk_172 (dk_at dksL_law_28 17 rfl rfl)
theorem dL_law_787 : decode cL_law 787 = .ok (.aload_n 1, 1) := dk_43 (dk_at dksL_law_28 18 rfl rfl)
theorem dL_law_788 : decode cL_law 788 = .ok (.aload_n 0, 1) := dk_42 (dk_at dksL_law_28 19 rfl rfl)
theorem dL_law_789 : decode cL_law 789 = .ok (.iload_n 3, 1) := dk_29 (dk_at dksL_law_28 20 rfl rfl)
theorem dL_law_790 : decode cL_law 790 = .ok (.iconst 1, 1) := dk_4 (dk_at dksL_law_28 21 rfl rfl)
theorem dL_law_791 : decode cL_law 791 = .ok (.iadd, 1) := dk_96 (dk_at dksL_law_28 22 rfl rfl)
theorem dL_law_792 : decode cL_law 792 = .ok (.iaload, 1) := dk_46 (dk_at dksL_law_28 23 rfl rfl)
theorem dL_law_793 : decode cL_law 793 = .ok (.aload_n 0, 1) := dk_42 (dk_at dksL_law_29 0 rfl rfl)
theorem dL_law_794 : decode cL_law 794 = .ok (.iload_n 3, 1) := dk_29 (dk_at dksL_law_29 1 rfl rfl)
theorem dL_law_795 : decode cL_law 795 = .ok (.iconst 2, 1) := dk_5 (dk_at dksL_law_29 2 rfl rfl)
theorem dL_law_796 : decode cL_law 796 = .ok (.iadd, 1) := dk_96 (dk_at dksL_law_29 3 rfl rfl)
theorem dL_law_797 : decode cL_law 797 = .ok (.iaload, 1) := dk_46 (dk_at dksL_law_29 4 rfl rfl)
theorem dL_law_798 : decode cL_law 798 = .ok (.invokevirtual 99, 3) := dk_182 0 99 (dk_at dksL_law_29 5 rfl rfl)
theorem dL_law_801 : decode cL_law 801 = .ok (.aload_n 2, 1) := dk_44 (dk_at dksL_law_29 8 rfl rfl)
theorem dL_law_802 : decode cL_law 802 = .ok (.aload_n 0, 1) := dk_42 (dk_at dksL_law_29 9 rfl rfl)
theorem dL_law_803 : decode cL_law 803 = .ok (.iload_n 3, 1) := dk_29 (dk_at dksL_law_29 10 rfl rfl)
theorem dL_law_804 : decode cL_law 804 = .ok (.iconst 1, 1) := dk_4 (dk_at dksL_law_29 11 rfl rfl)
theorem dL_law_805 : decode cL_law 805 = .ok (.iadd, 1) := dk_96 (dk_at dksL_law_29 12 rfl rfl)
theorem dL_law_806 : decode cL_law 806 = .ok (.iaload, 1) := dk_46 (dk_at dksL_law_29 13 rfl rfl)
theorem dL_law_807 : decode cL_law 807 = .ok (.aload_n 0, 1) := dk_42 (dk_at dksL_law_29 14 rfl rfl)
theorem dL_law_808 : decode cL_law 808 = .ok (.iload_n 3, 1) := dk_29 (dk_at dksL_law_29 15 rfl rfl)
theorem dL_law_809 : decode cL_law 809 = .ok (.iconst 2, 1) := dk_5 (dk_at dksL_law_29 16 rfl rfl)
theorem dL_law_810 : decode cL_law 810 = .ok (.iadd, 1) := dk_96 (dk_at dksL_law_29 17 rfl rfl)
theorem dL_law_811 : decode cL_law 811 = .ok (.iaload, 1) := dk_46 (dk_at dksL_law_29 18 rfl rfl)
theorem dL_law_812 : decode cL_law 812 = .ok (.invokevirtual 102, 3) := dk_182 0 102 (dk_at dksL_law_29 19 rfl rfl)
theorem dL_law_815 : decode cL_law 815 = .ok (.if_icmp .eq 349, 3) := dk_159 1 93 (dk_at dksL_law_30 0 rfl rfl)
theorem dL_law_818 : decode cL_law 818 = .ok (.iconst 0, 1) := dk_3 (dk_at dksL_law_30 3 rfl rfl)
theorem dL_law_819 : decode cL_law 819 = .ok (.ireturn, 1) := dk_172 (dk_at dksL_law_30 4 rfl rfl)
theorem dL_law_820 : decode cL_law 820 = .ok (.aload_n 1, 1) := dk_43 (dk_at dksL_law_30 5 rfl rfl)
theorem dL_law_821 : decode cL_law 821 = .ok (.aload_n 0, 1) := dk_42 (dk_at dksL_law_30 6 rfl rfl)
theorem dL_law_822 : decode cL_law 822 = .ok (.iload_n 3, 1) := dk_29 (dk_at dksL_law_30 7 rfl rfl)
theorem dL_law_823 : decode cL_law 823 = .ok (.iconst 1, 1) := dk_4 (dk_at dksL_law_30 8 rfl rfl)
theorem dL_law_824 : decode cL_law 824 = .ok (.iadd, 1) := dk_96 (dk_at dksL_law_30 9 rfl rfl)
theorem dL_law_825 : decode cL_law 825 = .ok (.iaload, 1) := dk_46 (dk_at dksL_law_30 10 rfl rfl)
theorem dL_law_826 : decode cL_law 826 = .ok (.aload_n 0, 1) := dk_42 (dk_at dksL_law_30 11 rfl rfl)
theorem dL_law_827 : decode cL_law 827 = .ok (.iload_n 3, 1) := dk_29 (dk_at dksL_law_30 12 rfl rfl)
theorem dL_law_828 : decode cL_law 828 = .ok (.iconst 2, 1) := dk_5 (dk_at dksL_law_30 13 rfl rfl)
theorem dL_law_829 : decode cL_law 829 = .ok (.iadd, 1) := dk_96 (dk_at dksL_law_30 14 rfl rfl)
theorem dL_law_830 : decode cL_law 830 = .ok (.iaload, 1) := dk_46 (dk_at dksL_law_30 15 rfl rfl)
theorem dL_law_831 : decode cL_law 831 = .ok (.aload_n 0, 1) := dk_42 (dk_at dksL_law_30 16 rfl rfl)
theorem dL_law_832 : decode cL_law 832 = .ok (.iload_n 3, 1) := dk_29 (dk_at dksL_law_30 17 rfl rfl)
theorem dL_law_833 : decode cL_law 833 = .ok (.iconst 3, 1) := dk_6 (dk_at dksL_law_30 18 rfl rfl)
theorem dL_law_834 : decode cL_law 834 = .ok (.iadd, 1) := dk_96 (dk_at dksL_law_30 19 rfl rfl)
theorem dL_law_835 : decode cL_law 835 = .ok (.iaload, 1) := dk_46 (dk_at dksL_law_30 20 rfl rfl)
theorem dL_law_836 : decode cL_law 836 = .ok (.invokevirtual 103, 3) := dk_182 0 103 (dk_at dksL_law_30 21 rfl rfl)
theorem dL_law_839 : decode cL_law 839 = .ok (.aload_n 2, 1) := dk_44 (dk_at dksL_law_31 0 rfl rfl)
theorem dL_law_840 : decode cL_law 840 = .ok (.aload_n 0, 1) := dk_42 (dk_at dksL_law_31 1 rfl rfl)
theorem dL_law_841 : decode cL_law 841 = .ok (.iload_n 3, 1) := dk_29 (dk_at dksL_law_31 2 rfl rfl)
theorem dL_law_842 : decode cL_law 842 = .ok (.iconst 1, 1) := dk_4 (dk_at dksL_law_31 3 rfl rfl)
theorem dL_law_843 : decode cL_law 843 = .ok (.iadd, 1) := dk_96 (dk_at dksL_law_31 4 rfl rfl)
theorem dL_law_844 : decode cL_law 844 = .ok (.iaload, 1) := dk_46 (dk_at dksL_law_31 5 rfl rfl)
theorem dL_law_845 : decode cL_law 845 = .ok (.aload_n 0, 1) := dk_42 (dk_at dksL_law_31 6 rfl rfl)
theorem dL_law_846 : decode cL_law 846 = .ok (.iload_n 3, 1) := dk_29 (dk_at dksL_law_31 7 rfl rfl)
theorem dL_law_847 : decode cL_law 847 = .ok (.iconst 2, 1) := dk_5 (dk_at dksL_law_31 8 rfl rfl)
theorem dL_law_848 : decode cL_law 848 = .ok (.iadd, 1) := dk_96 (dk_at dksL_law_31 9 rfl rfl)
theorem dL_law_849 : decode cL_law 849 = .ok (.iaload, 1) := dk_46 (dk_at dksL_law_31 10 rfl rfl)
theorem dL_law_850 : decode cL_law 850 = .ok (.aload_n 0, 1) := dk_42 (dk_at dksL_law_31 11 rfl rfl)
theorem dL_law_851 : decode cL_law 851 = .ok (.iload_n 3, 1) := dk_29 (dk_at dksL_law_31 12 rfl rfl)
theorem dL_law_852 : decode cL_law 852 = .ok (.iconst 3, 1) := dk_6 (dk_at dksL_law_31 13 rfl rfl)
theorem dL_law_853 : decode cL_law 853 = .ok (.iadd, 1) := dk_96 (dk_at dksL_law_31 14 rfl rfl)
theorem dL_law_854 : decode cL_law 854 = .ok (.iaload, 1) := dk_46 (dk_at dksL_law_31 15 rfl rfl)
theorem dL_law_855 : decode cL_law 855 = .ok (.invokevirtual 106, 3) := dk_182 0 106 (dk_at dksL_law_31 16 rfl rfl)
theorem dL_law_858 : decode cL_law 858 = .ok (.if_icmp .eq 306, 3) := dk_159 1 50 (dk_at dksL_law_31 19 rfl rfl)
theorem dL_law_861 : decode cL_law 861 = .ok (.iconst 0, 1) := dk_3 (dk_at dksL_law_31 22 rfl rfl)
theorem dL_law_862 : decode cL_law 862 = .ok (.ireturn, 1) := dk_172 (dk_at dksL_law_31 23 rfl rfl)
theorem dL_law_863 : decode cL_law 863 = .ok (.aload_n 1, 1) := dk_43 (dk_at dksL_law_32 0 rfl rfl)
theorem dL_law_864 : decode cL_law 864 = .ok (.aload_n 0, 1) := dk_42 (dk_at dksL_law_32 1 rfl rfl)
theorem dL_law_865 : decode cL_law 865 = .ok (.iload_n 3, 1) := dk_29 (dk_at dksL_law_32 2 rfl rfl)
theorem dL_law_866 : decode cL_law 866 = .ok (.iconst 1, 1) := dk_4 (dk_at dksL_law_32 3 rfl rfl)
theorem dL_law_867 : decode cL_law 867 = .ok (.iadd, 1) := dk_96 (dk_at dksL_law_32 4 rfl rfl)
theorem dL_law_868 : decode cL_law 868 = .ok (.iaload, 1) := dk_46 (dk_at dksL_law_32 5 rfl rfl)
theorem dL_law_869 : decode cL_law 869 = .ok (.invokevirtual 107, 3) := dk_182 0 107 (dk_at dksL_law_32 6 rfl rfl)
theorem dL_law_872 : decode cL_law 872 = .ok (.aload_n 2, 1) := dk_44 (dk_at dksL_law_32 9 rfl rfl)
theorem dL_law_873 : decode cL_law 873 = .ok (.aload_n 0, 1) := dk_42 (dk_at dksL_law_32 10 rfl rfl)
theorem dL_law_874 : decode cL_law 874 = .ok (.iload_n 3, 1) := dk_29 (dk_at dksL_law_32 11 rfl rfl)
theorem dL_law_875 : decode cL_law 875 = .ok (.iconst 1, 1) := dk_4 (dk_at dksL_law_32 12 rfl rfl)
theorem dL_law_876 : decode cL_law 876 = .ok (.iadd, 1) := dk_96 (dk_at dksL_law_32 13 rfl rfl)
theorem dL_law_877 : decode cL_law 877 = .ok (.iaload, 1) := dk_46 (dk_at dksL_law_32 14 rfl rfl)
theorem dL_law_878 : decode cL_law 878 = .ok (.invokevirtual 110, 3) := dk_182 0 110 (dk_at dksL_law_32 15 rfl rfl)
theorem dL_law_881 : decode cL_law 881 = .ok (.if_icmp .eq 283, 3) := dk_159 1 27 (dk_at dksL_law_32 18 rfl rfl)
theorem dL_law_884 : decode cL_law 884 = .ok (.iconst 0, 1) := dk_3 (dk_at dksL_law_32 21 rfl rfl)
theorem dL_law_885 : decode cL_law 885 = .ok (.ireturn, 1) := dk_172 (dk_at dksL_law_32 22 rfl rfl)
theorem dL_law_886 : decode cL_law 886 = .ok (.aload_n 1, 1) := dk_43 (dk_at dksL_law_32 23 rfl rfl)
theorem dL_law_887 : decode cL_law 887 = .ok (.aload_n 0, 1) := dk_42 (dk_at dksL_law_33 0 rfl rfl)
theorem dL_law_888 : decode cL_law 888 = .ok (.iload_n 3, 1) := dk_29 (dk_at dksL_law_33 1 rfl rfl)
theorem dL_law_889 : decode cL_law 889 = .ok (.iconst 1, 1) := dk_4 (dk_at dksL_law_33 2 rfl rfl)
theorem dL_law_890 : decode cL_law 890 = .ok (.iadd, 1) := dk_96 (dk_at dksL_law_33 3 rfl rfl)
theorem dL_law_891 : decode cL_law 891 = .ok (.iaload, 1) := dk_46 (dk_at dksL_law_33 4 rfl rfl)
theorem dL_law_892 : decode cL_law 892 = .ok (.aload_n 0, 1) := dk_42 (dk_at dksL_law_33 5 rfl rfl)
theorem dL_law_893 : decode cL_law 893 = .ok (.iload_n 3, 1) := dk_29 (dk_at dksL_law_33 6 rfl rfl)
theorem dL_law_894 : decode cL_law 894 = .ok (.iconst 2, 1) := dk_5 (dk_at dksL_law_33 7 rfl rfl)
theorem dL_law_895 : decode cL_law 895 = .ok (.iadd, 1) := dk_96 (dk_at dksL_law_33 8 rfl rfl)
theorem dL_law_896 : decode cL_law 896 = .ok (.iaload, 1) := dk_46 (dk_at dksL_law_33 9 rfl rfl)
theorem dL_law_897 : decode cL_law 897 = .ok (.aload_n 0, 1) := dk_42 (dk_at dksL_law_33 10 rfl rfl)
theorem dL_law_898 : decode cL_law 898 = .ok (.iload_n 3, 1) := dk_29 (dk_at dksL_law_33 11 rfl rfl)
theorem dL_law_899 : decode cL_law 899 = .ok (.iconst 3, 1) := dk_6 (dk_at dksL_law_33 12 rfl rfl)
theorem dL_law_900 : decode cL_law 900 = .ok (.iadd, 1) := dk_96 (dk_at dksL_law_33 13 rfl rfl)
theorem dL_law_901 : decode cL_law 901 = .ok (.iaload, 1) := dk_46 (dk_at dksL_law_33 14 rfl rfl)
theorem dL_law_902 : decode cL_law 902 = .ok (.invokevirtual 111, 3) := dk_182 0 111 (dk_at dksL_law_33 15 rfl rfl)
theorem dL_law_905 : decode cL_law 905 = .ok (.aload_n 2, 1) := dk_44 (dk_at dksL_law_33 18 rfl rfl)
theorem dL_law_906 : decode cL_law 906 = .ok (.aload_n 0, 1) := dk_42 (dk_at dksL_law_33 19 rfl rfl)
theorem dL_law_907 : decode cL_law 907 = .ok (.iload_n 3, 1) := dk_29 (dk_at dksL_law_33 20 rfl rfl)
theorem dL_law_908 : decode cL_law 908 = .ok (.iconst 1, 1) := dk_4 (dk_at dksL_law_33 21 rfl rfl)
theorem dL_law_909 : decode cL_law 909 = .ok (.iadd, 1) := dk_96 (dk_at dksL_law_33 22 rfl rfl)
theorem dL_law_910 : decode cL_law 910 = .ok (.iaload, 1) := dk_46 (dk_at dksL_law_33 23 rfl rfl)
theorem dL_law_911 : decode cL_law 911 = .ok (.aload_n 0, 1) := dk_42 (dk_at dksL_law_34 0 rfl rfl)
theorem dL_law_912 : decode cL_law 912 = .ok (.iload_n 3, 1) := dk_29 (dk_at dksL_law_34 1 rfl rfl)
theorem dL_law_913 : decode cL_law 913 = .ok (.iconst 2, 1) := dk_5 (dk_at dksL_law_34 2 rfl rfl)
theorem dL_law_914 : decode cL_law 914 = .ok (.iadd, 1) := dk_96 (dk_at dksL_law_34 3 rfl rfl)
theorem dL_law_915 : decode cL_law 915 = .ok (.iaload, 1) := dk_46 (dk_at dksL_law_34 4 rfl rfl)
theorem dL_law_916 : decode cL_law 916 = .ok (.aload_n 0, 1) := dk_42 (dk_at dksL_law_34 5 rfl rfl)
theorem dL_law_917 : decode cL_law 917 = .ok (.iload_n 3, 1) := dk_29 (dk_at dksL_law_34 6 rfl rfl)
theorem dL_law_918 : decode cL_law 918 = .ok (.iconst 3, 1) := dk_6 (dk_at dksL_law_34 7 rfl rfl)
theorem dL_law_919 : decode cL_law 919 = .ok (.iadd, 1) := dk_96 (dk_at dksL_law_34 8 rfl rfl)
theorem dL_law_920 : decode cL_law 920 = .ok (.iaload, 1) := dk_46 (dk_at dksL_law_34 9 rfl rfl)
theorem dL_law_921 : decode cL_law 921 = .ok (.invokevirtual 114, 3) := dk_182 0 114 (dk_at dksL_law_34 10 rfl rfl)
theorem dL_law_924 : decode cL_law 924 = .ok (.if_icmp .eq 240, 3) := dk_159 0 240 (dk_at dksL_law_34 13 rfl rfl)
theorem dL_law_927 : decode cL_law 927 = .ok (.iconst 0, 1) := dk_3 (dk_at dksL_law_34 16 rfl rfl)
theorem dL_law_928 : decode cL_law 928 = .ok (.ireturn, 1) := dk_172 (dk_at dksL_law_34 17 rfl rfl)
theorem dL_law_929 : decode cL_law 929 = .ok (.aload_n 1, 1) := dk_43 (dk_at dksL_law_34 18 rfl rfl)
theorem dL_law_930 : decode cL_law 930 = .ok (.aload_n 0, 1) := dk_42 (dk_at dksL_law_34 19 rfl rfl)
theorem dL_law_931 : decode cL_law 931 = .ok (.iload_n 3, 1) := dk_29 (dk_at dksL_law_34 20 rfl rfl)
theorem dL_law_932 : decode cL_law 932 = .ok (.iconst 1, 1) := dk_4 (dk_at dksL_law_34 21 rfl rfl)
theorem dL_law_933 : decode cL_law 933 = .ok (.iadd, 1) := dk_96 (dk_at dksL_law_34 22 rfl rfl)
theorem dL_law_934 : decode cL_law 934 = .ok (.iaload, 1) := dk_46 (dk_at dksL_law_34 23 rfl rfl)
theorem dL_law_935 : decode cL_law 935 = .ok (.aload_n 0, 1) := dk_42 (dk_at dksL_law_35 0 rfl rfl)
theorem dL_law_936 : decode cL_law 936 = .ok (.iload_n 3, 1) := dk_29 (dk_at dksL_law_35 1 rfl rfl)
theorem dL_law_937 : decode cL_law 937 = .ok (.iconst 2, 1) := dk_5 (dk_at dksL_law_35 2 rfl rfl)
theorem dL_law_938 : decode cL_law 938 = .ok (.iadd, 1) := dk_96 (dk_at dksL_law_35 3 rfl rfl)
theorem dL_law_939 : decode cL_law 939 = .ok (.iaload, 1) := dk_46 (dk_at dksL_law_35 4 rfl rfl)
theorem dL_law_940 : decode cL_law 940 = .ok (.aload_n 0, 1) := dk_42 (dk_at dksL_law_35 5 rfl rfl)
theorem dL_law_941 : decode cL_law 941 = .ok (.iload_n 3, 1) := dk_29 (dk_at dksL_law_35 6 rfl rfl)
theorem dL_law_942 : decode cL_law 942 = .ok (.iconst 3, 1) := dk_6 (dk_at dksL_law_35 7 rfl rfl)
theorem dL_law_943 : decode cL_law 943 = .ok (.iadd, 1) := dk_96 (dk_at dksL_law_35 8 rfl rfl)
theorem dL_law_944 : decode cL_law 944 = .ok (.iaload, 1) := dk_46 (dk_at dksL_law_35 9 rfl rfl)
theorem dL_law_945 : decode cL_law 945 = .ok (.invokevirtual 115, 3) := dk_182 0 115 (dk_at dksL_law_35 10 rfl rfl)
theorem dL_law_948 : decode cL_law 948 = .ok (.aload_n 2, 1) := dk_44 (dk_at dksL_law_35 13 rfl rfl)
theorem dL_law_949 : decode cL_law 949 = .ok (.aload_n 0, 1) := dk_42 (dk_at dksL_law_35 14 rfl rfl)
theorem dL_law_950 : decode cL_law 950 = .ok (.iload_n 3, 1) := dk_29 (dk_at dksL_law_35 15 rfl rfl)
theorem dL_law_951 : decode cL_law 951 = .ok (.iconst 1, 1) := dk_4 (dk_at dksL_law_35 16 rfl rfl)
theorem dL_law_952 : decode cL_law 952 = .ok (.iadd, 1) := dk_96 (dk_at dksL_law_35 17 rfl rfl)
theorem dL_law_953 : decode cL_law 953 = .ok (.iaload, 1) := dk_46 (dk_at dksL_law_35 18 rfl rfl)
theorem dL_law_954 : decode cL_law 954 = .ok (.aload_n 0, 1) := dk_42 (dk_at dksL_law_35 19 rfl rfl)
theorem dL_law_955 : decode cL_law 955 = .ok (.iload_n 3, 1) := dk_29 (dk_at dksL_law_35 20 rfl rfl)
theorem dL_law_956 : decode cL_law 956 = .ok (.iconst 2, 1) := dk_5 (dk_at dksL_law_35 21 rfl rfl)
theorem dL_law_957 : decode cL_law 957 = .ok (.iadd, 1) := dk_96 (dk_at dksL_law_35 22 rfl rfl)
theorem dL_law_958 : decode cL_law 958 = .ok (.iaload, 1) := dk_46 (dk_at dksL_law_35 23 rfl rfl)
theorem dL_law_959 : decode cL_law 959 = .ok (.aload_n 0, 1) := dk_42 (dk_at dksL_law_36 0 rfl rfl)
theorem dL_law_960 : decode cL_law 960 = .ok (.iload_n 3, 1) := dk_29 (dk_at dksL_law_36 1 rfl rfl)
theorem dL_law_961 : decode cL_law 961 = .ok (.iconst 3, 1) := dk_6 (dk_at dksL_law_36 2 rfl rfl)
theorem dL_law_962 : decode cL_law 962 = .ok (.iadd, 1) := dk_96 (dk_at dksL_law_36 3 rfl rfl)
theorem dL_law_963 : decode cL_law 963 = .ok (.iaload, 1) := dk_46 (dk_at dksL_law_36 4 rfl rfl)
theorem dL_law_964 : decode cL_law 964 = .ok (.invokevirtual 119, 3) := dk_182 0 119 (dk_at dksL_law_36 5 rfl rfl)
theorem dL_law_967 : decode cL_law 967 = .ok (.lcmp, 1) := dk_148 (dk_at dksL_law_36 8 rfl rfl)
theorem dL_law_968 : decode cL_law 968 = .ok (.ifCond .eq 196, 3) := dk_153 0 196 (dk_at dksL_law_36 9 rfl rfl)
theorem dL_law_971 : decode cL_law 971 = .ok (.iconst 0, 1) := dk_3 (dk_at dksL_law_36 12 rfl rfl)
theorem dL_law_972 : decode cL_law 972 = .ok (.ireturn, 1) := dk_172 (dk_at dksL_law_36 13 rfl rfl)
theorem dL_law_973 : decode cL_law 973 = .ok (.aload_n 1, 1) := dk_43 (dk_at dksL_law_36 14 rfl rfl)
theorem dL_law_974 : decode cL_law 974 = .ok (.aload_n 0, 1) := dk_42 (dk_at dksL_law_36 15 rfl rfl)
theorem dL_law_975 : decode cL_law 975 = .ok (.iload_n 3, 1) := dk_29 (dk_at dksL_law_36 16 rfl rfl)
theorem dL_law_976 : decode cL_law 976 = .ok (.iconst 1, 1) := dk_4 (dk_at dksL_law_36 17 rfl rfl)
theorem dL_law_977 : decode cL_law 977 = .ok (.iadd, 1) := dk_96 (dk_at dksL_law_36 18 rfl rfl)
theorem dL_law_978 : decode cL_law 978 = .ok (.iaload, 1) := dk_46 (dk_at dksL_law_36 19 rfl rfl)
theorem dL_law_979 : decode cL_law 979 = .ok (.aload_n 0, 1) := dk_42 (dk_at dksL_law_36 20 rfl rfl)
theorem dL_law_980 : decode cL_law 980 = .ok (.iload_n 3, 1) := dk_29 (dk_at dksL_law_36 21 rfl rfl)
theorem dL_law_981 : decode cL_law 981 = .ok (.iconst 2, 1) := dk_5 (dk_at dksL_law_36 22 rfl rfl)
theorem dL_law_982 : decode cL_law 982 = .ok (.iadd, 1) := dk_96 (dk_at dksL_law_36 23 rfl rfl)
theorem dL_law_983 : decode cL_law 983 = .ok (.iaload, 1) := dk_46 (dk_at dksL_law_37 0 rfl rfl)
theorem dL_law_984 : decode cL_law 984 = .ok (.aload_n 0, 1) := dk_42 (dk_at dksL_law_37 1 rfl rfl)
theorem dL_law_985 : decode cL_law 985 = .ok (.iload_n 3, 1) := dk_29 (dk_at dksL_law_37 2 rfl rfl)
theorem dL_law_986 : decode cL_law 986 = .ok (.iconst 3, 1) := dk_6 (dk_at dksL_law_37 3 rfl rfl)
theorem dL_law_987 : decode cL_law 987 = .ok (.iadd, 1) := dk_96 (dk_at dksL_law_37 4 rfl rfl)
theorem dL_law_988 : decode cL_law 988 = .ok (.iaload, 1) := dk_46 (dk_at dksL_law_37 5 rfl rfl)
theorem dL_law_989 : decode cL_law 989 = .ok (.aload_n 0, 1) := dk_42 (dk_at dksL_law_37 6 rfl rfl)
theorem dL_law_990 : decode cL_law 990 = .ok (.iload_n 3, 1) := dk_29 (dk_at dksL_law_37 7 rfl rfl)
theorem dL_law_991 : decode cL_law 991 = .ok (.iconst 4, 1) := dk_7 (dk_at dksL_law_37 8 rfl rfl)
theorem dL_law_992 : decode cL_law 992 = .ok (.iadd, 1) := dk_96 (dk_at dksL_law_37 9 rfl rfl)
theorem dL_law_993 : decode cL_law 993 = .ok (.iaload, 1) := dk_46 (dk_at dksL_law_37 10 rfl rfl)
theorem dL_law_994 : decode cL_law 994 = .ok (.aload_n 0, 1) := dk_42 (dk_at dksL_law_37 11 rfl rfl)
theorem dL_law_995 : decode cL_law 995 = .ok (.iload_n 3, 1) := dk_29 (dk_at dksL_law_37 12 rfl rfl)
theorem dL_law_996 : decode cL_law 996 = .ok (.iconst 5, 1) := dk_8 (dk_at dksL_law_37 13 rfl rfl)
theorem dL_law_997 : decode cL_law 997 = .ok (.iadd, 1) := dk_96 (dk_at dksL_law_37 14 rfl rfl)
theorem dL_law_998 : decode cL_law 998 = .ok (.iaload, 1) := dk_46 (dk_at dksL_law_37 15 rfl rfl)
theorem dL_law_999 : decode cL_law 999 = .ok (.invokevirtual 120, 3) := dk_182 0 120 (dk_at dksL_law_37 16 rfl rfl)
theorem dL_law_1002 : decode cL_law 1002 = .ok (.aload_n 2, 1) := dk_44 (dk_at dksL_law_37 19 rfl rfl)
theorem dL_law_1003 : decode cL_law 1003 = .ok (.aload_n 0, 1) := dk_42 (dk_at dksL_law_37 20 rfl rfl)
theorem dL_law_1004 : decode cL_law 1004 = .ok (.iload_n 3, 1) := dk_29 (dk_at dksL_law_37 21 rfl rfl)
theorem dL_law_1005 : decode cL_law 1005 = .ok (.iconst 1, 1) := dk_4 (dk_at dksL_law_37 22 rfl rfl)
theorem dL_law_1006 : decode cL_law 1006 = .ok (.iadd, 1) := dk_96 (dk_at dksL_law_37 23 rfl rfl)
theorem dL_law_1007 : decode cL_law 1007 = .ok (.iaload, 1) := dk_46 (dk_at dksL_law_38 0 rfl rfl)
theorem dL_law_1008 : decode cL_law 1008 = .ok (.aload_n 0, 1) := dk_42 (dk_at dksL_law_38 1 rfl rfl)
theorem dL_law_1009 : decode cL_law 1009 = .ok (.iload_n 3, 1) := dk_29 (dk_at dksL_law_38 2 rfl rfl)
theorem dL_law_1010 : decode cL_law 1010 = .ok (.iconst 2, 1) := dk_5 (dk_at dksL_law_38 3 rfl rfl)
theorem dL_law_1011 : decode cL_law 1011 = .ok (.iadd, 1) := dk_96 (dk_at dksL_law_38 4 rfl rfl)
theorem dL_law_1012 : decode cL_law 1012 = .ok (.iaload, 1) := dk_46 (dk_at dksL_law_38 5 rfl rfl)
theorem dL_law_1013 : decode cL_law 1013 = .ok (.aload_n 0, 1) := dk_42 (dk_at dksL_law_38 6 rfl rfl)
theorem dL_law_1014 : decode cL_law 1014 = .ok (.iload_n 3, 1) := dk_29 (dk_at dksL_law_38 7 rfl rfl)
theorem dL_law_1015 : decode cL_law 1015 = .ok (.iconst 3, 1) := dk_6 (dk_at dksL_law_38 8 rfl rfl)
theorem dL_law_1016 : decode cL_law 1016 = .ok (.iadd, 1) := dk_96 (dk_at dksL_law_38 9 rfl rfl)
theorem dL_law_1017 : decode cL_law 1017 = .ok (.iaload, 1) := dk_46 (dk_at dksL_law_38 10 rfl rfl)
theorem dL_law_1018 : decode cL_law 1018 = .ok (.aload_n 0, 1) := dk_42 (dk_at dksL_law_38 11 rfl rfl)
theorem dL_law_1019 : decode cL_law 1019 = .ok (.iload_n 3, 1) := dk_29 (dk_at dksL_law_38 12 rfl rfl)
theorem dL_law_1020 : decode cL_law 1020 = .ok (.iconst 4, 1) := dk_7 (dk_at dksL_law_38 13 rfl rfl)
theorem dL_law_1021 : decode cL_law 1021 = .ok (.iadd, 1) := dk_96 (dk_at dksL_law_38 14 rfl rfl)
theorem dL_law_1022 : decode cL_law 1022 = .ok (.iaload, 1) := dk_46 (dk_at dksL_law_38 15 rfl rfl)
theorem dL_law_1023 : decode cL_law 1023 = .ok (.aload_n 0, 1) := dk_42 (dk_at dksL_law_38 16 rfl rfl)
theorem dL_law_1024 : decode cL_law 1024 = .ok (.iload_n 3, 1) := dk_29 (dk_at dksL_law_38 17 rfl rfl)
theorem dL_law_1025 : decode cL_law 1025 = .ok (.iconst 5, 1) := dk_8 (dk_at dksL_law_38 18 rfl rfl)
theorem dL_law_1026 : decode cL_law 1026 = .ok (.iadd, 1) := dk_96 (dk_at dksL_law_38 19 rfl rfl)
theorem dL_law_1027 : decode cL_law 1027 = .ok (.iaload, 1) := dk_46 (dk_at dksL_law_38 20 rfl rfl)
theorem dL_law_1028 : decode cL_law 1028 = .ok (.invokevirtual 124, 3) := dk_182 0 124 (dk_at dksL_law_38 21 rfl rfl)
theorem dL_law_1031 : decode cL_law 1031 = .ok (.if_icmp .eq 133, 3) := dk_159 0 133 (dk_at dksL_law_39 0 rfl rfl)
theorem dL_law_1034 : decode cL_law 1034 = .ok (.iconst 0, 1) := dk_3 (dk_at dksL_law_39 3 rfl rfl)
theorem dL_law_1035 : decode cL_law 1035 = .ok (.ireturn, 1) := dk_172 (dk_at dksL_law_39 4 rfl rfl)
theorem dL_law_1036 : decode cL_law 1036 = .ok (.aload_n 1, 1) := dk_43 (dk_at dksL_law_39 5 rfl rfl)
theorem dL_law_1037 : decode cL_law 1037 = .ok (.aload_n 0, 1) := dk_42 (dk_at dksL_law_39 6 rfl rfl)
theorem dL_law_1038 : decode cL_law 1038 = .ok (.iload_n 3, 1) := dk_29 (dk_at dksL_law_39 7 rfl rfl)
theorem dL_law_1039 : decode cL_law 1039 = .ok (.iconst 1, 1) := dk_4 (dk_at dksL_law_39 8 rfl rfl)
theorem dL_law_1040 : decode cL_law 1040 = .ok (.iadd, 1) := dk_96 (dk_at dksL_law_39 9 rfl rfl)
theorem dL_law_1041 : decode cL_law 1041 = .ok (.iaload, 1) := dk_46 (dk_at dksL_law_39 10 rfl rfl)
theorem dL_law_1042 : decode cL_law 1042 = .ok (.invokevirtual 125, 3) := dk_182 0 125 (dk_at dksL_law_39 11 rfl rfl)
theorem dL_law_1045 : decode cL_law 1045 = .ok (.aload_n 2, 1) := dk_44 (dk_at dksL_law_39 14 rfl rfl)
theorem dL_law_1046 : decode cL_law 1046 = .ok (.aload_n 0, 1) := dk_42 (dk_at dksL_law_39 15 rfl rfl)
theorem dL_law_1047 : decode cL_law 1047 = .ok (.iload_n 3, 1) := dk_29 (dk_at dksL_law_39 16 rfl rfl)
theorem dL_law_1048 : decode cL_law 1048 = .ok (.iconst 1, 1) := dk_4 (dk_at dksL_law_39 17 rfl rfl)
theorem dL_law_1049 : decode cL_law 1049 = .ok (.iadd, 1) := dk_96 (dk_at dksL_law_39 18 rfl rfl)
theorem dL_law_1050 : decode cL_law 1050 = .ok (.iaload, 1) := dk_46 (dk_at dksL_law_39 19 rfl rfl)
theorem dL_law_1051 : decode cL_law 1051 = .ok (.invokevirtual 128, 3) := dk_182 0 128 (dk_at dksL_law_39 20 rfl rfl)
theorem dL_law_1054 : decode cL_law 1054 = .ok (.if_icmp .eq 110, 3) := dk_159 0 110 (dk_at dksL_law_40 0 rfl rfl)
theorem dL_law_1057 : decode cL_law 1057 = .ok (.iconst 0, 1) := dk_3 (dk_at dksL_law_40 3 rfl rfl)
theorem dL_law_1058 : decode cL_law 1058 = .ok (.ireturn, 1) := dk_172 (dk_at dksL_law_40 4 rfl rfl)
theorem dL_law_1059 : decode cL_law 1059 = .ok (.aload_n 1, 1) := dk_43 (dk_at dksL_law_40 5 rfl rfl)
theorem dL_law_1060 : decode cL_law 1060 = .ok (.aload_n 0, 1) := dk_42 (dk_at dksL_law_40 6 rfl rfl)
theorem dL_law_1061 : decode cL_law 1061 = .ok (.iload_n 3, 1) := dk_29 (dk_at dksL_law_40 7 rfl rfl)
theorem dL_law_1062 : decode cL_law 1062 = .ok (.iconst 1, 1) := dk_4 (dk_at dksL_law_40 8 rfl rfl)
theorem dL_law_1063 : decode cL_law 1063 = .ok (.iadd, 1) := dk_96 (dk_at dksL_law_40 9 rfl rfl)
theorem dL_law_1064 : decode cL_law 1064 = .ok (.iaload, 1) := dk_46 (dk_at dksL_law_40 10 rfl rfl)
theorem dL_law_1065 : decode cL_law 1065 = .ok (.invokevirtual 129, 3) := dk_182 0 129 (dk_at dksL_law_40 11 rfl rfl)
theorem dL_law_1068 : decode cL_law 1068 = .ok (.aload_n 2, 1) := dk_44 (dk_at dksL_law_40 14 rfl rfl)
theorem dL_law_1069 : decode cL_law 1069 = .ok (.aload_n 0, 1) := dk_42 (dk_at dksL_law_40 15 rfl rfl)
theorem dL_law_1070 : decode cL_law 1070 = .ok (.iload_n 3, 1) := dk_29 (dk_at dksL_law_40 16 rfl rfl)
theorem dL_law_1071 : decode cL_law 1071 = .ok (.iconst 1, 1) := dk_4 (dk_at dksL_law_40 17 rfl rfl)
theorem dL_law_1072 : decode cL_law 1072 = .ok (.iadd, 1) := dk_96 (dk_at dksL_law_40 18 rfl rfl)
theorem dL_law_1073 : decode cL_law 1073 = .ok (.iaload, 1) := dk_46 (dk_at dksL_law_40 19 rfl rfl)
theorem dL_law_1074 : decode cL_law 1074 = .ok (.invokevirtual 132, 3) := dk_182 0 132 (dk_at dksL_law_40 20 rfl rfl)
theorem dL_law_1077 : decode cL_law 1077 = .ok (.if_icmp .eq 87, 3) := dk_159 0 87 (dk_at dksL_law_41 0 rfl rfl)
theorem dL_law_1080 : decode cL_law 1080 = .ok (.iconst 0, 1) := dk_3 (dk_at dksL_law_41 3 rfl rfl)
theorem dL_law_1081 : decode cL_law 1081 = .ok (.ireturn, 1) := dk_172 (dk_at dksL_law_41 4 rfl rfl)
theorem dL_law_1082 : decode cL_law 1082 = .ok (.aload_n 1, 1) := dk_43 (dk_at dksL_law_41 5 rfl rfl)
theorem dL_law_1083 : decode cL_law 1083 = .ok (.aload_n 0, 1) := dk_42 (dk_at dksL_law_41 6 rfl rfl)
theorem dL_law_1084 : decode cL_law 1084 = .ok (.iload_n 3, 1) := dk_29 (dk_at dksL_law_41 7 rfl rfl)
theorem dL_law_1085 : decode cL_law 1085 = .ok (.iconst 1, 1) := dk_4 (dk_at dksL_law_41 8 rfl rfl)
theorem dL_law_1086 : decode cL_law 1086 = .ok (.iadd, 1) := dk_96 (dk_at dksL_law_41 9 rfl rfl)
theorem dL_law_1087 : decode cL_law 1087 = .ok (.iaload, 1) := dk_46 (dk_at dksL_law_41 10 rfl rfl)
theorem dL_law_1088 : decode cL_law 1088 = .ok (.aload_n 0, 1) := dk_42 (dk_at dksL_law_41 11 rfl rfl)
theorem dL_law_1089 : decode cL_law 1089 = .ok (.iload_n 3, 1) := dk_29 (dk_at dksL_law_41 12 rfl rfl)
theorem dL_law_1090 : decode cL_law 1090 = .ok (.iconst 2, 1) := dk_5 (dk_at dksL_law_41 13 rfl rfl)
theorem dL_law_1091 : decode cL_law 1091 = .ok (.iadd, 1) := dk_96 (dk_at dksL_law_41 14 rfl rfl)
theorem dL_law_1092 : decode cL_law 1092 = .ok (.iaload, 1) := dk_46 (dk_at dksL_law_41 15 rfl rfl)
theorem dL_law_1093 : decode cL_law 1093 = .ok (.invokevirtual 133, 3) := dk_182 0 133 (dk_at dksL_law_41 16 rfl rfl)
theorem dL_law_1096 : decode cL_law 1096 = .ok (.aload_n 2, 1) := dk_44 (dk_at dksL_law_41 19 rfl rfl)
theorem dL_law_1097 : decode cL_law 1097 = .ok (.aload_n 0, 1) := dk_42 (dk_at dksL_law_41 20 rfl rfl)
theorem dL_law_1098 : decode cL_law 1098 = .ok (.iload_n 3, 1) := dk_29 (dk_at dksL_law_41 21 rfl rfl)
theorem dL_law_1099 : decode cL_law 1099 = .ok (.iconst 1, 1) := dk_4 (dk_at dksL_law_41 22 rfl rfl)
theorem dL_law_1100 : decode cL_law 1100 = .ok (.iadd, 1) := dk_96 (dk_at dksL_law_41 23 rfl rfl)
theorem dL_law_1101 : decode cL_law 1101 = .ok (.iaload, 1) := dk_46 (dk_at dksL_law_42 0 rfl rfl)
theorem dL_law_1102 : decode cL_law 1102 = .ok (.aload_n 0, 1) := dk_42 (dk_at dksL_law_42 1 rfl rfl)
theorem dL_law_1103 : decode cL_law 1103 = .ok (.iload_n 3, 1) := dk_29 (dk_at dksL_law_42 2 rfl rfl)
theorem dL_law_1104 : decode cL_law 1104 = .ok (.iconst 2, 1) := dk_5 (dk_at dksL_law_42 3 rfl rfl)
theorem dL_law_1105 : decode cL_law 1105 = .ok (.iadd, 1) := dk_96 (dk_at dksL_law_42 4 rfl rfl)
theorem dL_law_1106 : decode cL_law 1106 = .ok (.iaload, 1) := dk_46 (dk_at dksL_law_42 5 rfl rfl)
theorem dL_law_1107 : decode cL_law 1107 = .ok (.invokevirtual 136, 3) := dk_182 0 136 (dk_at dksL_law_42 6 rfl rfl)
theorem dL_law_1110 : decode cL_law 1110 = .ok (.if_icmp .eq 54, 3) := dk_159 0 54 (dk_at dksL_law_42 9 rfl rfl)
theorem dL_law_1113 : decode cL_law 1113 = .ok (.iconst 0, 1) := dk_3 (dk_at dksL_law_42 12 rfl rfl)
theorem dL_law_1114 : decode cL_law 1114 = .ok (.ireturn, 1) := dk_172 (dk_at dksL_law_42 13 rfl rfl)
theorem dL_law_1115 : decode cL_law 1115 = .ok (.aload_n 1, 1) := dk_43 (dk_at dksL_law_42 14 rfl rfl)
theorem dL_law_1116 : decode cL_law 1116 = .ok (.invokevirtual 137, 3) := dk_182 0 137 (dk_at dksL_law_42 15 rfl rfl)
theorem dL_law_1119 : decode cL_law 1119 = .ok (.aload_n 2, 1) := dk_44 (dk_at dksL_law_42 18 rfl rfl)
theorem dL_law_1120 : decode cL_law 1120 = .ok (.invokevirtual 140, 3) := dk_182 0 140 (dk_at dksL_law_42 19 rfl rfl)
theorem dL_law_1123 : decode cL_law 1123 = .ok (.if_icmp .eq 41, 3) := dk_159 0 41 (dk_at dksL_law_43 0 rfl rfl)
theorem dL_law_1126 : decode cL_law 1126 = .ok (.iconst 0, 1) := dk_3 (dk_at dksL_law_43 3 rfl rfl)
theorem dL_law_1127 : decode cL_law 1127 = .ok (.ireturn, 1) := dk_172 (dk_at dksL_law_43 4 rfl rfl)
theorem dL_law_1128 : decode cL_law 1128 = .ok (.aload_n 1, 1) := dk_43 (dk_at dksL_law_43 5 rfl rfl)
theorem dL_law_1129 : decode cL_law 1129 = .ok (.invokevirtual 141, 3) := dk_182 0 141 (dk_at dksL_law_43 6 rfl rfl)
theorem dL_law_1132 : decode cL_law 1132 = .ok (.aload_n 2, 1) := dk_44 (dk_at dksL_law_43 9 rfl rfl)
theorem dL_law_1133 : decode cL_law 1133 = .ok (.invokevirtual 144, 3) := dk_182 0 144 (dk_at dksL_law_43 10 rfl rfl)
theorem dL_law_1136 : decode cL_law 1136 = .ok (.if_icmp .eq 28, 3) := dk_159 0 28 (dk_at dksL_law_43 13 rfl rfl)
theorem dL_law_1139 : decode cL_law 1139 = .ok (.iconst 0, 1) := dk_3 (dk_at dksL_law_43 16 rfl rfl)
theorem dL_law_1140 : decode cL_law 1140 = .ok (.ireturn, 1) := dk_172 (dk_at dksL_law_43 17 rfl rfl)
theorem dL_law_1141 : decode cL_law 1141 = .ok (.aload_n 1, 1) := dk_43 (dk_at dksL_law_43 18 rfl rfl)
theorem dL_law_1142 : decode cL_law 1142 = .ok (.aload_n 0, 1) := dk_42 (dk_at dksL_law_43 19 rfl rfl)
theorem dL_law_1143 : decode cL_law 1143 = .ok (.iload_n 3, 1) := dk_29 (dk_at dksL_law_43 20 rfl rfl)
theorem dL_law_1144 : decode cL_law 1144 = .ok (.iconst 1, 1) := dk_4 (dk_at dksL_law_43 21 rfl rfl)
theorem dL_law_1145 : decode cL_law 1145 = .ok (.iadd, 1) := dk_96 (dk_at dksL_law_43 22 rfl rfl)
theorem dL_law_1146 : decode cL_law 1146 = .ok (.iaload, 1) := dk_46 (dk_at dksL_law_43 23 rfl rfl)
theorem dL_law_1147 : decode cL_law 1147 = .ok (.invokevirtual 145, 3) := dk_182 0 145 (dk_at dksL_law_44 0 rfl rfl)
theorem dL_law_1150 : decode cL_law 1150 = .ok (.aload_n 2, 1) := dk_44 (dk_at dksL_law_44 3 rfl rfl)
theorem dL_law_1151 : decode cL_law 1151 = .ok (.aload_n 0, 1) := dk_42 (dk_at dksL_law_44 4 rfl rfl)
theorem dL_law_1152 : decode cL_law 1152 = .ok (.iload_n 3, 1) := dk_29 (dk_at dksL_law_44 5 rfl rfl)
theorem dL_law_1153 : decode cL_law 1153 = .ok (.iconst 1, 1) := dk_4 (dk_at dksL_law_44 6 rfl rfl)
theorem dL_law_1154 : decode cL_law 1154 = .ok (.iadd, 1) := dk_96 (dk_at dksL_law_44 7 rfl rfl)
theorem dL_law_1155 : decode cL_law 1155 = .ok (.iaload, 1) := dk_46 (dk_at dksL_law_44 8 rfl rfl)
theorem dL_law_1156 : decode cL_law 1156 = .ok (.invokevirtual 148, 3) := dk_182 0 148 (dk_at dksL_law_44 9 rfl rfl)
theorem dL_law_1159 : decode cL_law 1159 = .ok (.if_icmp .eq 5, 3) := dk_159 0 5 (dk_at dksL_law_44 12 rfl rfl)
theorem dL_law_1162 : decode cL_law 1162 = .ok (.iconst 0, 1) := dk_3 (dk_at dksL_law_44 15 rfl rfl)
theorem dL_law_1163 : decode cL_law 1163 = .ok (.ireturn, 1) := dk_172 (dk_at dksL_law_44 16 rfl rfl)
theorem dL_law_1164 : decode cL_law 1164 = .ok (.iinc 3 6, 3) := dk_132 3 6 (dk_at dksL_law_44 17 rfl rfl)
theorem dL_law_1167 : decode cL_law 1167 = .ok (.goto (-1149), 3) := dk_167 251 131 (dk_at dksL_law_44 20 rfl rfl)
theorem dL_law_1170 : decode cL_law 1170 = .ok (.iconst 1, 1) := dk_4 (dk_at dksL_law_44 23 rfl rfl)
theorem dL_law_1171 : decode cL_law 1171 = .ok (.ireturn, 1) := dk_172 (dk_at dksL_law_45 0 rfl rfl)
theorem q59 : (Jvm.Cond.initialized "CallRoundsLaw") ∈ lw_all := lw_g (lw_at lw_m1 0 rfl) rfl
set_option maxRecDepth 100000
theorem q94 : (Jvm.Cond.classLink "CallRoundsLaw" (7 : Nat) "CallRounds") ∈ lw_all := lw_g (lw_at lw_m1 35 rfl) rfl
theorem q96 : (Jvm.Cond.methodLink "CallRoundsLaw" (9 : Nat) ({ cls := "CallRounds", name := "<init>", desc := "()V" } : Jvm.MethodName)) ∈ lw_all := lw_g (lw_at lw_m1 37 rfl) rfl
theorem q184 : (Jvm.Cond.methodLink "CallRoundsLaw" (23 : Nat) ({ cls := "CallRounds", name := "call", desc := "(II)I" } : Jvm.MethodName)) ∈ lw_all := lw_g (lw_at lw_m1 125 rfl) rfl
theorem q414 : (Jvm.Cond.methodLink "CallRoundsLaw" (27 : Nat) ({ cls := "CallRounds", name := "ofCall", desc := "(II)I" } : Jvm.MethodName)) ∈ lw_all := lw_g (lw_at lw_m2 115 rfl) rfl
theorem q436 : (Jvm.Cond.methodLink "CallRoundsLaw" (31 : Nat) ({ cls := "CallRounds", name := "back", desc := "()I" } : Jvm.MethodName)) ∈ lw_all := lw_g (lw_at lw_m2 137 rfl) rfl
theorem q454 : (Jvm.Cond.methodLink "CallRoundsLaw" (18 : Nat) ({ cls := "CallRounds", name := "ofPerson", desc := "(II)I" } : Jvm.MethodName)) ∈ lw_all := lw_g (lw_at lw_m2 155 rfl) rfl
theorem q458 : (Jvm.Cond.methodLink "CallRoundsLaw" (36 : Nat) ({ cls := "CallRounds", name := "may", desc := "(II)I" } : Jvm.MethodName)) ∈ lw_all := lw_g (lw_at lw_m2 159 rfl) rfl
theorem q473 : (Jvm.Cond.methodLink "CallRoundsLaw" (40 : Nat) ({ cls := "CallRounds", name := "runs", desc := "(II)J" } : Jvm.MethodName)) ∈ lw_all := lw_g (lw_at lw_m2 174 rfl) rfl
theorem q496 : (Jvm.Cond.methodLink "CallRoundsLaw" (45 : Nat) ({ cls := "CallRounds", name := "verdict", desc := "(I)I" } : Jvm.MethodName)) ∈ lw_all := lw_g (lw_at lw_m2 197 rfl) rfl
theorem q504 : (Jvm.Cond.methodLink "CallRoundsLaw" (50 : Nat) ({ cls := "CallRounds", name := "calls", desc := "(II)I" } : Jvm.MethodName)) ∈ lw_all := lw_g (lw_at lw_m2 205 rfl) rfl
theorem q508 : (Jvm.Cond.methodLink "CallRoundsLaw" (54 : Nat) ({ cls := "CallRounds", name := "keeps", desc := "(III)I" } : Jvm.MethodName)) ∈ lw_all := lw_g (lw_at lw_m2 209 rfl) rfl
theorem q512 : (Jvm.Cond.methodLink "CallRoundsLaw" (59 : Nat) ({ cls := "CallRounds", name := "best", desc := "(II)I" } : Jvm.MethodName)) ∈ lw_all := lw_g (lw_at lw_m2 213 rfl) rfl
theorem q516 : (Jvm.Cond.methodLink "CallRoundsLaw" (63 : Nat) ({ cls := "CallRounds", name := "alike", desc := "(I)I" } : Jvm.MethodName)) ∈ lw_all := lw_g (lw_at lw_m2 217 rfl) rfl
theorem q533 : (Jvm.Cond.methodLink "CallRoundsLaw" (67 : Nat) ({ cls := "CallRounds", name := "sure", desc := "(III)I" } : Jvm.MethodName)) ∈ lw_all := lw_g (lw_at lw_m2 234 rfl) rfl
theorem q537 : (Jvm.Cond.methodLink "CallRoundsLaw" (71 : Nat) ({ cls := "CallRounds", name := "known", desc := "(II)I" } : Jvm.MethodName)) ∈ lw_all := lw_g (lw_at lw_m2 238 rfl) rfl
theorem q541 : (Jvm.Cond.methodLink "CallRoundsLaw" (75 : Nat) ({ cls := "CallRounds", name := "end", desc := "(I)I" } : Jvm.MethodName)) ∈ lw_all := lw_g (lw_at lw_m3 2 rfl) rfl
theorem q545 : (Jvm.Cond.methodLink "CallRoundsLaw" (79 : Nat) ({ cls := "CallRounds", name := "joined", desc := "()I" } : Jvm.MethodName)) ∈ lw_all := lw_g (lw_at lw_m3 6 rfl) rfl
theorem q557 : (Jvm.Cond.methodLink "CallRoundsLaw" (83 : Nat) ({ cls := "CallRounds", name := "bridge", desc := "(I)I" } : Jvm.MethodName)) ∈ lw_all := lw_g (lw_at lw_m3 18 rfl) rfl
theorem q601 : (Jvm.Cond.methodLink "CallRoundsLaw" (91 : Nat) ({ cls := "CallRounds", name := "mend", desc := "(II)I" } : Jvm.MethodName)) ∈ lw_all := lw_g (lw_at lw_m3 62 rfl) rfl
theorem q622 : (Jvm.Cond.methodLink "CallRoundsLaw" (87 : Nat) ({ cls := "CallRounds", name := "sun", desc := "()I" } : Jvm.MethodName)) ∈ lw_all := lw_g (lw_at lw_m3 83 rfl) rfl
theorem q626 : (Jvm.Cond.methodLink "CallRoundsLaw" (95 : Nat) ({ cls := "CallRounds", name := "nets", desc := "(III)I" } : Jvm.MethodName)) ∈ lw_all := lw_g (lw_at lw_m3 87 rfl) rfl
theorem q643 : (Jvm.Cond.methodLink "CallRoundsLaw" (99 : Nat) ({ cls := "CallRounds", name := "within", desc := "(II)I" } : Jvm.MethodName)) ∈ lw_all := lw_g (lw_at lw_m3 104 rfl) rfl
theorem q651 : (Jvm.Cond.methodLink "CallRoundsLaw" (103 : Nat) ({ cls := "CallRounds", name := "sheet", desc := "(III)I" } : Jvm.MethodName)) ∈ lw_all := lw_g (lw_at lw_m3 112 rfl) rfl
theorem q768 : (Jvm.Cond.methodLink "CallRoundsLaw" (107 : Nat) ({ cls := "CallRounds", name := "lose", desc := "(I)I" } : Jvm.MethodName)) ∈ lw_all := lw_g (lw_at lw_m3 229 rfl) rfl
theorem q772 : (Jvm.Cond.methodLink "CallRoundsLaw" (111 : Nat) ({ cls := "CallRounds", name := "put", desc := "(III)I" } : Jvm.MethodName)) ∈ lw_all := lw_g (lw_at lw_m3 233 rfl) rfl
theorem q825 : (Jvm.Cond.methodLink "CallRoundsLaw" (115 : Nat) ({ cls := "CallRounds", name := "cell", desc := "(III)J" } : Jvm.MethodName)) ∈ lw_all := lw_g (lw_at lw_m4 46 rfl) rfl
theorem q854 : (Jvm.Cond.methodLink "CallRoundsLaw" (13 : Nat) ({ cls := "CallRounds", name := "net", desc := "(IIII)I" } : Jvm.MethodName)) ∈ lw_all := lw_g (lw_at lw_m4 75 rfl) rfl
theorem q1004 : (Jvm.Cond.methodLink "CallRoundsLaw" (120 : Nat) ({ cls := "CallRounds", name := "copy", desc := "(IIIII)I" } : Jvm.MethodName)) ∈ lw_all := lw_g (lw_at lw_m4 225 rfl) rfl
theorem q1037 : (Jvm.Cond.methodLink "CallRoundsLaw" (125 : Nat) ({ cls := "CallRounds", name := "tell", desc := "(I)I" } : Jvm.MethodName)) ∈ lw_all := lw_g (lw_at lw_m5 18 rfl) rfl
theorem q1088 : (Jvm.Cond.methodLink "CallRoundsLaw" (129 : Nat) ({ cls := "CallRounds", name := "log", desc := "(I)I" } : Jvm.MethodName)) ∈ lw_all := lw_g (lw_at lw_m5 69 rfl) rfl
theorem q1134 : (Jvm.Cond.methodLink "CallRoundsLaw" (133 : Nat) ({ cls := "CallRounds", name := "as", desc := "(II)I" } : Jvm.MethodName)) ∈ lw_all := lw_g (lw_at lw_m5 115 rfl) rfl
theorem q1158 : (Jvm.Cond.methodLink "CallRoundsLaw" (137 : Nat) ({ cls := "CallRounds", name := "trace", desc := "()I" } : Jvm.MethodName)) ∈ lw_all := lw_g (lw_at lw_m5 139 rfl) rfl
theorem q1162 : (Jvm.Cond.methodLink "CallRoundsLaw" (141 : Nat) ({ cls := "CallRounds", name := "fault", desc := "()I" } : Jvm.MethodName)) ∈ lw_all := lw_g (lw_at lw_m5 143 rfl) rfl
theorem q1166 : (Jvm.Cond.methodLink "CallRoundsLaw" (145 : Nat) ({ cls := "CallRounds", name := "many", desc := "(I)I" } : Jvm.MethodName)) ∈ lw_all := lw_g (lw_at lw_m5 147 rfl) rfl
theorem q1171 : (Jvm.Cond.classLink "CallRoundsLaw" (10 : Nat) "CallRoundsModel") ∈ lw_all := lw_g (lw_at lw_m5 152 rfl) rfl
theorem q1173 : (Jvm.Cond.methodLink "CallRoundsLaw" (12 : Nat) ({ cls := "CallRoundsModel", name := "<init>", desc := "()V" } : Jvm.MethodName)) ∈ lw_all := lw_g (lw_at lw_m5 154 rfl) rfl
theorem q1269 : (Jvm.Cond.methodLink "CallRoundsLaw" (17 : Nat) ({ cls := "CallRoundsModel", name := "net", desc := "(IIII)I" } : Jvm.MethodName)) ∈ lw_all := lw_g (lw_at lw_m6 10 rfl) rfl
theorem q1293 : (Jvm.Cond.methodLink "CallRoundsLaw" (22 : Nat) ({ cls := "CallRoundsModel", name := "ofPerson", desc := "(II)I" } : Jvm.MethodName)) ∈ lw_all := lw_g (lw_at lw_m6 34 rfl) rfl
theorem q1326 : (Jvm.Cond.methodLink "CallRoundsLaw" (26 : Nat) ({ cls := "CallRoundsModel", name := "call", desc := "(II)I" } : Jvm.MethodName)) ∈ lw_all := lw_g (lw_at lw_m6 67 rfl) rfl
theorem q1330 : (Jvm.Cond.methodLink "CallRoundsLaw" (30 : Nat) ({ cls := "CallRoundsModel", name := "ofCall", desc := "(II)I" } : Jvm.MethodName)) ∈ lw_all := lw_g (lw_at lw_m6 71 rfl) rfl
theorem q1349 : (Jvm.Cond.methodLink "CallRoundsLaw" (35 : Nat) ({ cls := "CallRoundsModel", name := "back", desc := "()I" } : Jvm.MethodName)) ∈ lw_all := lw_g (lw_at lw_m6 90 rfl) rfl
theorem q1353 : (Jvm.Cond.methodLink "CallRoundsLaw" (39 : Nat) ({ cls := "CallRoundsModel", name := "may", desc := "(II)I" } : Jvm.MethodName)) ∈ lw_all := lw_g (lw_at lw_m6 94 rfl) rfl
theorem q1363 : (Jvm.Cond.methodLink "CallRoundsLaw" (44 : Nat) ({ cls := "CallRoundsModel", name := "runs", desc := "(II)J" } : Jvm.MethodName)) ∈ lw_all := lw_g (lw_at lw_m6 104 rfl) rfl
theorem q1400 : (Jvm.Cond.methodLink "CallRoundsLaw" (49 : Nat) ({ cls := "CallRoundsModel", name := "verdict", desc := "(I)I" } : Jvm.MethodName)) ∈ lw_all := lw_g (lw_at lw_m6 141 rfl) rfl
theorem q1408 : (Jvm.Cond.methodLink "CallRoundsLaw" (53 : Nat) ({ cls := "CallRoundsModel", name := "calls", desc := "(II)I" } : Jvm.MethodName)) ∈ lw_all := lw_g (lw_at lw_m6 149 rfl) rfl
theorem q1412 : (Jvm.Cond.methodLink "CallRoundsLaw" (58 : Nat) ({ cls := "CallRoundsModel", name := "keeps", desc := "(III)I" } : Jvm.MethodName)) ∈ lw_all := lw_g (lw_at lw_m6 153 rfl) rfl
theorem q1416 : (Jvm.Cond.methodLink "CallRoundsLaw" (62 : Nat) ({ cls := "CallRoundsModel", name := "best", desc := "(II)I" } : Jvm.MethodName)) ∈ lw_all := lw_g (lw_at lw_m6 157 rfl) rfl
theorem q1420 : (Jvm.Cond.methodLink "CallRoundsLaw" (66 : Nat) ({ cls := "CallRoundsModel", name := "alike", desc := "(I)I" } : Jvm.MethodName)) ∈ lw_all := lw_g (lw_at lw_m6 161 rfl) rfl
theorem q1436 : (Jvm.Cond.methodLink "CallRoundsLaw" (70 : Nat) ({ cls := "CallRoundsModel", name := "sure", desc := "(III)I" } : Jvm.MethodName)) ∈ lw_all := lw_g (lw_at lw_m6 177 rfl) rfl
theorem q1440 : (Jvm.Cond.methodLink "CallRoundsLaw" (74 : Nat) ({ cls := "CallRoundsModel", name := "known", desc := "(II)I" } : Jvm.MethodName)) ∈ lw_all := lw_g (lw_at lw_m6 181 rfl) rfl
theorem q1444 : (Jvm.Cond.methodLink "CallRoundsLaw" (78 : Nat) ({ cls := "CallRoundsModel", name := "end", desc := "(I)I" } : Jvm.MethodName)) ∈ lw_all := lw_g (lw_at lw_m6 185 rfl) rfl
theorem q1448 : (Jvm.Cond.methodLink "CallRoundsLaw" (82 : Nat) ({ cls := "CallRoundsModel", name := "joined", desc := "()I" } : Jvm.MethodName)) ∈ lw_all := lw_g (lw_at lw_m6 189 rfl) rfl
theorem q1455 : (Jvm.Cond.methodLink "CallRoundsLaw" (86 : Nat) ({ cls := "CallRoundsModel", name := "bridge", desc := "(I)I" } : Jvm.MethodName)) ∈ lw_all := lw_g (lw_at lw_m6 196 rfl) rfl
theorem q1463 : (Jvm.Cond.methodLink "CallRoundsLaw" (90 : Nat) ({ cls := "CallRoundsModel", name := "sun", desc := "()I" } : Jvm.MethodName)) ∈ lw_all := lw_g (lw_at lw_m6 204 rfl) rfl
theorem q1467 : (Jvm.Cond.methodLink "CallRoundsLaw" (94 : Nat) ({ cls := "CallRoundsModel", name := "mend", desc := "(II)I" } : Jvm.MethodName)) ∈ lw_all := lw_g (lw_at lw_m6 208 rfl) rfl
theorem q1475 : (Jvm.Cond.methodLink "CallRoundsLaw" (98 : Nat) ({ cls := "CallRoundsModel", name := "nets", desc := "(III)I" } : Jvm.MethodName)) ∈ lw_all := lw_g (lw_at lw_m6 216 rfl) rfl
theorem q1483 : (Jvm.Cond.methodLink "CallRoundsLaw" (102 : Nat) ({ cls := "CallRoundsModel", name := "within", desc := "(II)I" } : Jvm.MethodName)) ∈ lw_all := lw_g (lw_at lw_m6 224 rfl) rfl
theorem q1487 : (Jvm.Cond.methodLink "CallRoundsLaw" (106 : Nat) ({ cls := "CallRoundsModel", name := "sheet", desc := "(III)I" } : Jvm.MethodName)) ∈ lw_all := lw_g (lw_at lw_m6 228 rfl) rfl
theorem q1491 : (Jvm.Cond.methodLink "CallRoundsLaw" (110 : Nat) ({ cls := "CallRoundsModel", name := "lose", desc := "(I)I" } : Jvm.MethodName)) ∈ lw_all := lw_g (lw_at lw_m6 232 rfl) rfl
theorem q1495 : (Jvm.Cond.methodLink "CallRoundsLaw" (114 : Nat) ({ cls := "CallRoundsModel", name := "put", desc := "(III)I" } : Jvm.MethodName)) ∈ lw_all := lw_g (lw_at lw_m6 236 rfl) rfl
theorem q1499 : (Jvm.Cond.methodLink "CallRoundsLaw" (119 : Nat) ({ cls := "CallRoundsModel", name := "cell", desc := "(III)J" } : Jvm.MethodName)) ∈ lw_all := lw_g (lw_at lw_m7 0 rfl) rfl
theorem q1507 : (Jvm.Cond.methodLink "CallRoundsLaw" (124 : Nat) ({ cls := "CallRoundsModel", name := "copy", desc := "(IIIII)I" } : Jvm.MethodName)) ∈ lw_all := lw_g (lw_at lw_m7 8 rfl) rfl
theorem q1511 : (Jvm.Cond.methodLink "CallRoundsLaw" (128 : Nat) ({ cls := "CallRoundsModel", name := "tell", desc := "(I)I" } : Jvm.MethodName)) ∈ lw_all := lw_g (lw_at lw_m7 12 rfl) rfl
theorem q1519 : (Jvm.Cond.methodLink "CallRoundsLaw" (132 : Nat) ({ cls := "CallRoundsModel", name := "log", desc := "(I)I" } : Jvm.MethodName)) ∈ lw_all := lw_g (lw_at lw_m7 20 rfl) rfl
theorem q1523 : (Jvm.Cond.methodLink "CallRoundsLaw" (136 : Nat) ({ cls := "CallRoundsModel", name := "as", desc := "(II)I" } : Jvm.MethodName)) ∈ lw_all := lw_g (lw_at lw_m7 24 rfl) rfl
theorem q1527 : (Jvm.Cond.methodLink "CallRoundsLaw" (140 : Nat) ({ cls := "CallRoundsModel", name := "trace", desc := "()I" } : Jvm.MethodName)) ∈ lw_all := lw_g (lw_at lw_m7 28 rfl) rfl
theorem q1531 : (Jvm.Cond.methodLink "CallRoundsLaw" (144 : Nat) ({ cls := "CallRoundsModel", name := "fault", desc := "()I" } : Jvm.MethodName)) ∈ lw_all := lw_g (lw_at lw_m7 32 rfl) rfl
theorem q1535 : (Jvm.Cond.methodLink "CallRoundsLaw" (148 : Nat) ({ cls := "CallRoundsModel", name := "many", desc := "(I)I" } : Jvm.MethodName)) ∈ lw_all := lw_g (lw_at lw_m7 36 rfl) rfl
theorem q1577 : (Jvm.Cond.castable "[B" "java/lang/Object") ∈ lw_tbl := lw_at lw_m7 78 rfl
set_option maxRecDepth 100000
theorem q631 : (Jvm.Cond.sameMethod "[I" "java/lang/Object" "clone" "()Ljava/lang/Object;") ∈ lw_all := lw_g (lw_at lw_m3 92 rfl) rfl
set_option maxRecDepth 100000
theorem q634 : (Jvm.Cond.selects "[I" ({ cls := "[I", name := "clone", desc := "()Ljava/lang/Object;" } : Jvm.MethodName) ({ cls := "java/lang/Object", name := "clone", desc := "()Ljava/lang/Object;" } : Jvm.MethodName)) ∈ lw_all := lw_g (lw_at lw_m3 95 rfl) rfl
theorem q635 : (Jvm.Cond.castable "[I" "java/lang/Cloneable") ∈ lw_tbl := lw_at lw_m3 96 rfl
theorem q1573 : (Jvm.Cond.castable "[I" "java/lang/Object") ∈ lw_tbl := lw_at lw_m7 74 rfl
theorem q1575 : (Jvm.Cond.castable "[J" "java/lang/Object") ∈ lw_tbl := lw_at lw_m7 76 rfl
set_option maxRecDepth 100000
theorem q1574 : (Jvm.Cond.castable "[LCallRounds$Sheet;" "java/lang/Object") ∈ lw_tbl := lw_at lw_m7 75 rfl
set_option maxRecDepth 100000
theorem q1570 : (Jvm.Cond.sameMethod "[Ljava/lang/Object;" "java/lang/Object" "getClass" "()Ljava/lang/Class;") ∈ lw_all := lw_g (lw_at lw_m7 71 rfl) rfl
set_option maxRecDepth 100000
theorem q1571 : (Jvm.Cond.selects "[Ljava/lang/Object;" ({ cls := "java/lang/Object", name := "getClass", desc := "()Ljava/lang/Class;" } : Jvm.MethodName) ({ cls := "java/lang/Object", name := "getClass", desc := "()Ljava/lang/Class;" } : Jvm.MethodName)) ∈ lw_all := lw_g (lw_at lw_m7 72 rfl) rfl
theorem q1576 : (Jvm.Cond.castable "[Ljava/lang/Object;" "java/lang/Object") ∈ lw_tbl := lw_at lw_m7 77 rfl
theorem q1578 : (Jvm.Cond.castable "[S" "java/lang/Object") ∈ lw_tbl := lw_at lw_m7 79 rfl
set_option maxRecDepth 100000
theorem q77 : (Jvm.Cond.initialized "java/lang/System") ∈ lw_all := lw_g (lw_at lw_m1 18 rfl) rfl
set_option maxRecDepth 100000
theorem q410 : (Jvm.Cond.static ({ cls := "java/lang/System", name := "arraycopy", desc := "(Ljava/lang/Object;ILjava/lang/Object;II)V" } : Jvm.MethodName)) ∈ lw_all := lw_g (lw_at lw_m2 111 rfl) rfl
theorem q411 : (Jvm.Cond.native ({ cls := "java/lang/System", name := "arraycopy", desc := "(Ljava/lang/Object;ILjava/lang/Object;II)V" } : Jvm.MethodName)) ∈ lw_all := lw_g (lw_at lw_m2 112 rfl) rfl
theorem q201 : (Jvm.Cond.interfaceMethod "java/util/List" "java/util/List" "isEmpty" "()Z") ∈ lw_tbl := lw_at lw_m1 142 rfl
set_option maxRecDepth 100000
theorem q202 : (Jvm.Cond.declares ({ cls := "java/util/List", name := "isEmpty", desc := "()Z" } : Jvm.MethodName)) ∈ lw_tbl := lw_at lw_m1 143 rfl
theorem q215 : (Jvm.Cond.interfaceMethod "java/util/List" "java/util/List" "size" "()I") ∈ lw_tbl := lw_at lw_m1 156 rfl
theorem q216 : (Jvm.Cond.declares ({ cls := "java/util/List", name := "size", desc := "()I" } : Jvm.MethodName)) ∈ lw_tbl := lw_at lw_m1 157 rfl
theorem q224 : (Jvm.Cond.interfaceMethod "java/util/List" "java/util/List" "get" "(I)Ljava/lang/Object;") ∈ lw_tbl := lw_at lw_m1 165 rfl
theorem q225 : (Jvm.Cond.declares ({ cls := "java/util/List", name := "get", desc := "(I)Ljava/lang/Object;" } : Jvm.MethodName)) ∈ lw_tbl := lw_at lw_m1 166 rfl
theorem q345 : (Jvm.Cond.interfaceMethod "java/util/List" "java/util/List" "add" "(Ljava/lang/Object;)Z") ∈ lw_tbl := lw_at lw_m2 46 rfl
theorem q346 : (Jvm.Cond.declares ({ cls := "java/util/List", name := "add", desc := "(Ljava/lang/Object;)Z" } : Jvm.MethodName)) ∈ lw_tbl := lw_at lw_m2 47 rfl
theorem q442 : (Jvm.Cond.interfaceMethod "java/util/List" "java/util/List" "remove" "(I)Ljava/lang/Object;") ∈ lw_tbl := lw_at lw_m2 143 rfl
theorem q443 : (Jvm.Cond.declares ({ cls := "java/util/List", name := "remove", desc := "(I)Ljava/lang/Object;" } : Jvm.MethodName)) ∈ lw_tbl := lw_at lw_m2 144 rfl
theorem q991 : (Jvm.Cond.interfaceMethod "java/util/List" "java/util/List" "clear" "()V") ∈ lw_tbl := lw_at lw_m4 212 rfl
theorem q992 : (Jvm.Cond.declares ({ cls := "java/util/List", name := "clear", desc := "()V" } : Jvm.MethodName)) ∈ lw_tbl := lw_at lw_m4 213 rfl
theorem q128 : (Jvm.Cond.arrayClass Jvm.ClassFile.FieldType.int) ∈ lw_all := lw_g (lw_at lw_m1 69 rfl) rfl
set_option maxRecDepth 100000
theorem q131 : (Jvm.Cond.arrayOver (Jvm.ClassFile.FieldType.object "CallRounds$Sheet")) ∈ lw_tbl := lw_at lw_m1 72 rfl
theorem q183 : (Jvm.Cond.arrayClass Jvm.ClassFile.FieldType.long) ∈ lw_all := lw_g (lw_at lw_m1 124 rfl) rfl
theorem q404 : (Jvm.Cond.arrayOver (Jvm.ClassFile.FieldType.object "java/lang/Object")) ∈ lw_tbl := lw_at lw_m2 105 rfl
theorem q737 : (Jvm.Cond.arrayClass Jvm.ClassFile.FieldType.byte) ∈ lw_all := lw_g (lw_at lw_m3 198 rfl) rfl
theorem q763 : (Jvm.Cond.arrayClass Jvm.ClassFile.FieldType.short) ∈ lw_all := lw_g (lw_at lw_m3 224 rfl) rfl
