/-! the law's own entry -/
set_option maxRecDepth 100000
abbrev cL_law : ByteArray := code
def dkwL_law_58 : List UInt8 := [96, 46, 182, 0, 211, 159, 0, 5, 3, 172, 132, 3, 6, 167, 250, 3, 4, 172]
abbrev dktL_law_58 : List UInt8 := dkwL_law_58 ++ []
def dkwL_law_57 : List UInt8 := [4, 96, 46, 182, 0, 207, 159, 0, 28, 3, 172, 43, 42, 29, 4, 96, 46, 182, 0, 208, 44, 42, 29, 4]
abbrev dktL_law_57 : List UInt8 := dkwL_law_57 ++ dktL_law_58
def dkwL_law_56 : List UInt8 := [182, 0, 200, 44, 182, 0, 203, 159, 0, 51, 3, 172, 43, 42, 29, 4, 96, 46, 182, 0, 204, 44, 42, 29]
abbrev dktL_law_56 : List UInt8 := dkwL_law_56 ++ dktL_law_57
def dkwL_law_55 : List UInt8 := [182, 0, 195, 159, 0, 77, 3, 172, 43, 182, 0, 196, 44, 182, 0, 199, 159, 0, 64, 3, 172, 43]
abbrev dktL_law_55 : List UInt8 := dkwL_law_55 ++ dktL_law_56
def dkwL_law_54 : List UInt8 := [46, 182, 0, 188, 44, 42, 29, 4, 96, 46, 182, 0, 191, 159, 0, 90, 3, 172, 43, 182, 0, 192, 44]
abbrev dktL_law_54 : List UInt8 := dkwL_law_54 ++ dktL_law_55
def dkwL_law_53 : List UInt8 := [96, 46, 182, 0, 184, 44, 42, 29, 4, 96, 46, 182, 0, 187, 159, 0, 113, 3, 172, 43, 42, 29, 4, 96]
abbrev dktL_law_53 : List UInt8 := dkwL_law_53 ++ dktL_law_54
def dkwL_law_52 : List UInt8 := [96, 46, 42, 29, 7, 96, 46, 42, 29, 8, 96, 46, 182, 0, 183, 159, 0, 136, 3, 172, 43, 42, 29, 4]
abbrev dktL_law_52 : List UInt8 := dkwL_law_52 ++ dktL_law_53
def dkwL_law_51 : List UInt8 := [96, 46, 42, 29, 8, 96, 46, 182, 0, 179, 44, 42, 29, 4, 96, 46, 42, 29, 5, 96, 46, 42, 29, 6]
abbrev dktL_law_51 : List UInt8 := dkwL_law_51 ++ dktL_law_52
def dkwL_law_50 : List UInt8 := [159, 0, 199, 3, 172, 43, 42, 29, 4, 96, 46, 42, 29, 5, 96, 46, 42, 29, 6, 96, 46, 42, 29, 7]
abbrev dktL_law_50 : List UInt8 := dkwL_law_50 ++ dktL_law_51
def dkwL_law_49 : List UInt8 := [46, 182, 0, 175, 44, 42, 29, 4, 96, 46, 42, 29, 5, 96, 46, 42, 29, 6, 96, 46, 182, 0, 178]
abbrev dktL_law_49 : List UInt8 := dkwL_law_49 ++ dktL_law_50
def dkwL_law_48 : List UInt8 := [46, 182, 0, 174, 159, 0, 242, 3, 172, 43, 42, 29, 4, 96, 46, 42, 29, 5, 96, 46, 42, 29, 6, 96]
abbrev dktL_law_48 : List UInt8 := dkwL_law_48 ++ dktL_law_49
def dkwL_law_47 : List UInt8 := [46, 42, 29, 6, 96, 46, 182, 0, 171, 44, 42, 29, 4, 96, 46, 42, 29, 5, 96, 46, 42, 29, 6, 96]
abbrev dktL_law_47 : List UInt8 := dkwL_law_47 ++ dktL_law_48
def dkwL_law_46 : List UInt8 := [46, 42, 29, 5, 96, 46, 182, 0, 170, 159, 1, 29, 3, 172, 43, 42, 29, 4, 96, 46, 42, 29, 5, 96]
abbrev dktL_law_46 : List UInt8 := dkwL_law_46 ++ dktL_law_47
def dkwL_law_45 : List UInt8 := [159, 1, 62, 3, 172, 43, 42, 29, 4, 96, 46, 42, 29, 5, 96, 46, 182, 0, 167, 44, 42, 29, 4, 96]
abbrev dktL_law_45 : List UInt8 := dkwL_law_45 ++ dktL_law_46
def dkwL_law_44 : List UInt8 := [42, 29, 5, 96, 46, 182, 0, 163, 44, 42, 29, 4, 96, 46, 42, 29, 5, 96, 46, 182, 0, 166]
abbrev dktL_law_44 : List UInt8 := dkwL_law_44 ++ dktL_law_45
def dkwL_law_43 : List UInt8 := [159, 1, 108, 3, 172, 43, 182, 0, 159, 44, 182, 0, 162, 159, 1, 95, 3, 172, 43, 42, 29, 4, 96, 46]
abbrev dktL_law_43 : List UInt8 := dkwL_law_43 ++ dktL_law_44
def dkwL_law_42 : List UInt8 := [46, 42, 29, 5, 96, 46, 182, 0, 154, 159, 1, 121, 3, 172, 43, 182, 0, 155, 44, 182, 0, 158]
abbrev dktL_law_42 : List UInt8 := dkwL_law_42 ++ dktL_law_43
def dkwL_law_41 : List UInt8 := [159, 1, 154, 3, 172, 43, 42, 29, 4, 96, 46, 42, 29, 5, 96, 46, 182, 0, 151, 44, 42, 29, 4, 96]
abbrev dktL_law_41 : List UInt8 := dkwL_law_41 ++ dktL_law_42
def dkwL_law_40 : List UInt8 := [153, 1, 177, 3, 172, 43, 42, 29, 4, 96, 46, 182, 0, 147, 44, 42, 29, 4, 96, 46, 182, 0, 150]
abbrev dktL_law_40 : List UInt8 := dkwL_law_40 ++ dktL_law_41
def dkwL_law_39 : List UInt8 := [29, 5, 96, 46, 182, 0, 143, 44, 42, 29, 4, 96, 46, 42, 29, 5, 96, 46, 182, 0, 146, 148]
abbrev dktL_law_39 : List UInt8 := dkwL_law_39 ++ dktL_law_40
def dkwL_law_38 : List UInt8 := [182, 0, 139, 44, 42, 29, 4, 96, 46, 182, 0, 142, 159, 1, 211, 3, 172, 43, 42, 29, 4, 96, 46, 42]
abbrev dktL_law_38 : List UInt8 := dkwL_law_38 ++ dktL_law_39
def dkwL_law_37 : List UInt8 := [42, 29, 4, 96, 46, 42, 29, 5, 96, 46, 182, 0, 138, 159, 1, 234, 3, 172, 43, 42, 29, 4, 96, 46]
abbrev dktL_law_37 : List UInt8 := dkwL_law_37 ++ dktL_law_38
def dkwL_law_36 : List UInt8 := [182, 0, 134, 148, 153, 2, 11, 3, 172, 43, 42, 29, 4, 96, 46, 42, 29, 5, 96, 46, 182, 0, 135, 44]
abbrev dktL_law_36 : List UInt8 := dkwL_law_36 ++ dktL_law_37
def dkwL_law_35 : List UInt8 := [42, 29, 4, 96, 46, 42, 29, 5, 96, 46, 182, 0, 130, 44, 42, 29, 4, 96, 46, 42, 29, 5, 96, 46]
abbrev dktL_law_35 : List UInt8 := dkwL_law_35 ++ dktL_law_36
def dkwL_law_34 : List UInt8 := [46, 182, 0, 126, 44, 42, 29, 4, 96, 46, 42, 29, 5, 96, 46, 182, 0, 129, 159, 2, 45, 3, 172, 43]
abbrev dktL_law_34 : List UInt8 := dkwL_law_34 ++ dktL_law_35
def dkwL_law_33 : List UInt8 := [46, 42, 29, 5, 96, 46, 182, 0, 125, 159, 2, 78, 3, 172, 43, 42, 29, 4, 96, 46, 42, 29, 5, 96]
abbrev dktL_law_33 : List UInt8 := dkwL_law_33 ++ dktL_law_34
def dkwL_law_32 : List UInt8 := [159, 2, 111, 3, 172, 43, 42, 29, 4, 96, 46, 42, 29, 5, 96, 46, 182, 0, 122, 44, 42, 29, 4, 96]
abbrev dktL_law_32 : List UInt8 := dkwL_law_32 ++ dktL_law_33
def dkwL_law_31 : List UInt8 := [159, 2, 134, 3, 172, 43, 42, 29, 4, 96, 46, 182, 0, 118, 44, 42, 29, 4, 96, 46, 182, 0, 121]
abbrev dktL_law_31 : List UInt8 := dkwL_law_31 ++ dktL_law_32
def dkwL_law_30 : List UInt8 := [159, 2, 157, 3, 172, 43, 42, 29, 4, 96, 46, 182, 0, 114, 44, 42, 29, 4, 96, 46, 182, 0, 117]
abbrev dktL_law_30 : List UInt8 := dkwL_law_30 ++ dktL_law_31
def dkwL_law_29 : List UInt8 := [159, 2, 180, 3, 172, 43, 42, 29, 4, 96, 46, 182, 0, 110, 44, 42, 29, 4, 96, 46, 182, 0, 113]
abbrev dktL_law_29 : List UInt8 := dkwL_law_29 ++ dktL_law_30
def dkwL_law_28 : List UInt8 := [159, 2, 203, 3, 172, 43, 42, 29, 4, 96, 46, 182, 0, 106, 44, 42, 29, 4, 96, 46, 182, 0, 109]
abbrev dktL_law_28 : List UInt8 := dkwL_law_28 ++ dktL_law_29
def dkwL_law_27 : List UInt8 := [153, 2, 226, 3, 172, 43, 42, 29, 4, 96, 46, 182, 0, 102, 44, 42, 29, 4, 96, 46, 182, 0, 105]
abbrev dktL_law_27 : List UInt8 := dkwL_law_27 ++ dktL_law_28
def dkwL_law_26 : List UInt8 := [159, 2, 250, 3, 172, 43, 42, 29, 4, 96, 46, 182, 0, 98, 44, 42, 29, 4, 96, 46, 182, 0, 101, 148]
abbrev dktL_law_26 : List UInt8 := dkwL_law_26 ++ dktL_law_27
def dkwL_law_25 : List UInt8 := [159, 3, 17, 3, 172, 43, 42, 29, 4, 96, 46, 182, 0, 94, 44, 42, 29, 4, 96, 46, 182, 0, 97]
abbrev dktL_law_25 : List UInt8 := dkwL_law_25 ++ dktL_law_26
def dkwL_law_24 : List UInt8 := [96, 46, 42, 29, 5, 96, 46, 182, 0, 90, 44, 42, 29, 4, 96, 46, 42, 29, 5, 96, 46, 182, 0, 93]
abbrev dktL_law_24 : List UInt8 := dkwL_law_24 ++ dktL_law_25
def dkwL_law_23 : List UInt8 := [4, 96, 46, 182, 0, 86, 44, 42, 29, 4, 96, 46, 182, 0, 89, 159, 3, 50, 3, 172, 43, 42, 29, 4]
abbrev dktL_law_23 : List UInt8 := dkwL_law_23 ++ dktL_law_24
def dkwL_law_22 : List UInt8 := [4, 96, 46, 182, 0, 81, 44, 42, 29, 4, 96, 46, 182, 0, 85, 148, 153, 3, 73, 3, 172, 43, 42, 29]
abbrev dktL_law_22 : List UInt8 := dkwL_law_22 ++ dktL_law_23
def dkwL_law_21 : List UInt8 := [182, 0, 75, 159, 3, 110, 3, 172, 43, 182, 0, 76, 44, 182, 0, 80, 159, 3, 97, 3, 172, 43, 42, 29]
abbrev dktL_law_21 : List UInt8 := dkwL_law_21 ++ dktL_law_22
def dkwL_law_20 : List UInt8 := [182, 0, 71, 159, 3, 133, 3, 172, 43, 42, 29, 4, 96, 46, 182, 0, 72, 44, 42, 29, 4, 96, 46]
abbrev dktL_law_20 : List UInt8 := dkwL_law_20 ++ dktL_law_21
def dkwL_law_19 : List UInt8 := [182, 0, 67, 159, 3, 156, 3, 172, 43, 42, 29, 4, 96, 46, 182, 0, 68, 44, 42, 29, 4, 96, 46]
abbrev dktL_law_19 : List UInt8 := dkwL_law_19 ++ dktL_law_20
def dkwL_law_18 : List UInt8 := [182, 0, 63, 159, 3, 179, 3, 172, 43, 42, 29, 4, 96, 46, 182, 0, 64, 44, 42, 29, 4, 96, 46]
abbrev dktL_law_18 : List UInt8 := dkwL_law_18 ++ dktL_law_19
def dkwL_law_17 : List UInt8 := [46, 182, 0, 59, 159, 3, 202, 3, 172, 43, 42, 29, 4, 96, 46, 182, 0, 60, 44, 42, 29, 4, 96, 46]
abbrev dktL_law_17 : List UInt8 := dkwL_law_17 ++ dktL_law_18
def dkwL_law_16 : List UInt8 := [96, 46, 182, 0, 55, 159, 3, 225, 3, 172, 43, 42, 29, 4, 96, 46, 182, 0, 56, 44, 42, 29, 4, 96]
abbrev dktL_law_16 : List UInt8 := dkwL_law_16 ++ dktL_law_17
def dkwL_law_15 : List UInt8 := [4, 96, 46, 182, 0, 51, 159, 3, 248, 3, 172, 43, 42, 29, 4, 96, 46, 182, 0, 52, 44, 42, 29, 4]
abbrev dktL_law_15 : List UInt8 := dkwL_law_15 ++ dktL_law_16
def dkwL_law_14 : List UInt8 := [29, 6, 96, 46, 182, 0, 47, 159, 4, 15, 3, 172, 43, 42, 29, 4, 96, 46, 182, 0, 48, 44, 42, 29]
abbrev dktL_law_14 : List UInt8 := dkwL_law_14 ++ dktL_law_15
def dkwL_law_13 : List UInt8 := [29, 5, 96, 46, 42, 29, 6, 96, 46, 182, 0, 44, 44, 42, 29, 4, 96, 46, 42, 29, 5, 96, 46, 42]
abbrev dktL_law_13 : List UInt8 := dkwL_law_13 ++ dktL_law_14
def dkwL_law_12 : List UInt8 := [29, 4, 96, 46, 42, 29, 5, 96, 46, 182, 0, 43, 159, 4, 58, 3, 172, 43, 42, 29, 4, 96, 46, 42]
abbrev dktL_law_12 : List UInt8 := dkwL_law_12 ++ dktL_law_13
def dkwL_law_11 : List UInt8 := [182, 0, 39, 159, 4, 91, 3, 172, 43, 42, 29, 4, 96, 46, 42, 29, 5, 96, 46, 182, 0, 40, 44, 42]
abbrev dktL_law_11 : List UInt8 := dkwL_law_11 ++ dktL_law_12
def dkwL_law_10 : List UInt8 := [29, 4, 96, 46, 42, 29, 5, 96, 46, 182, 0, 36, 44, 42, 29, 4, 96, 46, 42, 29, 5, 96, 46]
abbrev dktL_law_10 : List UInt8 := dkwL_law_10 ++ dktL_law_11
def dkwL_law_9 : List UInt8 := [42, 29, 4, 96, 46, 182, 0, 31, 44, 42, 29, 4, 96, 46, 182, 0, 35, 159, 4, 124, 3, 172, 43, 42]
abbrev dktL_law_9 : List UInt8 := dkwL_law_9 ++ dktL_law_10
def dkwL_law_8 : List UInt8 := [46, 182, 0, 27, 44, 42, 29, 4, 96, 46, 42, 29, 5, 96, 46, 182, 0, 30, 159, 4, 147, 3, 172, 43]
abbrev dktL_law_8 : List UInt8 := dkwL_law_8 ++ dktL_law_9
def dkwL_law_7 : List UInt8 := [46, 42, 29, 5, 96, 46, 182, 0, 26, 159, 4, 180, 3, 172, 43, 42, 29, 4, 96, 46, 42, 29, 5, 96]
abbrev dktL_law_7 : List UInt8 := dkwL_law_7 ++ dktL_law_8
def dkwL_law_6 : List UInt8 := [159, 4, 213, 3, 172, 43, 42, 29, 4, 96, 46, 42, 29, 5, 96, 46, 182, 0, 23, 44, 42, 29, 4, 96]
abbrev dktL_law_6 : List UInt8 := dkwL_law_6 ++ dktL_law_7
def dkwL_law_5 : List UInt8 := [46, 42, 29, 5, 96, 46, 182, 0, 18, 44, 42, 29, 4, 96, 46, 42, 29, 5, 96, 46, 182, 0, 22]
abbrev dktL_law_5 : List UInt8 := dkwL_law_5 ++ dktL_law_6
def dkwL_law_4 : List UInt8 := [46, 42, 29, 5, 96, 46, 42, 29, 6, 96, 46, 182, 0, 17, 159, 4, 246, 3, 172, 43, 42, 29, 4, 96]
abbrev dktL_law_4 : List UInt8 := dkwL_law_4 ++ dktL_law_5
def dkwL_law_3 : List UInt8 := [43, 42, 29, 4, 96, 46, 42, 29, 5, 96, 46, 42, 29, 6, 96, 46, 182, 0, 13, 44, 42, 29, 4, 96]
abbrev dktL_law_3 : List UInt8 := dkwL_law_3 ++ dktL_law_4
def dkwL_law_2 : List UInt8 := [170, 0, 0, 0, 0, 5, 235, 0, 0, 0, 0, 0, 0, 0, 47, 0, 0, 0, 207, 0, 0, 0, 250, 0, 0, 1, 27, 0, 0, 1, 60, 0, 0, 1, 93, 0, 0, 1, 116, 0, 0, 1, 149, 0, 0, 1, 182, 0, 0, 1, 225, 0, 0, 1, 248, 0, 0, 2, 15, 0, 0, 2, 38, 0, 0, 2, 61, 0, 0, 2, 84, 0, 0, 2, 107, 0, 0, 2, 130, 0, 0, 2, 143, 0, 0, 2, 167, 0, 0, 2, 190, 0, 0, 2, 223, 0, 0, 2, 246, 0, 0, 3, 14, 0, 0, 3, 37, 0, 0, 3, 60, 0, 0, 3, 83, 0, 0, 3, 106, 0, 0, 3, 129, 0, 0, 3, 162, 0, 0, 3, 195, 0, 0, 3, 229, 0, 0, 4, 6, 0, 0, 4, 29, 0, 0, 4, 63, 0, 0, 4, 86, 0, 0, 4, 119, 0, 0, 4, 132, 0, 0, 4, 145, 0, 0, 4, 178, 0, 0, 4, 211, 0, 0, 4, 254, 0, 0, 5, 41, 0, 0, 5, 104, 0, 0, 5, 127, 0, 0, 5, 150, 0, 0, 5, 163, 0, 0, 5, 176, 0, 0, 5, 189, 0, 0, 5, 212]
abbrev dktL_law_2 : List UInt8 := dkwL_law_2 ++ dktL_law_3
def dkwL_law_1 : List UInt8 := [163, 5, 250, 42, 29, 46, 16, 63, 126]
abbrev dktL_law_1 : List UInt8 := dkwL_law_1 ++ dktL_law_2
def dkwL_law_0 : List UInt8 := [187, 0, 7, 89, 183, 0, 9, 76, 187, 0, 10, 89, 183, 0, 12, 77, 3, 62, 29, 42, 190, 16, 6, 100]
abbrev dktL_law_0 : List UInt8 := dkwL_law_0 ++ dktL_law_1
theorem dksL_law_0 : cL_law.data.toList.drop 0 = dktL_law_0 := by decide +kernel
theorem dksL_law_1 : cL_law.data.toList.drop 24 = dktL_law_1 := dk_seg dksL_law_0 24 rfl rfl
theorem dksL_law_2 : cL_law.data.toList.drop 33 = dktL_law_2 := dk_seg dksL_law_1 9 rfl rfl
theorem dksL_law_3 : cL_law.data.toList.drop 240 = dktL_law_3 := dk_seg dksL_law_2 207 rfl rfl
theorem dksL_law_4 : cL_law.data.toList.drop 264 = dktL_law_4 := dk_seg dksL_law_3 24 rfl rfl
theorem dksL_law_5 : cL_law.data.toList.drop 288 = dktL_law_5 := dk_seg dksL_law_4 24 rfl rfl
theorem dksL_law_6 : cL_law.data.toList.drop 311 = dktL_law_6 := dk_seg dksL_law_5 23 rfl rfl
theorem dksL_law_7 : cL_law.data.toList.drop 335 = dktL_law_7 := dk_seg dksL_law_6 24 rfl rfl
theorem dksL_law_8 : cL_law.data.toList.drop 359 = dktL_law_8 := dk_seg dksL_law_7 24 rfl rfl
theorem dksL_law_9 : cL_law.data.toList.drop 383 = dktL_law_9 := dk_seg dksL_law_8 24 rfl rfl
theorem dksL_law_10 : cL_law.data.toList.drop 407 = dktL_law_10 := dk_seg dksL_law_9 24 rfl rfl
theorem dksL_law_11 : cL_law.data.toList.drop 430 = dktL_law_11 := dk_seg dksL_law_10 23 rfl rfl
theorem dksL_law_12 : cL_law.data.toList.drop 454 = dktL_law_12 := dk_seg dksL_law_11 24 rfl rfl
theorem dksL_law_13 : cL_law.data.toList.drop 478 = dktL_law_13 := dk_seg dksL_law_12 24 rfl rfl
theorem dksL_law_14 : cL_law.data.toList.drop 502 = dktL_law_14 := dk_seg dksL_law_13 24 rfl rfl
theorem dksL_law_15 : cL_law.data.toList.drop 526 = dktL_law_15 := dk_seg dksL_law_14 24 rfl rfl
theorem dksL_law_16 : cL_law.data.toList.drop 550 = dktL_law_16 := dk_seg dksL_law_15 24 rfl rfl
theorem dksL_law_17 : cL_law.data.toList.drop 574 = dktL_law_17 := dk_seg dksL_law_16 24 rfl rfl
theorem dksL_law_18 : cL_law.data.toList.drop 598 = dktL_law_18 := dk_seg dksL_law_17 24 rfl rfl
theorem dksL_law_19 : cL_law.data.toList.drop 621 = dktL_law_19 := dk_seg dksL_law_18 23 rfl rfl
theorem dksL_law_20 : cL_law.data.toList.drop 644 = dktL_law_20 := dk_seg dksL_law_19 23 rfl rfl
theorem dksL_law_21 : cL_law.data.toList.drop 667 = dktL_law_21 := dk_seg dksL_law_20 23 rfl rfl
theorem dksL_law_22 : cL_law.data.toList.drop 691 = dktL_law_22 := dk_seg dksL_law_21 24 rfl rfl
theorem dksL_law_23 : cL_law.data.toList.drop 715 = dktL_law_23 := dk_seg dksL_law_22 24 rfl rfl
theorem dksL_law_24 : cL_law.data.toList.drop 739 = dktL_law_24 := dk_seg dksL_law_23 24 rfl rfl
theorem dksL_law_25 : cL_law.data.toList.drop 763 = dktL_law_25 := dk_seg dksL_law_24 24 rfl rfl
theorem dksL_law_26 : cL_law.data.toList.drop 786 = dktL_law_26 := dk_seg dksL_law_25 23 rfl rfl
theorem dksL_law_27 : cL_law.data.toList.drop 810 = dktL_law_27 := dk_seg dksL_law_26 24 rfl rfl
theorem dksL_law_28 : cL_law.data.toList.drop 833 = dktL_law_28 := dk_seg dksL_law_27 23 rfl rfl
theorem dksL_law_29 : cL_law.data.toList.drop 856 = dktL_law_29 := dk_seg dksL_law_28 23 rfl rfl
theorem dksL_law_30 : cL_law.data.toList.drop 879 = dktL_law_30 := dk_seg dksL_law_29 23 rfl rfl
theorem dksL_law_31 : cL_law.data.toList.drop 902 = dktL_law_31 := dk_seg dksL_law_30 23 rfl rfl
theorem dksL_law_32 : cL_law.data.toList.drop 925 = dktL_law_32 := dk_seg dksL_law_31 23 rfl rfl
theorem dksL_law_33 : cL_law.data.toList.drop 949 = dktL_law_33 := dk_seg dksL_law_32 24 rfl rfl
theorem dksL_law_34 : cL_law.data.toList.drop 973 = dktL_law_34 := dk_seg dksL_law_33 24 rfl rfl
theorem dksL_law_35 : cL_law.data.toList.drop 997 = dktL_law_35 := dk_seg dksL_law_34 24 rfl rfl
theorem dksL_law_36 : cL_law.data.toList.drop 1021 = dktL_law_36 := dk_seg dksL_law_35 24 rfl rfl
theorem dksL_law_37 : cL_law.data.toList.drop 1045 = dktL_law_37 := dk_seg dksL_law_36 24 rfl rfl
theorem dksL_law_38 : cL_law.data.toList.drop 1069 = dktL_law_38 := dk_seg dksL_law_37 24 rfl rfl
theorem dksL_law_39 : cL_law.data.toList.drop 1093 = dktL_law_39 := dk_seg dksL_law_38 24 rfl rfl
theorem dksL_law_40 : cL_law.data.toList.drop 1115 = dktL_law_40 := dk_seg dksL_law_39 22 rfl rfl
theorem dksL_law_41 : cL_law.data.toList.drop 1138 = dktL_law_41 := dk_seg dksL_law_40 23 rfl rfl
theorem dksL_law_42 : cL_law.data.toList.drop 1162 = dktL_law_42 := dk_seg dksL_law_41 24 rfl rfl
theorem dksL_law_43 : cL_law.data.toList.drop 1184 = dktL_law_43 := dk_seg dksL_law_42 22 rfl rfl
theorem dksL_law_44 : cL_law.data.toList.drop 1208 = dktL_law_44 := dk_seg dksL_law_43 24 rfl rfl
theorem dksL_law_45 : cL_law.data.toList.drop 1230 = dktL_law_45 := dk_seg dksL_law_44 22 rfl rfl
theorem dksL_law_46 : cL_law.data.toList.drop 1254 = dktL_law_46 := dk_seg dksL_law_45 24 rfl rfl
theorem dksL_law_47 : cL_law.data.toList.drop 1278 = dktL_law_47 := dk_seg dksL_law_46 24 rfl rfl
theorem dksL_law_48 : cL_law.data.toList.drop 1302 = dktL_law_48 := dk_seg dksL_law_47 24 rfl rfl
theorem dksL_law_49 : cL_law.data.toList.drop 1326 = dktL_law_49 := dk_seg dksL_law_48 24 rfl rfl
theorem dksL_law_50 : cL_law.data.toList.drop 1349 = dktL_law_50 := dk_seg dksL_law_49 23 rfl rfl
theorem dksL_law_51 : cL_law.data.toList.drop 1373 = dktL_law_51 := dk_seg dksL_law_50 24 rfl rfl
theorem dksL_law_52 : cL_law.data.toList.drop 1397 = dktL_law_52 := dk_seg dksL_law_51 24 rfl rfl
theorem dksL_law_53 : cL_law.data.toList.drop 1421 = dktL_law_53 := dk_seg dksL_law_52 24 rfl rfl
theorem dksL_law_54 : cL_law.data.toList.drop 1445 = dktL_law_54 := dk_seg dksL_law_53 24 rfl rfl
theorem dksL_law_55 : cL_law.data.toList.drop 1468 = dktL_law_55 := dk_seg dksL_law_54 23 rfl rfl
theorem dksL_law_56 : cL_law.data.toList.drop 1490 = dktL_law_56 := dk_seg dksL_law_55 22 rfl rfl
theorem dksL_law_57 : cL_law.data.toList.drop 1514 = dktL_law_57 := dk_seg dksL_law_56 24 rfl rfl
theorem dksL_law_58 : cL_law.data.toList.drop 1538 = dktL_law_58 := dk_seg dksL_law_57 24 rfl rfl
theorem dL_law_0 : decode cL_law 0 = .ok (.new 7, 3) := dk_187 0 7 (dk_at dksL_law_0 0 rfl rfl)
theorem dL_law_3 : decode cL_law 3 = .ok (.dup, 1) := dk_89 (dk_at dksL_law_0 3 rfl rfl)
theorem dL_law_4 : decode cL_law 4 = .ok (.invokespecial 9, 3) := dk_183 0 9 (dk_at dksL_law_0 4 rfl rfl)
theorem dL_law_7 : decode cL_law 7 = .ok (.astore_n 1, 1) := dk_76 (dk_at dksL_law_0 7 rfl rfl)
theorem dL_law_8 : decode cL_law 8 = .ok (.new 10, 3) := dk_187 0 10 (dk_at dksL_law_0 8 rfl rfl)
theorem dL_law_11 : decode cL_law 11 = .ok (.dup, 1) := dk_89 (dk_at dksL_law_0 11 rfl rfl)
theorem dL_law_12 : decode cL_law 12 = .ok (.invokespecial 12, 3) := dk_183 0 12 (dk_at dksL_law_0 12 rfl rfl)
theorem dL_law_15 : decode cL_law 15 = .ok (.astore_n 2, 1) := dk_77 (dk_at dksL_law_0 15 rfl rfl)
theorem dL_law_16 : decode cL_law 16 = .ok (.iconst 0, 1) := dk_3 (dk_at dksL_law_0 16 rfl rfl)
theorem dL_law_17 : decode cL_law 17 = .ok (.istore_n 3, 1) := dk_62 (dk_at dksL_law_0 17 rfl rfl)
theorem dL_law_18 : decode cL_law 18 = .ok (.iload_n 3, 1) := dk_29 (dk_at dksL_law_0 18 rfl rfl)
theorem dL_law_19 : decode cL_law 19 = .ok (.aload_n 0, 1) := dk_42 (dk_at dksL_law_0 19 rfl rfl)
theorem dL_law_20 : decode cL_law 20 = .ok (.arraylength, 1) := dk_190 (dk_at dksL_law_0 20 rfl rfl)
theorem dL_law_21 : decode cL_law 21 = .ok (.bipush 6, 2) := dk_16 6 (dk_at dksL_law_0 21 rfl rfl)
theorem dL_law_23 : decode cL_law 23 = .ok (.isub, 1) := dk_100 (dk_at dksL_law_0 23 rfl rfl)
theorem dL_law_24 : decode cL_law 24 = .ok (.if_icmp .gt 1530, 3) := dk_163 5 250 (dk_at dksL_law_1 0 rfl rfl)
theorem dL_law_27 : decode cL_law 27 = .ok (.aload_n 0, 1) := dk_42 (dk_at dksL_law_1 3 rfl rfl)
theorem dL_law_28 : decode cL_law 28 = .ok (.iload_n 3, 1) := dk_29 (dk_at dksL_law_1 4 rfl rfl)
theorem dL_law_29 : decode cL_law 29 = .ok (.iaload, 1) := dk_46 (dk_at dksL_law_1 5 rfl rfl)
theorem dL_law_30 : decode cL_law 30 = .ok (.bipush 63, 2) := dk_16 63 (dk_at dksL_law_1 6 rfl rfl)
theorem dL_law_32 : decode cL_law 32 = .ok (.iand, 1) := dk_126 (dk_at dksL_law_1 8 rfl rfl)
theorem dL_law_33 : decode cL_law 33 = .ok (.tableswitch 1515 0 47 #[207, 250, 283, 316, 349, 372, 405, 438, 481, 504, 527, 550, 573, 596, 619, 642, 655, 679, 702, 735, 758, 782, 805, 828, 851, 874, 897, 930, 963, 997, 1030, 1053, 1087, 1110, 1143, 1156, 1169, 1202, 1235, 1278, 1321, 1384, 1407, 1430, 1443, 1456, 1469, 1492], 207) := by decide +kernel
theorem dL_law_240 : decode cL_law 240 = .ok (.aload_n 1, 1) := dk_43 (dk_at dksL_law_3 0 rfl rfl)
theorem dL_law_241 : decode cL_law 241 = .ok (.aload_n 0, 1) := dk_42 (dk_at dksL_law_3 1 rfl rfl)
theorem dL_law_242 : decode cL_law 242 = .ok (.iload_n 3, 1) := dk_29 (dk_at dksL_law_3 2 rfl rfl)
theorem dL_law_243 : decode cL_law 243 = .ok (.iconst 1, 1) := dk_4 (dk_at dksL_law_3 3 rfl rfl)
theorem dL_law_244 : decode cL_law 244 = .ok (.iadd, 1) := dk_96 (dk_at dksL_law_3 4 rfl rfl)
theorem dL_law_245 : decode cL_law 245 = .ok (.iaload, 1) := dk_46 (dk_at dksL_law_3 5 rfl rfl)
theorem dL_law_246 : decode cL_law 246 = .ok (.aload_n 0, 1) := dk_42 (dk_at dksL_law_3 6 rfl rfl)
theorem dL_law_247 : decode cL_law 247 = .ok (.iload_n 3, 1) := dk_29 (dk_at dksL_law_3 7 rfl rfl)
theorem dL_law_248 : decode cL_law 248 = .ok (.iconst 2, 1) := dk_5 (dk_at dksL_law_3 8 rfl rfl)
theorem dL_law_249 : decode cL_law 249 = .ok (.iadd, 1) := dk_96 (dk_at dksL_law_3 9 rfl rfl)
theorem dL_law_250 : decode cL_law 250 = .ok (.iaload, 1) := dk_46 (dk_at dksL_law_3 10 rfl rfl)
theorem dL_law_251 : decode cL_law 251 = .ok (.aload_n 0, 1) := dk_42 (dk_at dksL_law_3 11 rfl rfl)
theorem dL_law_252 : decode cL_law 252 = .ok (.iload_n 3, 1) := dk_29 (dk_at dksL_law_3 12 rfl rfl)
theorem dL_law_253 : decode cL_law 253 = .ok (.iconst 3, 1) := dk_6 (dk_at dksL_law_3 13 rfl rfl)
theorem dL_law_254 : decode cL_law 254 = .ok (.iadd, 1) := dk_96 (dk_at dksL_law_3 14 rfl rfl)
theorem dL_law_255 : decode cL_law 255 = .ok (.iaload, 1) := dk_46 (dk_at dksL_law_3 15 rfl rfl)
theorem dL_law_256 : decode cL_law 256 = .ok (.invokevirtual 13, 3) := dk_182 0 13 (dk_at dksL_law_3 16 rfl rfl)
theorem dL_law_259 : decode cL_law 259 = .ok (.aload_n 2, 1) := dk_44 (dk_at dksL_law_3 19 rfl rfl)
theorem dL_law_260 : decode cL_law 260 = .ok (.aload_n 0, 1) := dk_42 (dk_at dksL_law_3 20 rfl rfl)
theorem dL_law_261 : decode cL_law 261 = .ok (.iload_n 3, 1) := dk_29 (dk_at dksL_law_3 21 rfl rfl)
theorem dL_law_262 : decode cL_law 262 = .ok (.iconst 1, 1) := dk_4 (dk_at dksL_law_3 22 rfl rfl)
theorem dL_law_263 : decode cL_law 263 = .ok (.iadd, 1) := dk_96 (dk_at dksL_law_3 23 rfl rfl)
theorem dL_law_264 : decode cL_law 264 = .ok (.iaload, 1) := dk_46 (dk_at dksL_law_4 0 rfl rfl)
theorem dL_law_265 : decode cL_law 265 = .ok (.aload_n 0, 1) := dk_42 (dk_at dksL_law_4 1 rfl rfl)
theorem dL_law_266 : decode cL_law 266 = .ok (.iload_n 3, 1) := dk_29 (dk_at dksL_law_4 2 rfl rfl)
theorem dL_law_267 : decode cL_law 267 = .ok (.iconst 2, 1) := dk_5 (dk_at dksL_law_4 3 rfl rfl)
theorem dL_law_268 : decode cL_law 268 = .ok (.iadd, 1) := dk_96 (dk_at dksL_law_4 4 rfl rfl)
theorem dL_law_269 : decode cL_law 269 = .ok (.iaload, 1) := dk_46 (dk_at dksL_law_4 5 rfl rfl)
theorem dL_law_270 : decode cL_law 270 = .ok (.aload_n 0, 1) := dk_42 (dk_at dksL_law_4 6 rfl rfl)
theorem dL_law_271 : decode cL_law 271 = .ok (.iload_n 3, 1) := dk_29 (dk_at dksL_law_4 7 rfl rfl)
theorem dL_law_272 : decode cL_law 272 = .ok (.iconst 3, 1) := dk_6 (dk_at dksL_law_4 8 rfl rfl)
theorem dL_law_273 : decode cL_law 273 = .ok (.iadd, 1) := dk_96 (dk_at dksL_law_4 9 rfl rfl)
theorem dL_law_274 : decode cL_law 274 = .ok (.iaload, 1) := dk_46 (dk_at dksL_law_4 10 rfl rfl)
theorem dL_law_275 : decode cL_law 275 = .ok (.invokevirtual 17, 3) := dk_182 0 17 (dk_at dksL_law_4 11 rfl rfl)
theorem dL_law_278 : decode cL_law 278 = .ok (.if_icmp .eq 1270, 3) := dk_159 4 246 (dk_at dksL_law_4 14 rfl rfl)
theorem dL_law_281 : decode cL_law 281 = .ok (.iconst 0, 1) := dk_3 (dk_at dksL_law_4 17 rfl rfl)
theorem dL_law_282 : decode cL_law 282 = .ok (.ireturn, 1) := dk_172 (dk_at dksL_law_4 18 rfl rfl)
theorem dL_law_283 : decode cL_law 283 = .ok (.aload_n 1, 1) := dk_43 (dk_at dksL_law_4 19 rfl rfl)
theorem dL_law_284 : decode cL_law 284 = .ok (.aload_n 0, 1) := dk_42 (dk_at dksL_law_4 20 rfl rfl)
theorem dL_law_285 : decode cL_law 285 = .ok (.iload_n 3, 1) := dk_29 (dk_at dksL_law_4 21 rfl rfl)
theorem dL_law_286 : decode cL_law 286 = .ok (.iconst 1, 1) := dk_4 (dk_at dksL_law_4 22 rfl rfl)
theorem dL_law_287 : decode cL_law 287 = .ok (.iadd, 1) := dk_96 (dk_at dksL_law_4 23 rfl rfl)
theorem dL_law_288 : decode cL_law 288 = .ok (.iaload, 1) := dk_46 (dk_at dksL_law_5 0 rfl rfl)
theorem dL_law_289 : decode cL_law 289 = .ok (.aload_n 0, 1) := dk_42 (dk_at dksL_law_5 1 rfl rfl)
theorem dL_law_290 : decode cL_law 290 = .ok (.iload_n 3, 1) := dk_29 (dk_at dksL_law_5 2 rfl rfl)
theorem dL_law_291 : decode cL_law 291 = .ok (.iconst 2, 1) := dk_5 (dk_at dksL_law_5 3 rfl rfl)
theorem dL_law_292 : decode cL_law 292 = .ok (.iadd, 1) := dk_96 (dk_at dksL_law_5 4 rfl rfl)
theorem dL_law_293 : decode cL_law 293 = .ok (.iaload, 1) := dk_46 (dk_at dksL_law_5 5 rfl rfl)
theorem dL_law_294 : decode cL_law 294 = .ok (.invokevirtual 18, 3) := dk_182 0 18 (dk_at dksL_law_5 6 rfl rfl)
theorem dL_law_297 : decode cL_law 297 = .ok (.aload_n 2, 1) := dk_44 (dk_at dksL_law_5 9 rfl rfl)
theorem dL_law_298 : decode cL_law 298 = .ok (.aload_n 0, 1) := dk_42 (dk_at dksL_law_5 10 rfl rfl)
theorem dL_law_299 : decode cL_law 299 = .ok (.iload_n 3, 1) := dk_29 (dk_at dksL_law_5 11 rfl rfl)
theorem dL_law_300 : decode cL_law 300 = .ok (.iconst 1, 1) := dk_4 (dk_at dksL_law_5 12 rfl rfl)
theorem dL_law_301 : decode cL_law 301 = .ok (.iadd, 1) := dk_96 (dk_at dksL_law_5 13 rfl rfl)
theorem dL_law_302 : decode cL_law 302 = .ok (.iaload, 1) := dk_46 (dk_at dksL_law_5 14 rfl rfl)
theorem dL_law_303 : decode cL_law 303 = .ok (.aload_n 0, 1) := dk_42 (dk_at dksL_law_5 15 rfl rfl)
theorem dL_law_304 : decode cL_law 304 = .ok (.iload_n 3, 1) := dk_29 (dk_at dksL_law_5 16 rfl rfl)
theorem dL_law_305 : decode cL_law 305 = .ok (.iconst 2, 1) := dk_5 (dk_at dksL_law_5 17 rfl rfl)
theorem dL_law_306 : decode cL_law 306 = .ok (.iadd, 1) := dk_96 (dk_at dksL_law_5 18 rfl rfl)
theorem dL_law_307 : decode cL_law 307 = .ok (.iaload, 1) := dk_46 (dk_at dksL_law_5 19 rfl rfl)
theorem dL_law_308 : decode cL_law 308 = .ok (.invokevirtual 22, 3) := dk_182 0 22 (dk_at dksL_law_5 20 rfl rfl)
theorem dL_law_311 : decode cL_law 311 = .ok (.if_icmp .eq 1237, 3) := dk_159 4 213 (dk_at dksL_law_6 0 rfl rfl)
theorem dL_law_314 : decode cL_law 314 = .ok (.iconst 0, 1) := dk_3 (dk_at dksL_law_6 3 rfl rfl)
theorem dL_law_315 : decode cL_law 315 = .ok (.ireturn, 1) := dk_172 (dk_at dksL_law_6 4 rfl rfl)
theorem dL_law_316 : decode cL_law 316 = .ok (.aload_n 1, 1) := dk_43 (dk_at dksL_law_6 5 rfl rfl)
theorem dL_law_317 : decode cL_law 317 = .ok (.aload_n 0, 1) := dk_42 (dk_at dksL_law_6 6 rfl rfl)
theorem dL_law_318 : decode cL_law 318 = .ok (.iload_n 3, 1) := dk_29 (dk_at dksL_law_6 7 rfl rfl)
theorem dL_law_319 : decode cL_law 319 = .ok (.iconst 1, 1) := dk_4 (dk_at dksL_law_6 8 rfl rfl)
theorem dL_law_320 : decode cL_law 320 = .ok (.iadd, 1) := dk_96 (dk_at dksL_law_6 9 rfl rfl)
theorem dL_law_321 : decode cL_law 321 = .ok (.iaload, 1) := dk_46 (dk_at dksL_law_6 10 rfl rfl)
theorem dL_law_322 : decode cL_law 322 = .ok (.aload_n 0, 1) := dk_42 (dk_at dksL_law_6 11 rfl rfl)
theorem dL_law_323 : decode cL_law 323 = .ok (.iload_n 3, 1) := dk_29 (dk_at dksL_law_6 12 rfl rfl)
theorem dL_law_324 : decode cL_law 324 = .ok (.iconst 2, 1) := dk_5 (dk_at dksL_law_6 13 rfl rfl)
theorem dL_law_325 : decode cL_law 325 = .ok (.iadd, 1) := dk_96 (dk_at dksL_law_6 14 rfl rfl)
theorem dL_law_326 : decode cL_law 326 = .ok (.iaload, 1) := dk_46 (dk_at dksL_law_6 15 rfl rfl)
theorem dL_law_327 : decode cL_law 327 = .ok (.invokevirtual 23, 3) := dk_182 0 23 (dk_at dksL_law_6 16 rfl rfl)
theorem dL_law_330 : decode cL_law 330 = .ok (.aload_n 2, 1) := dk_44 (dk_at dksL_law_6 19 rfl rfl)
theorem dL_law_331 : decode cL_law 331 = .ok (.aload_n 0, 1) := dk_42 (dk_at dksL_law_6 20 rfl rfl)
theorem dL_law_332 : decode cL_law 332 = .ok (.iload_n 3, 1) := dk_29 (dk_at dksL_law_6 21 rfl rfl)
theorem dL_law_333 : decode cL_law 333 = .ok (.iconst 1, 1) := dk_4 (dk_at dksL_law_6 22 rfl rfl)
theorem dL_law_334 : decode cL_law 334 = .ok (.iadd, 1) := dk_96 (dk_at dksL_law_6 23 rfl rfl)
theorem dL_law_335 : decode cL_law 335 = .ok (.iaload, 1) := dk_46 (dk_at dksL_law_7 0 rfl rfl)
theorem dL_law_336 : decode cL_law 336 = .ok (.aload_n 0, 1) := dk_42 (dk_at dksL_law_7 1 rfl rfl)
theorem dL_law_337 : decode cL_law 337 = .ok (.iload_n 3, 1) := dk_29 (dk_at dksL_law_7 2 rfl rfl)
theorem dL_law_338 : decode cL_law 338 = .ok (.iconst 2, 1) := dk_5 (dk_at dksL_law_7 3 rfl rfl)
theorem dL_law_339 : decode cL_law 339 = .ok (.iadd, 1) := dk_96 (dk_at dksL_law_7 4 rfl rfl)
theorem dL_law_340 : decode cL_law 340 = .ok (.iaload, 1) := dk_46 (dk_at dksL_law_7 5 rfl rfl)
theorem dL_law_341 : decode cL_law 341 = .ok (.invokevirtual 26, 3) := dk_182 0 26 (dk_at dksL_law_7 6 rfl rfl)
theorem dL_law_344 : decode cL_law 344 = .ok (.if_icmp .eq 1204, 3) := dk_159 4 180 (dk_at dksL_law_7 9 rfl rfl)
theorem dL_law_347 : decode cL_law 347 = .ok (.iconst 0, 1) := dk_3 (dk_at dksL_law_7 12 rfl rfl)
theorem dL_law_348 : decode cL_law 348 = .ok (.ireturn, 1) := dk_172 (dk_at dksL_law_7 13 rfl rfl)
theorem dL_law_349 : decode cL_law 349 = .ok (.aload_n 1, 1) := dk_43 (dk_at dksL_law_7 14 rfl rfl)
theorem dL_law_350 : decode cL_law 350 = .ok (.aload_n 0, 1) := dk_42 (dk_at dksL_law_7 15 rfl rfl)
theorem dL_law_351 : decode cL_law 351 = .ok (.iload_n 3, 1) := dk_29 (dk_at dksL_law_7 16 rfl rfl)
theorem dL_law_352 : decode cL_law 352 = .ok (.iconst 1, 1) := dk_4 (dk_at dksL_law_7 17 rfl rfl)
theorem dL_law_353 : decode cL_law 353 = .ok (.iadd, 1) := dk_96 (dk_at dksL_law_7 18 rfl rfl)
theorem dL_law_354 : decode cL_law 354 = .ok (.iaload, 1) := dk_46 (dk_at dksL_law_7 19 rfl rfl)
theorem dL_law_355 : decode cL_law 355 = .ok (.aload_n 0, 1) := dk_42 (dk_at dksL_law_7 20 rfl rfl)
theorem dL_law_356 : decode cL_law 356 = .ok (.iload_n 3, 1) := dk_29 (dk_at dksL_law_7 21 rfl rfl)
theorem dL_law_357 : decode cL_law 357 = .ok (.iconst 2, 1) := dk_5 (dk_at dksL_law_7 22 rfl rfl)
theorem dL_law_358 : decode cL_law 358 = .ok (.iadd, 1) := dk_96 (dk_at dksL_law_7 23 rfl rfl)
theorem dL_law_359 : decode cL_law 359 = .ok (.iaload, 1) := dk_46 (dk_at dksL_law_8 0 rfl rfl)
theorem dL_law_360 : decode cL_law 360 = .ok (.invokevirtual 27, 3) := dk_182 0 27 (dk_at dksL_law_8 1 rfl rfl)
theorem dL_law_363 : decode cL_law 363 = .ok (.aload_n 2, 1) := dk_44 (dk_at dksL_law_8 4 rfl rfl)
theorem dL_law_364 : decode cL_law 364 = .ok (.aload_n 0, 1) := dk_42 (dk_at dksL_law_8 5 rfl rfl)
theorem dL_law_365 : decode cL_law 365 = .ok (.iload_n 3, 1) := dk_29 (dk_at dksL_law_8 6 rfl rfl)
theorem dL_law_366 : decode cL_law 366 = .ok (.iconst 1, 1) := dk_4 (dk_at dksL_law_8 7 rfl rfl)
theorem dL_law_367 : decode cL_law 367 = .ok (.iadd, 1) := dk_96 (dk_at dksL_law_8 8 rfl rfl)
theorem dL_law_368 : decode cL_law 368 = .ok (.iaload, 1) := dk_46 (dk_at dksL_law_8 9 rfl rfl)
theorem dL_law_369 : decode cL_law 369 = .ok (.aload_n 0, 1) := dk_42 (dk_at dksL_law_8 10 rfl rfl)
theorem dL_law_370 : decode cL_law 370 = .ok (.iload_n 3, 1) := dk_29 (dk_at dksL_law_8 11 rfl rfl)
theorem dL_law_371 : decode cL_law 371 = .ok (.iconst 2, 1) := dk_5 (dk_at dksL_law_8 12 rfl rfl)
theorem dL_law_372 : decode cL_law 372 = .ok (.iadd, 1) := dk_96 (dk_at dksL_law_8 13 rfl rfl)
theorem dL_law_373 : decode cL_law 373 = .ok (.iaload, 1) := dk_46 (dk_at dksL_law_8 14 rfl rfl)
theorem dL_law_374 : decode cL_law 374 = .ok (.invokevirtual 30, 3) := dk_182 0 30 (dk_at dksL_law_8 15 rfl rfl)
theorem dL_law_377 : decode cL_law 377 = .ok (.if_icmp .eq 1171, 3) := dk_159 4 147 (dk_at dksL_law_8 18 rfl rfl)
theorem dL_law_380 : decode cL_law 380 = .ok (.iconst 0, 1) := dk_3 (dk_at dksL_law_8 21 rfl rfl)
theorem dL_law_381 : decode cL_law 381 = .ok (.ireturn, 1) := dk_172 (dk_at dksL_law_8 22 rfl rfl)
theorem dL_law_382 : decode cL_law 382 = .ok (.aload_n 1, 1) := dk_43 (dk_at dksL_law_8 23 rfl rfl)
theorem dL_law_383 : decode cL_law 383 = .ok (.aload_n 0, 1) := dk_42 (dk_at dksL_law_9 0 rfl rfl)
theorem dL_law_384 : decode cL_law 384 = .ok (.iload_n 3, 1) := dk_29 (dk_at dksL_law_9 1 rfl rfl)
theorem dL_law_385 : decode cL_law 385 = .ok (.iconst 1, 1) := dk_4 (dk_at dksL_law_9 2 rfl rfl)
theorem dL_law_386 : decode cL_law 386 = .ok (.iadd, 1) := dk_96 (dk_at dksL_law_9 3 rfl rfl)
theorem dL_law_387 : decode cL_law 387 = .ok (.iaload, 1) := dk_46 (dk_at dksL_law_9 4 rfl rfl)
theorem dL_law_388 : decode cL_law 388 = .ok (.invokevirtual 31, 3) := dk_182 0 31 (dk_at dksL_law_9 5 rfl rfl)
theorem dL_law_391 : decode cL_law 391 = .ok (.aload_n 2, 1) := dk_44 (dk_at dksL_law_9 8 rfl rfl)
theorem dL_law_392 : decode cL_law 392 = .ok (.aload_n 0, 1) := dk_42 (dk_at dksL_law_9 9 rfl rfl)
theorem dL_law_393 : decode cL_law 393 = .ok (.iload_n 3, 1) := dk_29 (dk_at dksL_law_9 10 rfl rfl)
theorem dL_law_394 : decode cL_law 394 = .ok (.iconst 1, 1) := dk_4 (dk_at dksL_law_9 11 rfl rfl)
theorem dL_law_395 : decode cL_law 395 = .ok (.iadd, 1) := dk_96 (dk_at dksL_law_9 12 rfl rfl)
theorem dL_law_396 : decode cL_law 396 = .ok (.iaload, 1) := dk_46 (dk_at dksL_law_9 13 rfl rfl)
theorem dL_law_397 : decode cL_law 397 = .ok (.invokevirtual 35, 3) := dk_182 0 35 (dk_at dksL_law_9 14 rfl rfl)
theorem dL_law_400 : decode cL_law 400 = .ok (.if_icmp .eq 1148, 3) := dk_159 4 124 (dk_at dksL_law_9 17 rfl rfl)
theorem dL_law_403 : decode cL_law 403 = .ok (.iconst 0, 1) := dk_3 (dk_at dksL_law_9 20 rfl rfl)
theorem dL_law_404 : decode cL_law 404 = .ok (.ireturn, 1) := dk_172 (dk_at dksL_law_9 21 rfl rfl)
theorem dL_law_405 : decode cL_law 405 = .ok (.aload_n 1, 1) := dk_43 (dk_at dksL_law_9 22 rfl rfl)
theorem dL_law_406 : decode cL_law 406 = .ok (.aload_n 0, 1) := dk_42 (dk_at dksL_law_9 23 rfl rfl)
theorem dL_law_407 : decode cL_law 407 = .ok (.iload_n 3, 1) := dk_29 (dk_at dksL_law_10 0 rfl rfl)
theorem dL_law_408 : decode cL_law 408 = .ok (.iconst 1, 1) := dk_4 (dk_at dksL_law_10 1 rfl rfl)
theorem dL_law_409 : decode cL_law 409 = .ok (.iadd, 1) := dk_96 (dk_at dksL_law_10 2 rfl rfl)
theorem dL_law_410 : decode cL_law 410 = .ok (.iaload, 1) := dk_46 (dk_at dksL_law_10 3 rfl rfl)
theorem dL_law_411 : decode cL_law 411 = .ok (.aload_n 0, 1) := dk_42 (dk_at dksL_law_10 4 rfl rfl)
theorem dL_law_412 : decode cL_law 412 = .ok (.iload_n 3, 1) := dk_29 (dk_at dksL_law_10 5 rfl rfl)
theorem dL_law_413 : decode cL_law 413 = .ok (.iconst 2, 1) := dk_5 (dk_at dksL_law_10 6 rfl rfl)
theorem dL_law_414 : decode cL_law 414 = .ok (.iadd, 1) := dk_96 (dk_at dksL_law_10 7 rfl rfl)
theorem dL_law_415 : decode cL_law 415 = .ok (.iaload, 1) := dk_46 (dk_at dksL_law_10 8 rfl rfl)
theorem dL_law_416 : decode cL_law 416 = .ok (.invokevirtual 36, 3) := dk_182 0 36 (dk_at dksL_law_10 9 rfl rfl)
theorem dL_law_419 : decode cL_law 419 = .ok (.aload_n 2, 1) := dk_44 (dk_at dksL_law_10 12 rfl rfl)
theorem dL_law_420 : decode cL_law 420 = .ok (.aload_n 0, 1) := dk_42 (dk_at dksL_law_10 13 rfl rfl)
theorem dL_law_421 : decode cL_law 421 = .ok (.iload_n 3, 1) := dk_29 (dk_at dksL_law_10 14 rfl rfl)
theorem dL_law_422 : decode cL_law 422 = .ok (.iconst 1, 1) := dk_4 (dk_at dksL_law_10 15 rfl rfl)
theorem dL_law_423 : decode cL_law 423 = .ok (.iadd, 1) := dk_96 (dk_at dksL_law_10 16 rfl rfl)
theorem dL_law_424 : decode cL_law 424 = .ok (.iaload, 1) := dk_46 (dk_at dksL_law_10 17 rfl rfl)
theorem dL_law_425 : decode cL_law 425 = .ok (.aload_n 0, 1) := dk_42 (dk_at dksL_law_10 18 rfl rfl)
theorem dL_law_426 : decode cL_law 426 = .ok (.iload_n 3, 1) := dk_29 (dk_at dksL_law_10 19 rfl rfl)
theorem dL_law_427 : decode cL_law 427 = .ok (.iconst 2, 1) := dk_5 (dk_at dksL_law_10 20 rfl rfl)
theorem dL_law_428 : decode cL_law 428 = .ok (.iadd, 1) := dk_96 (dk_at dksL_law_10 21 rfl rfl)
theorem dL_law_429 : decode cL_law 429 = .ok (.iaload, 1) := dk_46 (dk_at dksL_law_10 22 rfl rfl)
theorem dL_law_430 : decode cL_law 430 = .ok (.invokevirtual 39, 3) := dk_182 0 39 (dk_at dksL_law_11 0 rfl rfl)
theorem dL_law_433 : decode cL_law 433 = .ok (.if_icmp .eq 1115, 3) := dk_159 4 91 (dk_at dksL_law_11 3 rfl rfl)
theorem dL_law_436 : decode cL_law 436 = .ok (.iconst 0, 1) := dk_3 (dk_at dksL_law_11 6 rfl rfl)
theorem dL_law_437 : decode cL_law 437 = .ok (.ireturn, 1) := dk_172 (dk_at dksL_law_11 7 rfl rfl)
theorem dL_law_438 : decode cL_law 438 = .ok (.aload_n 1, 1) := dk_43 (dk_at dksL_law_11 8 rfl rfl)
theorem dL_law_439 : decode cL_law 439 = .ok (.aload_n 0, 1) := dk_42 (dk_at dksL_law_11 9 rfl rfl)
theorem dL_law_440 : decode cL_law 440 = .ok (.iload_n 3, 1) := dk_29 (dk_at dksL_law_11 10 rfl rfl)
theorem dL_law_441 : decode cL_law 441 = .ok (.iconst 1, 1) := dk_4 (dk_at dksL_law_11 11 rfl rfl)
theorem dL_law_442 : decode cL_law 442 = .ok (.iadd, 1) := dk_96 (dk_at dksL_law_11 12 rfl rfl)
theorem dL_law_443 : decode cL_law 443 = .ok (.iaload, 1) := dk_46 (dk_at dksL_law_11 13 rfl rfl)
theorem dL_law_444 : decode cL_law 444 = .ok (.aload_n 0, 1) := dk_42 (dk_at dksL_law_11 14 rfl rfl)
theorem dL_law_445 : decode cL_law 445 = .ok (.iload_n 3, 1) := dk_29 (dk_at dksL_law_11 15 rfl rfl)
theorem dL_law_446 : decode cL_law 446 = .ok (.iconst 2, 1) := dk_5 (dk_at dksL_law_11 16 rfl rfl)
theorem dL_law_447 : decode cL_law 447 = .ok (.iadd, 1) := dk_96 (dk_at dksL_law_11 17 rfl rfl)
theorem dL_law_448 : decode cL_law 448 = .ok (.iaload, 1) := dk_46 (dk_at dksL_law_11 18 rfl rfl)
theorem dL_law_449 : decode cL_law 449 = .ok (.invokevirtual 40, 3) := dk_182 0 40 (dk_at dksL_law_11 19 rfl rfl)
theorem dL_law_452 : decode cL_law 452 = .ok (.aload_n 2, 1) := dk_44 (dk_at dksL_law_11 22 rfl rfl)
theorem dL_law_453 : decode cL_law 453 = .ok (.aload_n 0, 1) := dk_42 (dk_at dksL_law_11 23 rfl rfl)
theorem dL_law_454 : decode cL_law 454 = .ok (.iload_n 3, 1) := dk_29 (dk_at dksL_law_12 0 rfl rfl)
theorem dL_law_455 : decode cL_law 455 = .ok (.iconst 1, 1) := dk_4 (dk_at dksL_law_12 1 rfl rfl)
theorem dL_law_456 : decode cL_law 456 = .ok (.iadd, 1) := dk_96 (dk_at dksL_law_12 2 rfl rfl)
theorem dL_law_457 : decode cL_law 457 = .ok (.iaload, 1) := dk_46 (dk_at dksL_law_12 3 rfl rfl)
theorem dL_law_458 : decode cL_law 458 = .ok (.aload_n 0, 1) := dk_42 (dk_at dksL_law_12 4 rfl rfl)
theorem dL_law_459 : decode cL_law 459 = .ok (.iload_n 3, 1) := dk_29 (dk_at dksL_law_12 5 rfl rfl)
theorem dL_law_460 : decode cL_law 460 = .ok (.iconst 2, 1) := dk_5 (dk_at dksL_law_12 6 rfl rfl)
theorem dL_law_461 : decode cL_law 461 = .ok (.iadd, 1) := dk_96 (dk_at dksL_law_12 7 rfl rfl)
theorem dL_law_462 : decode cL_law 462 = .ok (.iaload, 1) := dk_46 (dk_at dksL_law_12 8 rfl rfl)
theorem dL_law_463 : decode cL_law 463 = .ok (.invokevirtual 43, 3) := dk_182 0 43 (dk_at dksL_law_12 9 rfl rfl)
theorem dL_law_466 : decode cL_law 466 = .ok (.if_icmp .eq 1082, 3) := dk_159 4 58 (dk_at dksL_law_12 12 rfl rfl)
theorem dL_law_469 : decode cL_law 469 = .ok (.iconst 0, 1) := dk_3 (dk_at dksL_law_12 15 rfl rfl)
theorem dL_law_470 : decode cL_law 470 = .ok (.ireturn, 1) := dk_172 (dk_at dksL_law_12 16 rfl rfl)
theorem dL_law_471 : decode cL_law 471 = .ok (.aload_n 1, 1) := dk_43 (dk_at dksL_law_12 17 rfl rfl)
theorem dL_law_472 : decode cL_law 472 = .ok (.aload_n 0, 1) := dk_42 (dk_at dksL_law_12 18 rfl rfl)
theorem dL_law_473 : decode cL_law 473 = .ok (.iload_n 3, 1) := dk_29 (dk_at dksL_law_12 19 rfl rfl)
theorem dL_law_474 : decode cL_law 474 = .ok (.iconst 1, 1) := dk_4 (dk_at dksL_law_12 20 rfl rfl)
theorem dL_law_475 : decode cL_law 475 = .ok (.iadd, 1) := dk_96 (dk_at dksL_law_12 21 rfl rfl)
theorem dL_law_476 : decode cL_law 476 = .ok (.iaload, 1) := dk_46 (dk_at dksL_law_12 22 rfl rfl)
theorem dL_law_477 : decode cL_law 477 = .ok (.aload_n 0, 1) := dk_42 (dk_at dksL_law_12 23 rfl rfl)
theorem dL_law_478 : decode cL_law 478 = .ok (.iload_n 3, 1) := dk_29 (dk_at dksL_law_13 0 rfl rfl)
theorem dL_law_479 : decode cL_law 479 = .ok (.iconst 2, 1) := dk_5 (dk_at dksL_law_13 1 rfl rfl)
theorem dL_law_480 : decode cL_law 480 = .ok (.iadd, 1) := dk_96 (dk_at dksL_law_13 2 rfl rfl)
theorem dL_law_481 : decode cL_law 481 = .ok (.iaload, 1) := dk_46 (dk_at dksL_law_13 3 rfl rfl)
theorem dL_law_482 : decode cL_law 482 = .ok (.aload_n 0, 1) := dk_42 (dk_at dksL_law_13 4 rfl rfl)
theorem dL_law_483 : decode cL_law 483 = .ok (.iload_n 3, 1) := dk_29 (dk_at dksL_law_13 5 rfl rfl)
theorem dL_law_484 : decode cL_law 484 = .ok (.iconst 3, 1) := dk_6 (dk_at dksL_law_13 6 rfl rfl)
theorem dL_law_485 : decode cL_law 485 = .ok (.iadd, 1) := dk_96 (dk_at dksL_law_13 7 rfl rfl)
theorem dL_law_486 : decode cL_law 486 = .ok (.iaload, 1) := dk_46 (dk_at dksL_law_13 8 rfl rfl)
theorem dL_law_487 : decode cL_law 487 = .ok (.invokevirtual 44, 3) := dk_182 0 44 (dk_at dksL_law_13 9 rfl rfl)
theorem dL_law_490 : decode cL_law 490 = .ok (.aload_n 2, 1) := dk_44 (dk_at dksL_law_13 12 rfl rfl)
theorem dL_law_491 : decode cL_law 491 = .ok (.aload_n 0, 1) := dk_42 (dk_at dksL_law_13 13 rfl rfl)
theorem dL_law_492 : decode cL_law 492 = .ok (.iload_n 3, 1) := dk_29 (dk_at dksL_law_13 14 rfl rfl)
theorem dL_law_493 : decode cL_law 493 = .ok (.iconst 1, 1) := dk_4 (dk_at dksL_law_13 15 rfl rfl)
theorem dL_law_494 : decode cL_law 494 = .ok (.iadd, 1) := dk_96 (dk_at dksL_law_13 16 rfl rfl)
theorem dL_law_495 : decode cL_law 495 = .ok (.iaload, 1) := dk_46 (dk_at dksL_law_13 17 rfl rfl)
theorem dL_law_496 : decode cL_law 496 = .ok (.aload_n 0, 1) := dk_42 (dk_at dksL_law_13 18 rfl rfl)
theorem dL_law_497 : decode cL_law 497 = .ok (.iload_n 3, 1) := dk_29 (dk_at dksL_law_13 19 rfl rfl)
theorem dL_law_498 : decode cL_law 498 = .ok (.iconst 2, 1) := dk_5 (dk_at dksL_law_13 20 rfl rfl)
theorem dL_law_499 : decode cL_law 499 = .ok (.iadd, 1) := dk_96 (dk_at dksL_law_13 21 rfl rfl)
theorem dL_law_500 : decode cL_law 500 = .ok (.iaload, 1) := dk_46 (dk_at dksL_law_13 22 rfl rfl)
theorem dL_law_501 : decode cL_law 501 = .ok (.aload_n 0, 1) := dk_42 (dk_at dksL_law_13 23 rfl rfl)
theorem dL_law_502 : decode cL_law 502 = .ok (.iload_n 3, 1) := dk_29 (dk_at dksL_law_14 0 rfl rfl)
theorem dL_law_503 : decode cL_law 503 = .ok (.iconst 3, 1) := dk_6 (dk_at dksL_law_14 1 rfl rfl)
theorem dL_law_504 : decode cL_law 504 = .ok (.iadd, 1) := dk_96 (dk_at dksL_law_14 2 rfl rfl)
theorem dL_law_505 : decode cL_law 505 = .ok (.iaload, 1) := dk_46 (dk_at dksL_law_14 3 rfl rfl)
theorem dL_law_506 : decode cL_law 506 = .ok (.invokevirtual 47, 3) := dk_182 0 47 (dk_at dksL_law_14 4 rfl rfl)
theorem dL_law_509 : decode cL_law 509 = .ok (.if_icmp .eq 1039, 3) := dk_159 4 15 (dk_at dksL_law_14 7 rfl rfl)
theorem dL_law_512 : decode cL_law 512 = .ok (.iconst 0, 1) := dk_3 (dk_at dksL_law_14 10 rfl rfl)
theorem dL_law_513 : decode cL_law 513 = .ok (.ireturn, 1) := dk_172 (dk_at dksL_law_14 11 rfl rfl)
theorem dL_law_514 : decode cL_law 514 = .ok (.aload_n 1, 1) := dk_43 (dk_at dksL_law_14 12 rfl rfl)
theorem dL_law_515 : decode cL_law 515 = .ok (.aload_n 0, 1) := dk_42 (dk_at dksL_law_14 13 rfl rfl)
theorem dL_law_516 : decode cL_law 516 = .ok (.iload_n 3, 1) := dk_29 (dk_at dksL_law_14 14 rfl rfl)
theorem dL_law_517 : decode cL_law 517 = .ok (.iconst 1, 1) := dk_4 (dk_at dksL_law_14 15 rfl rfl)
theorem dL_law_518 : decode cL_law 518 = .ok (.iadd, 1) := dk_96 (dk_at dksL_law_14 16 rfl rfl)
theorem dL_law_519 : decode cL_law 519 = .ok (.iaload, 1) := dk_46 (dk_at dksL_law_14 17 rfl rfl)
theorem dL_law_520 : decode cL_law 520 = .ok (.invokevirtual 48, 3) := dk_182 0 48 (dk_at dksL_law_14 18 rfl rfl)
theorem dL_law_523 : decode cL_law 523 = .ok (.aload_n 2, 1) := dk_44 (dk_at dksL_law_14 21 rfl rfl)
theorem dL_law_524 : decode cL_law 524 = .ok (.aload_n 0, 1) := dk_42 (dk_at dksL_law_14 22 rfl rfl)
theorem dL_law_525 : decode cL_law 525 = .ok (.iload_n 3, 1) := dk_29 (dk_at dksL_law_14 23 rfl rfl)
theorem dL_law_526 : decode cL_law 526 = .ok (.iconst 1, 1) := dk_4 (dk_at dksL_law_15 0 rfl rfl)
theorem dL_law_527 : decode cL_law 527 = .ok (.iadd, 1) := dk_96 (dk_at dksL_law_15 1 rfl rfl)
theorem dL_law_528 : decode cL_law 528 = .ok (.iaload, 1) := dk_46 (dk_at dksL_law_15 2 rfl rfl)
theorem dL_law_529 : decode cL_law 529 = .ok (.invokevirtual 51, 3) := dk_182 0 51 (dk_at dksL_law_15 3 rfl rfl)
theorem dL_law_532 : decode cL_law 532 = .ok (.if_icmp .eq 1016, 3) := dk_159 3 248 (dk_at dksL_law_15 6 rfl rfl)
theorem dL_law_535 : decode cL_law 535 = .ok (.iconst 0, 1) := dk_3 (dk_at dksL_law_15 9 rfl rfl)
theorem dL_law_536 : decode cL_law 536 = .ok (.ireturn, 1) := dk_172 (dk_at dksL_law_15 10 rfl rfl)
theorem dL_law_537 : decode cL_law 537 = .ok (.aload_n 1, 1) := dk_43 (dk_at dksL_law_15 11 rfl rfl)
theorem dL_law_538 : decode cL_law 538 = .ok (.aload_n 0, 1) := dk_42 (dk_at dksL_law_15 12 rfl rfl)
theorem dL_law_539 : decode cL_law 539 = .ok (.iload_n 3, 1) := dk_29 (dk_at dksL_law_15 13 rfl rfl)
theorem dL_law_540 : decode cL_law 540 = .ok (.iconst 1, 1) := dk_4 (dk_at dksL_law_15 14 rfl rfl)
theorem dL_law_541 : decode cL_law 541 = .ok (.iadd, 1) := dk_96 (dk_at dksL_law_15 15 rfl rfl)
theorem dL_law_542 : decode cL_law 542 = .ok (.iaload, 1) := dk_46 (dk_at dksL_law_15 16 rfl rfl)
theorem dL_law_543 : decode cL_law 543 = .ok (.invokevirtual 52, 3) := dk_182 0 52 (dk_at dksL_law_15 17 rfl rfl)
theorem dL_law_546 : decode cL_law 546 = .ok (.aload_n 2, 1) := dk_44 (dk_at dksL_law_15 20 rfl rfl)
theorem dL_law_547 : decode cL_law 547 = .ok (.aload_n 0, 1) := dk_42 (dk_at dksL_law_15 21 rfl rfl)
theorem dL_law_548 : decode cL_law 548 = .ok (.iload_n 3, 1) := dk_29 (dk_at dksL_law_15 22 rfl rfl)
theorem dL_law_549 : decode cL_law 549 = .ok (.iconst 1, 1) := dk_4 (dk_at dksL_law_15 23 rfl rfl)
theorem dL_law_550 : decode cL_law 550 = .ok (.iadd, 1) := dk_96 (dk_at dksL_law_16 0 rfl rfl)
theorem dL_law_551 : decode cL_law 551 = .ok (.iaload, 1) := dk_46 (dk_at dksL_law_16 1 rfl rfl)
theorem dL_law_552 : decode cL_law 552 = .ok (.invokevirtual 55, 3) := dk_182 0 55 (dk_at dksL_law_16 2 rfl rfl)
theorem dL_law_555 : decode cL_law 555 = .ok (.if_icmp .eq 993, 3) := dk_159 3 225 (dk_at dksL_law_16 5 rfl rfl)
theorem dL_law_558 : decode cL_law 558 = .ok (.iconst 0, 1) := dk_3 (dk_at dksL_law_16 8 rfl rfl)
theorem dL_law_559 : decode cL_law 559 = .ok (.ireturn, 1) := dk_172 (dk_at dksL_law_16 9 rfl rfl)
theorem dL_law_560 : decode cL_law 560 = .ok (.aload_n 1, 1) := dk_43 (dk_at dksL_law_16 10 rfl rfl)
theorem dL_law_561 : decode cL_law 561 = .ok (.aload_n 0, 1) := dk_42 (dk_at dksL_law_16 11 rfl rfl)
theorem dL_law_562 : decode cL_law 562 = .ok (.iload_n 3, 1) := dk_29 (dk_at dksL_law_16 12 rfl rfl)
theorem dL_law_563 : decode cL_law 563 = .ok (.iconst 1, 1) := dk_4 (dk_at dksL_law_16 13 rfl rfl)
theorem dL_law_564 : decode cL_law 564 = .ok (.iadd, 1) := dk_96 (dk_at dksL_law_16 14 rfl rfl)
theorem dL_law_565 : decode cL_law 565 = .ok (.iaload, 1) := dk_46 (dk_at dksL_law_16 15 rfl rfl)
theorem dL_law_566 : decode cL_law 566 = .ok (.invokevirtual 56, 3) := dk_182 0 56 (dk_at dksL_law_16 16 rfl rfl)
theorem dL_law_569 : decode cL_law 569 = .ok (.aload_n 2, 1) := dk_44 (dk_at dksL_law_16 19 rfl rfl)
theorem dL_law_570 : decode cL_law 570 = .ok (.aload_n 0, 1) := dk_42 (dk_at dksL_law_16 20 rfl rfl)
theorem dL_law_571 : decode cL_law 571 = .ok (.iload_n 3, 1) := dk_29 (dk_at dksL_law_16 21 rfl rfl)
theorem dL_law_572 : decode cL_law 572 = .ok (.iconst 1, 1) := dk_4 (dk_at dksL_law_16 22 rfl rfl)
theorem dL_law_573 : decode cL_law 573 = .ok (.iadd, 1) := dk_96 (dk_at dksL_law_16 23 rfl rfl)
theorem dL_law_574 : decode cL_law 574 = .ok (.iaload, 1) := dk_46 (dk_at dksL_law_17 0 rfl rfl)
theorem dL_law_575 : decode cL_law 575 = .ok (.invokevirtual 59, 3) := dk_182 0 59 (dk_at dksL_law_17 1 rfl rfl)
theorem dL_law_578 : decode cL_law 578 = .ok (.if_icmp .eq 970, 3) := dk_159 3 202 (dk_at dksL_law_17 4 rfl rfl)
theorem dL_law_581 : decode cL_law 581 = .ok (.iconst 0, 1) := dk_3 (dk_at dksL_law_17 7 rfl rfl)
theorem dL_law_582 : decode cL_law 582 = .ok (.ireturn, 1) := dk_172 (dk_at dksL_law_17 8 rfl rfl)
theorem dL_law_583 : decode cL_law 583 = .ok (.aload_n 1, 1) := dk_43 (dk_at dksL_law_17 9 rfl rfl)
theorem dL_law_584 : decode cL_law 584 = .ok (.aload_n 0, 1) := dk_42 (dk_at dksL_law_17 10 rfl rfl)
theorem dL_law_585 : decode cL_law 585 = .ok (.iload_n 3, 1) := dk_29 (dk_at dksL_law_17 11 rfl rfl)
theorem dL_law_586 : decode cL_law 586 = .ok (.iconst 1, 1) := dk_4 (dk_at dksL_law_17 12 rfl rfl)
theorem dL_law_587 : decode cL_law 587 = .ok (.iadd, 1) := dk_96 (dk_at dksL_law_17 13 rfl rfl)
theorem dL_law_588 : decode cL_law 588 = .ok (.iaload, 1) := dk_46 (dk_at dksL_law_17 14 rfl rfl)
theorem dL_law_589 : decode cL_law 589 = .ok (.invokevirtual 60, 3) := dk_182 0 60 (dk_at dksL_law_17 15 rfl rfl)
theorem dL_law_592 : decode cL_law 592 = .ok (.aload_n 2, 1) := dk_44 (dk_at dksL_law_17 18 rfl rfl)
theorem dL_law_593 : decode cL_law 593 = .ok (.aload_n 0, 1) := dk_42 (dk_at dksL_law_17 19 rfl rfl)
theorem dL_law_594 : decode cL_law 594 = .ok (.iload_n 3, 1) := dk_29 (dk_at dksL_law_17 20 rfl rfl)
theorem dL_law_595 : decode cL_law 595 = .ok (.iconst 1, 1) := dk_4 (dk_at dksL_law_17 21 rfl rfl)
theorem dL_law_596 : decode cL_law 596 = .ok (.iadd, 1) := dk_96 (dk_at dksL_law_17 22 rfl rfl)
theorem dL_law_597 : decode cL_law 597 = .ok (.iaload, 1) := dk_46 (dk_at dksL_law_17 23 rfl rfl)
theorem dL_law_598 : decode cL_law 598 = .ok (.invokevirtual 63, 3) := dk_182 0 63 (dk_at dksL_law_18 0 rfl rfl)
theorem dL_law_601 : decode cL_law 601 = .ok (.if_icmp .eq 947, 3) := dk_159 3 179 (dk_at dksL_law_18 3 rfl rfl)
theorem dL_law_604 : decode cL_law 604 = .ok (.iconst 0, 1) := dk_3 (dk_at dksL_law_18 6 rfl rfl)
theorem dL_law_605 : decode cL_law 605 = .ok (.ireturn, 1) := dk_172 (dk_at dksL_law_18 7 rfl rfl)
theorem dL_law_606 : decode cL_law 606 = .ok (.aload_n 1, 1) := dk_43 (dk_at dksL_law_18 8 rfl rfl)
theorem dL_law_607 : decode cL_law 607 = .ok (.aload_n 0, 1) := dk_42 (dk_at dksL_law_18 9 rfl rfl)
theorem dL_law_608 : decode cL_law 608 = .ok (.iload_n 3, 1) := dk_29 (dk_at dksL_law_18 10 rfl rfl)
theorem dL_law_609 : decode cL_law 609 = .ok (.iconst 1, 1) := dk_4 (dk_at dksL_law_18 11 rfl rfl)
theorem dL_law_610 : decode cL_law 610 = .ok (.iadd, 1) := dk_96 (dk_at dksL_law_18 12 rfl rfl)
theorem dL_law_611 : decode cL_law 611 = .ok (.iaload, 1) := dk_46 (dk_at dksL_law_18 13 rfl rfl)
theorem dL_law_612 : decode cL_law 612 = .ok (.invokevirtual 64, 3) := dk_182 0 64 (dk_at dksL_law_18 14 rfl rfl)
theorem dL_law_615 : decode cL_law 615 = .ok (.aload_n 2, 1) := dk_44 (dk_at dksL_law_18 17 rfl rfl)
theorem dL_law_616 : decode cL_law 616 = .ok (.aload_n 0, 1) := dk_42 (dk_at dksL_law_18 18 rfl rfl)
theorem dL_law_617 : decode cL_law 617 = .ok (.iload_n 3, 1) := dk_29 (dk_at dksL_law_18 19 rfl rfl)
theorem dL_law_618 : decode cL_law 618 = .ok (.iconst 1, 1) := dk_4 (dk_at dksL_law_18 20 rfl rfl)
theorem dL_law_619 : decode cL_law 619 = .ok (.iadd, 1) := dk_96 (dk_at dksL_law_18 21 rfl rfl)
theorem dL_law_620 : decode cL_law 620 = .ok (.iaload, 1) := dk_46 (dk_at dksL_law_18 22 rfl rfl)
theorem dL_law_621 : decode cL_law 621 = .ok (.invokevirtual 67, 3) := dk_182 0 67 (dk_at dksL_law_19 0 rfl rfl)
theorem dL_law_624 : decode cL_law 624 = .ok (.if_icmp .eq 924, 3) := dk_159 3 156 (dk_at dksL_law_19 3 rfl rfl)
theorem dL_law_627 : decode cL_law 627 = .ok (.iconst 0, 1) := dk_3 (dk_at dksL_law_19 6 rfl rfl)
theorem dL_law_628 : decode cL_law 628 = .ok (.ireturn, 1) := dk_172 (dk_at dksL_law_19 7 rfl rfl)
theorem dL_law_629 : decode cL_law 629 = .ok (.aload_n 1, 1) := dk_43 (dk_at dksL_law_19 8 rfl rfl)
theorem dL_law_630 : decode cL_law 630 = .ok (.aload_n 0, 1) := dk_42 (dk_at dksL_law_19 9 rfl rfl)
theorem dL_law_631 : decode cL_law 631 = .ok (.iload_n 3, 1) := dk_29 (dk_at dksL_law_19 10 rfl rfl)
theorem dL_law_632 : decode cL_law 632 = .ok (.iconst 1, 1) := dk_4 (dk_at dksL_law_19 11 rfl rfl)
theorem dL_law_633 : decode cL_law 633 = .ok (.iadd, 1) := dk_96 (dk_at dksL_law_19 12 rfl rfl)
theorem dL_law_634 : decode cL_law 634 = .ok (.iaload, 1) := dk_46 (dk_at dksL_law_19 13 rfl rfl)
theorem dL_law_635 : decode cL_law 635 = .ok (.invokevirtual 68, 3) := dk_182 0 68 (dk_at dksL_law_19 14 rfl rfl)
theorem dL_law_638 : decode cL_law 638 = .ok (.aload_n 2, 1) := dk_44 (dk_at dksL_law_19 17 rfl rfl)
theorem dL_law_639 : decode cL_law 639 = .ok (.aload_n 0, 1) := dk_42 (dk_at dksL_law_19 18 rfl rfl)
theorem dL_law_640 : decode cL_law 640 = .ok (.iload_n 3, 1) := dk_29 (dk_at dksL_law_19 19 rfl rfl)
theorem dL_law_641 : decode cL_law 641 = .ok (.iconst 1, 1) := dk_4 (dk_at dksL_law_19 20 rfl rfl)
theorem dL_law_642 : decode cL_law 642 = .ok (.iadd, 1) := dk_96 (dk_at dksL_law_19 21 rfl rfl)
theorem dL_law_643 : decode cL_law 643 = .ok (.iaload, 1) := dk_46 (dk_at dksL_law_19 22 rfl rfl)
theorem dL_law_644 : decode cL_law 644 = .ok (.invokevirtual 71, 3) := dk_182 0 71 (dk_at dksL_law_20 0 rfl rfl)
theorem dL_law_647 : decode cL_law 647 = .ok (.if_icmp .eq 901, 3) := dk_159 3 133 (dk_at dksL_law_20 3 rfl rfl)
theorem dL_law_650 : decode cL_law 650 = .ok (.iconst 0, 1) := dk_3 (dk_at dksL_law_20 6 rfl rfl)
theorem dL_law_651 : decode cL_law 651 = .ok (.ireturn, 1) := dk_172 (dk_at dksL_law_20 7 rfl rfl)
theorem dL_law_652 : decode cL_law 652 = .ok (.aload_n 1, 1) := dk_43 (dk_at dksL_law_20 8 rfl rfl)
theorem dL_law_653 : decode cL_law 653 = .ok (.aload_n 0, 1) := dk_42 (dk_at dksL_law_20 9 rfl rfl)
theorem dL_law_654 : decode cL_law 654 = .ok (.iload_n 3, 1) := dk_29 (dk_at dksL_law_20 10 rfl rfl)
theorem dL_law_655 : decode cL_law 655 = .ok (.iconst 1, 1) := dk_4 (dk_at dksL_law_20 11 rfl rfl)
theorem dL_law_656 : decode cL_law 656 = .ok (.iadd, 1) := dk_96 (dk_at dksL_law_20 12 rfl rfl)
theorem dL_law_657 : decode cL_law 657 = .ok (.iaload, 1) := dk_46 (dk_at dksL_law_20 13 rfl rfl)
theorem dL_law_658 : decode cL_law 658 = .ok (.invokevirtual 72, 3) := dk_182 0 72 (dk_at dksL_law_20 14 rfl rfl)
theorem dL_law_661 : decode cL_law 661 = .ok (.aload_n 2, 1) := dk_44 (dk_at dksL_law_20 17 rfl rfl)
theorem dL_law_662 : decode cL_law 662 = .ok (.aload_n 0, 1) := dk_42 (dk_at dksL_law_20 18 rfl rfl)
theorem dL_law_663 : decode cL_law 663 = .ok (.iload_n 3, 1) := dk_29 (dk_at dksL_law_20 19 rfl rfl)
theorem dL_law_664 : decode cL_law 664 = .ok (.iconst 1, 1) := dk_4 (dk_at dksL_law_20 20 rfl rfl)
theorem dL_law_665 : decode cL_law 665 = .ok (.iadd, 1) := dk_96 (dk_at dksL_law_20 21 rfl rfl)
theorem dL_law_666 : decode cL_law 666 = .ok (.iaload, 1) := dk_46 (dk_at dksL_law_20 22 rfl rfl)
theorem dL_law_667 : decode cL_law 667 = .ok (.invokevirtual 75, 3) := dk_182 0 75 (dk_at dksL_law_21 0 rfl rfl)
theorem dL_law_670 : decode cL_law 670 = .ok (.if_icmp .eq 878, 3) := dk_159 3 110 (dk_at dksL_law_21 3 rfl rfl)
theorem dL_law_673 : decode cL_law 673 = .ok (.iconst 0, 1) := dk_3 (dk_at dksL_law_21 6 rfl rfl)
theorem dL_law_674 : decode cL_law 674 = .ok (.ireturn, 1) := dk_172 (dk_at dksL_law_21 7 rfl rfl)
theorem dL_law_675 : decode cL_law 675 = .ok (.aload_n 1, 1) := dk_43 (dk_at dksL_law_21 8 rfl rfl)
theorem dL_law_676 : decode cL_law 676 = .ok (.invokevirtual 76, 3) := dk_182 0 76 (dk_at dksL_law_21 9 rfl rfl)
theorem dL_law_679 : decode cL_law 679 = .ok (.aload_n 2, 1) := dk_44 (dk_at dksL_law_21 12 rfl rfl)
theorem dL_law_680 : decode cL_law 680 = .ok (.invokevirtual 80, 3) := dk_182 0 80 (dk_at dksL_law_21 13 rfl rfl)
theorem dL_law_683 : decode cL_law 683 = .ok (.if_icmp .eq 865, 3) := dk_159 3 97 (dk_at dksL_law_21 16 rfl rfl)
theorem dL_law_686 : decode cL_law 686 = .ok (.iconst 0, 1) := dk_3 (dk_at dksL_law_21 19 rfl rfl)
theorem dL_law_687 : decode cL_law 687 = .ok (.ireturn, 1) := dk_172 (dk_at dksL_law_21 20 rfl rfl)
theorem dL_law_688 : decode cL_law 688 = .ok (.aload_n 1, 1) := dk_43 (dk_at dksL_law_21 21 rfl rfl)
theorem dL_law_689 : decode cL_law 689 = .ok (.aload_n 0, 1) := dk_42 (dk_at dksL_law_21 22 rfl rfl)
theorem dL_law_690 : decode cL_law 690 = .ok (.iload_n 3, 1) := dk_29 (dk_at dksL_law_21 23 rfl rfl)
theorem dL_law_691 : decode cL_law 691 = .ok (.iconst 1, 1) := dk_4 (dk_at dksL_law_22 0 rfl rfl)
theorem dL_law_692 : decode cL_law 692 = .ok (.iadd, 1) := dk_96 (dk_at dksL_law_22 1 rfl rfl)
theorem dL_law_693 : decode cL_law 693 = .ok (.iaload, 1) := dk_46 (dk_at dksL_law_22 2 rfl rfl)
theorem dL_law_694 : decode cL_law 694 = .ok (.invokevirtual 81, 3) := dk_182 0 81 (dk_at dksL_law_22 3 rfl rfl)
theorem dL_law_697 : decode cL_law 697 = .ok (.aload_n 2, 1) := dk_44 (dk_at dksL_law_22 6 rfl rfl)
theorem dL_law_698 : decode cL_law 698 = .ok (.aload_n 0, 1) := dk_42 (dk_at dksL_law_22 7 rfl rfl)
theorem dL_law_699 : decode cL_law 699 = .ok (.iload_n 3, 1) := dk_29 (dk_at dksL_law_22 8 rfl rfl)
theorem dL_law_700 : decode cL_law 700 = .ok (.iconst 1, 1) := dk_4 (dk_at dksL_law_22 9 rfl rfl)
theorem dL_law_701 : decode cL_law 701 = .ok (.iadd, 1) := dk_96 (dk_at dksL_law_22 10 rfl rfl)
theorem dL_law_702 : decode cL_law 702 = .ok (.iaload, 1) := dk_46 (dk_at dksL_law_22 11 rfl rfl)
theorem dL_law_703 : decode cL_law 703 = .ok (.invokevirtual 85, 3) := dk_182 0 85 (dk_at dksL_law_22 12 rfl rfl)
theorem dL_law_706 : decode cL_law 706 = .ok (.lcmp, 1) := dk_148 (dk_at dksL_law_22 15 rfl rfl)
theorem dL_law_707 : decode cL_law 707 = .ok (.ifCond .eq 841, 3) := dk_153 3 73 (dk_at dksL_law_22 16 rfl rfl)
theorem dL_law_710 : decode cL_law 710 = .ok (.iconst 0, 1) := dk_3 (dk_at dksL_law_22 19 rfl rfl)
theorem dL_law_711 : decode cL_law 711 = .ok (.ireturn, 1) := dk_172 (dk_at dksL_law_22 20 rfl rfl)
theorem dL_law_712 : decode cL_law 712 = .ok (.aload_n 1, 1) := dk_43 (dk_at dksL_law_22 21 rfl rfl)
theorem dL_law_713 : decode cL_law 713 = .ok (.aload_n 0, 1) := dk_42 (dk_at dksL_law_22 22 rfl rfl)
theorem dL_law_714 : decode cL_law 714 = .ok (.iload_n 3, 1) := dk_29 (dk_at dksL_law_22 23 rfl rfl)
theorem dL_law_715 : decode cL_law 715 = .ok (.iconst 1, 1) := dk_4 (dk_at dksL_law_23 0 rfl rfl)
theorem dL_law_716 : decode cL_law 716 = .ok (.iadd, 1) := dk_96 (dk_at dksL_law_23 1 rfl rfl)
theorem dL_law_717 : decode cL_law 717 = .ok (.iaload, 1) := dk_46 (dk_at dksL_law_23 2 rfl rfl)
theorem dL_law_718 : decode cL_law 718 = .ok (.invokevirtual 86, 3) := dk_182 0 86 (dk_at dksL_law_23 3 rfl rfl)
theorem dL_law_721 : decode cL_law 721 = .ok (.aload_n 2, 1) := dk_44 (dk_at dksL_law_23 6 rfl rfl)
theorem dL_law_722 : decode cL_law 722 = .ok (.aload_n 0, 1) := dk_42 (dk_at dksL_law_23 7 rfl rfl)
theorem dL_law_723 : decode cL_law 723 = .ok (.iload_n 3, 1) := dk_29 (dk_at dksL_law_23 8 rfl rfl)
theorem dL_law_724 : decode cL_law 724 = .ok (.iconst 1, 1) := dk_4 (dk_at dksL_law_23 9 rfl rfl)
theorem dL_law_725 : decode cL_law 725 = .ok (.iadd, 1) := dk_96 (dk_at dksL_law_23 10 rfl rfl)
theorem dL_law_726 : decode cL_law 726 = .ok (.iaload, 1) := dk_46 (dk_at dksL_law_23 11 rfl rfl)
theorem dL_law_727 : decode cL_law 727 = .ok (.invokevirtual 89, 3) := dk_182 0 89 (dk_at dksL_law_23 12 rfl rfl)
theorem dL_law_730 : decode cL_law 730 = .ok (.if_icmp .eq 818, 3) := dk_159 3 50 (dk_at dksL_law_23 15 rfl rfl)
theorem dL_law_733 : decode cL_law 733 = .ok (.iconst 0, 1) := dk_3 (dk_at dksL_law_23 18 rfl rfl)
theorem dL_law_734 : decode cL_law 734 = .ok (.ireturn, 1) := dk_172 (dk_at dksL_law_23 19 rfl rfl)
theorem dL_law_735 : decode cL_law 735 = .ok (.aload_n 1, 1) := dk_43 (dk_at dksL_law_23 20 rfl rfl)
theorem dL_law_736 : decode cL_law 736 = .ok (.aload_n 0, 1) := dk_42 (dk_at dksL_law_23 21 rfl rfl)
theorem dL_law_737 : decode cL_law 737 = .ok (.iload_n 3, 1) := dk_29 (dk_at dksL_law_23 22 rfl rfl)
theorem dL_law_738 : decode cL_law 738 = .ok (.iconst 1, 1) := dk_4 (dk_at dksL_law_23 23 rfl rfl)
theorem dL_law_739 : decode cL_law 739 = .ok (.iadd, 1) := dk_96 (dk_at dksL_law_24 0 rfl rfl)
theorem dL_law_740 : decode cL_law 740 = .ok (.iaload, 1) := dk_46 (dk_at dksL_law_24 1 rfl rfl)
theorem dL_law_741 : decode cL_law 741 = .ok (.aload_n 0, 1) := dk_42 (dk_at dksL_law_24 2 rfl rfl)
theorem dL_law_742 : decode cL_law 742 = .ok (.iload_n 3, 1) := dk_29 (dk_at dksL_law_24 3 rfl rfl)
theorem dL_law_743 : decode cL_law 743 = .ok (.iconst 2, 1) := dk_5 (dk_at dksL_law_24 4 rfl rfl)
theorem dL_law_744 : decode cL_law 744 = .ok (.iadd, 1) := dk_96 (dk_at dksL_law_24 5 rfl rfl)
theorem dL_law_745 : decode cL_law 745 = .ok (.iaload, 1) := dk_46 (dk_at dksL_law_24 6 rfl rfl)
theorem dL_law_746 : decode cL_law 746 = .ok (.invokevirtual 90, 3) := dk_182 0 90 (dk_at dksL_law_24 7 rfl rfl)
theorem dL_law_749 : decode cL_law 749 = .ok (.aload_n 2, 1) := dk_44 (dk_at dksL_law_24 10 rfl rfl)
theorem dL_law_750 : decode cL_law 750 = .ok (.aload_n 0, 1) := dk_42 (dk_at dksL_law_24 11 rfl rfl)
theorem dL_law_751 : decode cL_law 751 = .ok (.iload_n 3, 1) := dk_29 (dk_at dksL_law_24 12 rfl rfl)
theorem dL_law_752 : decode cL_law 752 = .ok (.iconst 1, 1) := dk_4 (dk_at dksL_law_24 13 rfl rfl)
theorem dL_law_753 : decode cL_law 753 = .ok (.iadd, 1) := dk_96 (dk_at dksL_law_24 14 rfl rfl)
theorem dL_law_754 : decode cL_law 754 = .ok (.iaload, 1) := dk_46 (dk_at dksL_law_24 15 rfl rfl)
theorem dL_law_755 : decode cL_law 755 = .ok (.aload_n 0, 1) := dk_42 (dk_at dksL_law_24 16 rfl rfl)
theorem dL_law_756 : decode cL_law 756 = .ok (.iload_n 3, 1) := dk_29 (dk_at dksL_law_24 17 rfl rfl)
theorem dL_law_757 : decode cL_law 757 = .ok (.iconst 2, 1) := dk_5 (dk_at dksL_law_24 18 rfl rfl)
theorem dL_law_758 : decode cL_law 758 = .ok (.iadd, 1) := dk_96 (dk_at dksL_law_24 19 rfl rfl)
theorem dL_law_759 : decode cL_law 759 = .ok (.iaload, 1) := dk_46 (dk_at dksL_law_24 20 rfl rfl)
theorem dL_law_760 : decode cL_law 760 = .ok (.invokevirtual 93, 3) := dk_182 0 93 (dk_at dksL_law_24 21 rfl rfl)
theorem dL_law_763 : decode cL_law 763 = .ok (.if_icmp .eq 785, 3) := dk_159 3 17 (dk_at dksL_law_25 0 rfl rfl)
theorem dL_law_766 : decode cL_law 766 = .ok (.iconst 0, 1) := dk_3 (dk_at dksL_law_25 3 rfl rfl)
theorem dL_law_767 : decode cL_law 767 = .ok (.ireturn, 1) := dk_172 (dk_at dksL_law_25 4 rfl rfl)
theorem dL_law_768 : decode cL_law 768 = .ok (.aload_n 1, 1) := dk_43 (dk_at dksL_law_25 5 rfl rfl)
theorem dL_law_769 : decode cL_law 769 = .ok (.aload_n 0, 1) := dk_42 (dk_at dksL_law_25 6 rfl rfl)
theorem dL_law_770 : decode cL_law 770 = .ok (.iload_n 3, 1) := dk_29 (dk_at dksL_law_25 7 rfl rfl)
theorem dL_law_771 : decode cL_law 771 = .ok (.iconst 1, 1) := dk_4 (dk_at dksL_law_25 8 rfl rfl)
theorem dL_law_772 : decode cL_law 772 = .ok (.iadd, 1) := dk_96 (dk_at dksL_law_25 9 rfl rfl)
theorem dL_law_773 : decode cL_law 773 = .ok (.iaload, 1) := dk_46 (dk_at dksL_law_25 10 rfl rfl)
theorem dL_law_774 : decode cL_law 774 = .ok (.invokevirtual 94, 3) := dk_182 0 94 (dk_at dksL_law_25 11 rfl rfl)
theorem dL_law_777 : decode cL_law 777 = .ok (.aload_n 2, 1) := dk_44 (dk_at dksL_law_25 14 rfl rfl)
theorem dL_law_778 : decode cL_law 778 = .ok (.aload_n 0, 1) := dk_42 (dk_at dksL_law_25 15 rfl rfl)
theorem dL_law_779 : decode cL_law 779 = .ok (.iload_n 3, 1) := dk_29 (dk_at dksL_law_25 16 rfl rfl)
theorem dL_law_780 : decode cL_law 780 = .ok (.iconst 1, 1) := dk_4 (dk_at dksL_law_25 17 rfl rfl)
theorem dL_law_781 : decode cL_law 781 = .ok (.iadd, 1) := dk_96 (dk_at dksL_law_25 18 rfl rfl)
theorem dL_law_782 : decode cL_law 782 = .ok (.iaload, 1) := dk_46 (dk_at dksL_law_25 19 rfl rfl)
theorem dL_law_783 : decode cL_law 783 = .ok (.invokevirtual 97, 3) := dk_182 0 97 (dk_at dksL_law_25 20 rfl rfl)
theorem dL_law_786 : decode cL_law 786 = .ok (.if_icmp .eq 762, 3) := dk_159 2 250 (dk_at dksL_law_26 0 rfl rfl)
theorem dL_law_789 : decode cL_law 789 = .ok (.iconst 0, 1) := dk_3 (dk_at dksL_law_26 3 rfl rfl)
theorem dL_law_790 : decode cL_law 790 = .ok (.ireturn, 1) := dk_172 (dk_at dksL_law_26 4 rfl rfl)
theorem dL_law_791 : decode cL_law 791 = .ok (.aload_n 1, 1) := dk_43 (dk_at dksL_law_26 5 rfl rfl)
theorem dL_law_792 : decode cL_law 792 = .ok (.aload_n 0, 1) := dk_42 (dk_at dksL_law_26 6 rfl rfl)
theorem dL_law_793 : decode cL_law 793 = .ok (.iload_n 3, 1) := dk_29 (dk_at dksL_law_26 7 rfl rfl)
theorem dL_law_794 : decode cL_law 794 = .ok (.iconst 1, 1) := dk_4 (dk_at dksL_law_26 8 rfl rfl)
theorem dL_law_795 : decode cL_law 795 = .ok (.iadd, 1) := dk_96 (dk_at dksL_law_26 9 rfl rfl)
theorem dL_law_796 : decode cL_law 796 = .ok (.iaload, 1) := dk_46 (dk_at dksL_law_26 10 rfl rfl)
theorem dL_law_797 : decode cL_law 797 = .ok (.invokevirtual 98, 3) := dk_182 0 98 (dk_at dksL_law_26 11 rfl rfl)
theorem dL_law_800 : decode cL_law 800 = .ok (.aload_n 2, 1) := dk_44 (dk_at dksL_law_26 14 rfl rfl)
theorem dL_law_801 : decode cL_law 801 = .ok (.aload_n 0, 1) := dk_42 (dk_at dksL_law_26 15 rfl rfl)
theorem dL_law_802 : decode cL_law 802 = .ok (.iload_n 3, 1) := dk_29 (dk_at dksL_law_26 16 rfl rfl)
theorem dL_law_803 : decode cL_law 803 = .ok (.iconst 1, 1) := dk_4 (dk_at dksL_law_26 17 rfl rfl)
theorem dL_law_804 : decode cL_law 804 = .ok (.iadd, 1) := dk_96 (dk_at dksL_law_26 18 rfl rfl)
theorem dL_law_805 : decode cL_law 805 = .ok (.iaload, 1) := dk_46 (dk_at dksL_law_26 19 rfl rfl)
theorem dL_law_806 : decode cL_law 806 = .ok (.invokevirtual 101, 3) := dk_182 0 101 (dk_at dksL_law_26 20 rfl rfl)
theorem dL_law_809 : decode cL_law 809 = .ok (.lcmp, 1) := dk_148 (dk_at dksL_law_26 23 rfl rfl)
theorem dL_law_810 : decode cL_law 810 = .ok (.ifCond .eq 738, 3) := dk_153 2 226 (dk_at dksL_law_27 0 rfl rfl)
theorem dL_law_813 : decode cL_law 813 = .ok (.iconst 0, 1) := dk_3 (dk_at dksL_law_27 3 rfl rfl)
theorem dL_law_814 : decode cL_law 814 = .ok (.ireturn, 1) := dk_172 (dk_at dksL_law_27 4 rfl rfl)
theorem dL_law_815 : decode cL_law 815 = .ok (.aload_n 1, 1) := dk_43 (dk_at dksL_law_27 5 rfl rfl)
theorem dL_law_816 : decode cL_law 816 = .ok (.aload_n 0, 1) := dk_42 (dk_at dksL_law_27 6 rfl rfl)
theorem dL_law_817 : decode cL_law 817 = .ok (.iload_n 3, 1) := dk_29 (dk_at dksL_law_27 7 rfl rfl)
theorem dL_law_818 : decode cL_law 818 = .ok (.iconst 1, 1) := dk_4 (dk_at dksL_law_27 8 rfl rfl)
theorem dL_law_819 : decode cL_law 819 = .ok (.iadd, 1) := dk_96 (dk_at dksL_law_27 9 rfl rfl)
theorem dL_law_820 : decode cL_law 820 = .ok (.iaload, 1) := dk_46 (dk_at dksL_law_27 10 rfl rfl)
theorem dL_law_821 : decode cL_law 821 = .ok (.invokevirtual 102, 3) := dk_182 0 102 (dk_at dksL_law_27 11 rfl rfl)
theorem dL_law_824 : decode cL_law 824 = .ok (.aload_n 2, 1) := dk_44 (dk_at dksL_law_27 14 rfl rfl)
theorem dL_law_825 : decode cL_law 825 = .ok (.aload_n 0, 1) := dk_42 (dk_at dksL_law_27 15 rfl rfl)
theorem dL_law_826 : decode cL_law 826 = .ok (.iload_n 3, 1) := dk_29 (dk_at dksL_law_27 16 rfl rfl)
theorem dL_law_827 : decode cL_law 827 = .ok (.iconst 1, 1) := dk_4 (dk_at dksL_law_27 17 rfl rfl)
theorem dL_law_828 : decode cL_law 828 = .ok (.iadd, 1) := dk_96 (dk_at dksL_law_27 18 rfl rfl)
theorem dL_law_829 : decode cL_law 829 = .ok (.iaload, 1) := dk_46 (dk_at dksL_law_27 19 rfl rfl)
theorem dL_law_830 : decode cL_law 830 = .ok (.invokevirtual 105, 3) := dk_182 0 105 (dk_at dksL_law_27 20 rfl rfl)
theorem dL_law_833 : decode cL_law 833 = .ok (.if_icmp .eq 715, 3) := dk_159 2 203 (dk_at dksL_law_28 0 rfl rfl)
theorem dL_law_836 : decode cL_law 836 = .ok (.iconst 0, 1) := dk_3 (dk_at dksL_law_28 3 rfl rfl)
theorem dL_law_837 : decode cL_law 837 = .ok (.ireturn, 1) := dk_172 (dk_at dksL_law_28 4 rfl rfl)
theorem dL_law_838 : decode cL_law 838 = .ok (.aload_n 1, 1) := dk_43 (dk_at dksL_law_28 5 rfl rfl)
theorem dL_law_839 : decode cL_law 839 = .ok (.aload_n 0, 1) := dk_42 (dk_at dksL_law_28 6 rfl rfl)
theorem dL_law_840 : decode cL_law 840 = .ok (.iload_n 3, 1) := dk_29 (dk_at dksL_law_28 7 rfl rfl)
theorem dL_law_841 : decode cL_law 841 = .ok (.iconst 1, 1) := dk_4 (dk_at dksL_law_28 8 rfl rfl)
theorem dL_law_842 : decode cL_law 842 = .ok (.iadd, 1) := dk_96 (dk_at dksL_law_28 9 rfl rfl)
theorem dL_law_843 : decode cL_law 843 = .ok (.iaload, 1) := dk_46 (dk_at dksL_law_28 10 rfl rfl)
theorem dL_law_844 : decode cL_law 844 = .ok (.invokevirtual 106, 3) := dk_182 0 106 (dk_at dksL_law_28 11 rfl rfl)
theorem dL_law_847 : decode cL_law 847 = .ok (.aload_n 2, 1) := dk_44 (dk_at dksL_law_28 14 rfl rfl)
theorem dL_law_848 : decode cL_law 848 = .ok (.aload_n 0, 1) := dk_42 (dk_at dksL_law_28 15 rfl rfl)
theorem dL_law_849 : decode cL_law 849 = .ok (.iload_n 3, 1) := dk_29 (dk_at dksL_law_28 16 rfl rfl)
theorem dL_law_850 : decode cL_law 850 = .ok (.iconst 1, 1) := dk_4 (dk_at dksL_law_28 17 rfl rfl)
theorem dL_law_851 : decode cL_law 851 = .ok (.iadd, 1) := dk_96 (dk_at dksL_law_28 18 rfl rfl)
theorem dL_law_852 : decode cL_law 852 = .ok (.iaload, 1) := dk_46 (dk_at dksL_law_28 19 rfl rfl)
theorem dL_law_853 : decode cL_law 853 = .ok (.invokevirtual 109, 3) := dk_182 0 109 (dk_at dksL_law_28 20 rfl rfl)
theorem dL_law_856 : decode cL_law 856 = .ok (.if_icmp .eq 692, 3) := dk_159 2 180 (dk_at dksL_law_29 0 rfl rfl)
theorem dL_law_859 : decode cL_law 859 = .ok (.iconst 0, 1) := dk_3 (dk_at dksL_law_29 3 rfl rfl)
theorem dL_law_860 : decode cL_law 860 = .ok (.ireturn, 1) := dk_172 (dk_at dksL_law_29 4 rfl rfl)
theorem dL_law_861 : decode cL_law 861 = .ok (.aload_n 1, 1) := dk_43 (dk_at dksL_law_29 5 rfl rfl)
theorem dL_law_862 : decode cL_law 862 = .ok (.aload_n 0, 1) := dk_42 (dk_at dksL_law_29 6 rfl rfl)
theorem dL_law_863 : decode cL_law 863 = .ok (.iload_n 3, 1) := dk_29 (dk_at dksL_law_29 7 rfl rfl)
theorem dL_law_864 : decode cL_law 864 = .ok (.iconst 1, 1) := dk_4 (dk_at dksL_law_29 8 rfl rfl)
theorem dL_law_865 : decode cL_law 865 = .ok (.iadd, 1) := dk_96 (dk_at dksL_law_29 9 rfl rfl)
theorem dL_law_866 : decode cL_law 866 = .ok (.iaload, 1) := dk_46 (dk_at dksL_law_29 10 rfl rfl)
theorem dL_law_867 : decode cL_law 867 = .ok (.invokevirtual 110, 3) := dk_182 0 110 (dk_at dksL_law_29 11 rfl rfl)
theorem dL_law_870 : decode cL_law 870 = .ok (.aload_n 2, 1) := dk_44 (dk_at dksL_law_29 14 rfl rfl)
theorem dL_law_871 : decode cL_law 871 = .ok (.aload_n 0, 1) := dk_42 (dk_at dksL_law_29 15 rfl rfl)
theorem dL_law_872 : decode cL_law 872 = .ok (.iload_n 3, 1) := dk_29 (dk_at dksL_law_29 16 rfl rfl)
theorem dL_law_873 : decode cL_law 873 = .ok (.iconst 1, 1) := dk_4 (dk_at dksL_law_29 17 rfl rfl)
theorem dL_law_874 : decode cL_law 874 = .ok (.iadd, 1) := dk_96 (dk_at dksL_law_29 18 rfl rfl)
theorem dL_law_875 : decode cL_law 875 = .ok (.iaload, 1) := dk_46 (dk_at dksL_law_29 19 rfl rfl)
theorem dL_law_876 : decode cL_law 876 = .ok (.invokevirtual 113, 3) := dk_182 0 113 (dk_at dksL_law_29 20 rfl rfl)
theorem dL_law_879 : decode cL_law 879 = .ok (.if_icmp .eq 669, 3) := dk_159 2 157 (dk_at dksL_law_30 0 rfl rfl)
theorem dL_law_882 : decode cL_law 882 = .ok (.iconst 0, 1) := dk_3 (dk_at dksL_law_30 3 rfl rfl)
theorem dL_law_883 : decode cL_law 883 = .ok (.ireturn, 1) := dk_172 (dk_at dksL_law_30 4 rfl rfl)
theorem dL_law_884 : decode cL_law 884 = .ok (.aload_n 1, 1) := dk_43 (dk_at dksL_law_30 5 rfl rfl)
theorem dL_law_885 : decode cL_law 885 = .ok (.aload_n 0, 1) := dk_42 (dk_at dksL_law_30 6 rfl rfl)
theorem dL_law_886 : decode cL_law 886 = .ok (.iload_n 3, 1) := dk_29 (dk_at dksL_law_30 7 rfl rfl)
theorem dL_law_887 : decode cL_law 887 = .ok (.iconst 1, 1) := dk_4 (dk_at dksL_law_30 8 rfl rfl)
theorem dL_law_888 : decode cL_law 888 = .ok (.iadd, 1) := dk_96 (dk_at dksL_law_30 9 rfl rfl)
theorem dL_law_889 : decode cL_law 889 = .ok (.iaload, 1) := dk_46 (dk_at dksL_law_30 10 rfl rfl)
theorem dL_law_890 : decode cL_law 890 = .ok (.invokevirtual 114, 3) := dk_182 0 114 (dk_at dksL_law_30 11 rfl rfl)
theorem dL_law_893 : decode cL_law 893 = .ok (.aload_n 2, 1) := dk_44 (dk_at dksL_law_30 14 rfl rfl)
theorem dL_law_894 : decode cL_law 894 = .ok (.aload_n 0, 1) := dk_42 (dk_at dksL_law_30 15 rfl rfl)
theorem dL_law_895 : decode cL_law 895 = .ok (.iload_n 3, 1) := dk_29 (dk_at dksL_law_30 16 rfl rfl)
theorem dL_law_896 : decode cL_law 896 = .ok (.iconst 1, 1) := dk_4 (dk_at dksL_law_30 17 rfl rfl)
theorem dL_law_897 : decode cL_law 897 = .ok (.iadd, 1) := dk_96 (dk_at dksL_law_30 18 rfl rfl)
theorem dL_law_898 : decode cL_law 898 = .ok (.iaload, 1) := dk_46 (dk_at dksL_law_30 19 rfl rfl)
theorem dL_law_899 : decode cL_law 899 = .ok (.invokevirtual 117, 3) := dk_182 0 117 (dk_at dksL_law_30 20 rfl rfl)
theorem dL_law_902 : decode cL_law 902 = .ok (.if_icmp .eq 646, 3) := dk_159 2 134 (dk_at dksL_law_31 0 rfl rfl)
theorem dL_law_905 : decode cL_law 905 = .ok (.iconst 0, 1) := dk_3 (dk_at dksL_law_31 3 rfl rfl)
theorem dL_law_906 : decode cL_law 906 = .ok (.ireturn, 1) := dk_172 (dk_at dksL_law_31 4 rfl rfl)
theorem dL_law_907 : decode cL_law 907 = .ok (.aload_n 1, 1) := dk_43 (dk_at dksL_law_31 5 rfl rfl)
theorem dL_law_908 : decode cL_law 908 = .ok (.aload_n 0, 1) := dk_42 (dk_at dksL_law_31 6 rfl rfl)
theorem dL_law_909 : decode cL_law 909 = .ok (.iload_n 3, 1) := dk_29 (dk_at dksL_law_31 7 rfl rfl)
theorem dL_law_910 : decode cL_law 910 = .ok (.iconst 1, 1) := dk_4 (dk_at dksL_law_31 8 rfl rfl)
theorem dL_law_911 : decode cL_law 911 = .ok (.iadd, 1) := dk_96 (dk_at dksL_law_31 9 rfl rfl)
theorem dL_law_912 : decode cL_law 912 = .ok (.iaload, 1) := dk_46 (dk_at dksL_law_31 10 rfl rfl)
theorem dL_law_913 : decode cL_law 913 = .ok (.invokevirtual 118, 3) := dk_182 0 118 (dk_at dksL_law_31 11 rfl rfl)
theorem dL_law_916 : decode cL_law 916 = .ok (.aload_n 2, 1) := dk_44 (dk_at dksL_law_31 14 rfl rfl)
theorem dL_law_917 : decode cL_law 917 = .ok (.aload_n 0, 1) := dk_42 (dk_at dksL_law_31 15 rfl rfl)
theorem dL_law_918 : decode cL_law 918 = .ok (.iload_n 3, 1) := dk_29 (dk_at dksL_law_31 16 rfl rfl)
theorem dL_law_919 : decode cL_law 919 = .ok (.iconst 1, 1) := dk_4 (dk_at dksL_law_31 17 rfl rfl)
theorem dL_law_920 : decode cL_law 920 = .ok (.iadd, 1) := dk_96 (dk_at dksL_law_31 18 rfl rfl)
theorem dL_law_921 : decode cL_law 921 = .ok (.iaload, 1) := dk_46 (dk_at dksL_law_31 19 rfl rfl)
theorem dL_law_922 : decode cL_law 922 = .ok (.invokevirtual 121, 3) := dk_182 0 121 (dk_at dksL_law_31 20 rfl rfl)
theorem dL_law_925 : decode cL_law 925 = .ok (.if_icmp .eq 623, 3) := dk_159 2 111 (dk_at dksL_law_32 0 rfl rfl)
theorem dL_law_928 : decode cL_law 928 = .ok (.iconst 0, 1) := dk_3 (dk_at dksL_law_32 3 rfl rfl)
theorem dL_law_929 : decode cL_law 929 = .ok (.ireturn, 1) := dk_172 (dk_at dksL_law_32 4 rfl rfl)
theorem dL_law_930 : decode cL_law 930 = .ok (.aload_n 1, 1) := dk_43 (dk_at dksL_law_32 5 rfl rfl)
theorem dL_law_931 : decode cL_law 931 = .ok (.aload_n 0, 1) := dk_42 (dk_at dksL_law_32 6 rfl rfl)
theorem dL_law_932 : decode cL_law 932 = .ok (.iload_n 3, 1) := dk_29 (dk_at dksL_law_32 7 rfl rfl)
theorem dL_law_933 : decode cL_law 933 = .ok (.iconst 1, 1) := dk_4 (dk_at dksL_law_32 8 rfl rfl)
theorem dL_law_934 : decode cL_law 934 = .ok (.iadd, 1) := dk_96 (dk_at dksL_law_32 9 rfl rfl)
theorem dL_law_935 : decode cL_law 935 = .ok (.iaload, 1) := dk_46 (dk_at dksL_law_32 10 rfl rfl)
theorem dL_law_936 : decode cL_law 936 = .ok (.aload_n 0, 1) := dk_42 (dk_at dksL_law_32 11 rfl rfl)
theorem dL_law_937 : decode cL_law 937 = .ok (.iload_n 3, 1) := dk_29 (dk_at dksL_law_32 12 rfl rfl)
theorem dL_law_938 : decode cL_law 938 = .ok (.iconst 2, 1) := dk_5 (dk_at dksL_law_32 13 rfl rfl)
theorem dL_law_939 : decode cL_law 939 = .ok (.iadd, 1) := dk_96 (dk_at dksL_law_32 14 rfl rfl)
theorem dL_law_940 : decode cL_law 940 = .ok (.iaload, 1) := dk_46 (dk_at dksL_law_32 15 rfl rfl)
theorem dL_law_941 : decode cL_law 941 = .ok (.invokevirtual 122, 3) := dk_182 0 122 (dk_at dksL_law_32 16 rfl rfl)
theorem dL_law_944 : decode cL_law 944 = .ok (.aload_n 2, 1) := dk_44 (dk_at dksL_law_32 19 rfl rfl)
theorem dL_law_945 : decode cL_law 945 = .ok (.aload_n 0, 1) := dk_42 (dk_at dksL_law_32 20 rfl rfl)
theorem dL_law_946 : decode cL_law 946 = .ok (.iload_n 3, 1) := dk_29 (dk_at dksL_law_32 21 rfl rfl)
theorem dL_law_947 : decode cL_law 947 = .ok (.iconst 1, 1) := dk_4 (dk_at dksL_law_32 22 rfl rfl)
theorem dL_law_948 : decode cL_law 948 = .ok (.iadd, 1) := dk_96 (dk_at dksL_law_32 23 rfl rfl)
theorem dL_law_949 : decode cL_law 949 = .ok (.iaload, 1) := dk_46 (dk_at dksL_law_33 0 rfl rfl)
theorem dL_law_950 : decode cL_law 950 = .ok (.aload_n 0, 1) := dk_42 (dk_at dksL_law_33 1 rfl rfl)
theorem dL_law_951 : decode cL_law 951 = .ok (.iload_n 3, 1) := dk_29 (dk_at dksL_law_33 2 rfl rfl)
theorem dL_law_952 : decode cL_law 952 = .ok (.iconst 2, 1) := dk_5 (dk_at dksL_law_33 3 rfl rfl)
theorem dL_law_953 : decode cL_law 953 = .ok (.iadd, 1) := dk_96 (dk_at dksL_law_33 4 rfl rfl)
theorem dL_law_954 : decode cL_law 954 = .ok (.iaload, 1) := dk_46 (dk_at dksL_law_33 5 rfl rfl)
theorem dL_law_955 : decode cL_law 955 = .ok (.invokevirtual 125, 3) := dk_182 0 125 (dk_at dksL_law_33 6 rfl rfl)
theorem dL_law_958 : decode cL_law 958 = .ok (.if_icmp .eq 590, 3) := dk_159 2 78 (dk_at dksL_law_33 9 rfl rfl)
theorem dL_law_961 : decode cL_law 961 = .ok (.iconst 0, 1) := dk_3 (dk_at dksL_law_33 12 rfl rfl)
theorem dL_law_962 : decode cL_law 962 = .ok (.ireturn, 1) := dk_172 (dk_at dksL_law_33 13 rfl rfl)
theorem dL_law_963 : decode cL_law 963 = .ok (.aload_n 1, 1) := dk_43 (dk_at dksL_law_33 14 rfl rfl)
theorem dL_law_964 : decode cL_law 964 = .ok (.aload_n 0, 1) := dk_42 (dk_at dksL_law_33 15 rfl rfl)
theorem dL_law_965 : decode cL_law 965 = .ok (.iload_n 3, 1) := dk_29 (dk_at dksL_law_33 16 rfl rfl)
theorem dL_law_966 : decode cL_law 966 = .ok (.iconst 1, 1) := dk_4 (dk_at dksL_law_33 17 rfl rfl)
theorem dL_law_967 : decode cL_law 967 = .ok (.iadd, 1) := dk_96 (dk_at dksL_law_33 18 rfl rfl)
theorem dL_law_968 : decode cL_law 968 = .ok (.iaload, 1) := dk_46 (dk_at dksL_law_33 19 rfl rfl)
theorem dL_law_969 : decode cL_law 969 = .ok (.aload_n 0, 1) := dk_42 (dk_at dksL_law_33 20 rfl rfl)
theorem dL_law_970 : decode cL_law 970 = .ok (.iload_n 3, 1) := dk_29 (dk_at dksL_law_33 21 rfl rfl)
theorem dL_law_971 : decode cL_law 971 = .ok (.iconst 2, 1) := dk_5 (dk_at dksL_law_33 22 rfl rfl)
theorem dL_law_972 : decode cL_law 972 = .ok (.iadd, 1) := dk_96 (dk_at dksL_law_33 23 rfl rfl)
theorem dL_law_973 : decode cL_law 973 = .ok (.iaload, 1) := dk_46 (dk_at dksL_law_34 0 rfl rfl)
theorem dL_law_974 : decode cL_law 974 = .ok (.invokevirtual 126, 3) := dk_182 0 126 (dk_at dksL_law_34 1 rfl rfl)
theorem dL_law_977 : decode cL_law 977 = .ok (.aload_n 2, 1) := dk_44 (dk_at dksL_law_34 4 rfl rfl)
theorem dL_law_978 : decode cL_law 978 = .ok (.aload_n 0, 1) := dk_42 (dk_at dksL_law_34 5 rfl rfl)
theorem dL_law_979 : decode cL_law 979 = .ok (.iload_n 3, 1) := dk_29 (dk_at dksL_law_34 6 rfl rfl)
theorem dL_law_980 : decode cL_law 980 = .ok (.iconst 1, 1) := dk_4 (dk_at dksL_law_34 7 rfl rfl)
theorem dL_law_981 : decode cL_law 981 = .ok (.iadd, 1) := dk_96 (dk_at dksL_law_34 8 rfl rfl)
theorem dL_law_982 : decode cL_law 982 = .ok (.iaload, 1) := dk_46 (dk_at dksL_law_34 9 rfl rfl)
theorem dL_law_983 : decode cL_law 983 = .ok (.aload_n 0, 1) := dk_42 (dk_at dksL_law_34 10 rfl rfl)
theorem dL_law_984 : decode cL_law 984 = .ok (.iload_n 3, 1) := dk_29 (dk_at dksL_law_34 11 rfl rfl)
theorem dL_law_985 : decode cL_law 985 = .ok (.iconst 2, 1) := dk_5 (dk_at dksL_law_34 12 rfl rfl)
theorem dL_law_986 : decode cL_law 986 = .ok (.iadd, 1) := dk_96 (dk_at dksL_law_34 13 rfl rfl)
theorem dL_law_987 : decode cL_law 987 = .ok (.iaload, 1) := dk_46 (dk_at dksL_law_34 14 rfl rfl)
theorem dL_law_988 : decode cL_law 988 = .ok (.invokevirtual 129, 3) := dk_182 0 129 (dk_at dksL_law_34 15 rfl rfl)
theorem dL_law_991 : decode cL_law 991 = .ok (.if_icmp .eq 557, 3) := dk_159 2 45 (dk_at dksL_law_34 18 rfl rfl)
theorem dL_law_994 : decode cL_law 994 = .ok (.iconst 0, 1) := dk_3 (dk_at dksL_law_34 21 rfl rfl)
theorem dL_law_995 : decode cL_law 995 = .ok (.ireturn, 1) := dk_172 (dk_at dksL_law_34 22 rfl rfl)
theorem dL_law_996 : decode cL_law 996 = .ok (.aload_n 1, 1) := dk_43 (dk_at dksL_law_34 23 rfl rfl)
theorem dL_law_997 : decode cL_law 997 = .ok (.aload_n 0, 1) := dk_42 (dk_at dksL_law_35 0 rfl rfl)
theorem dL_law_998 : decode cL_law 998 = .ok (.iload_n 3, 1) := dk_29 (dk_at dksL_law_35 1 rfl rfl)
theorem dL_law_999 : decode cL_law 999 = .ok (.iconst 1, 1) := dk_4 (dk_at dksL_law_35 2 rfl rfl)
theorem dL_law_1000 : decode cL_law 1000 = .ok (.iadd, 1) := dk_96 (dk_at dksL_law_35 3 rfl rfl)
theorem dL_law_1001 : decode cL_law 1001 = .ok (.iaload, 1) := dk_46 (dk_at dksL_law_35 4 rfl rfl)
theorem dL_law_1002 : decode cL_law 1002 = .ok (.aload_n 0, 1) := dk_42 (dk_at dksL_law_35 5 rfl rfl)
theorem dL_law_1003 : decode cL_law 1003 = .ok (.iload_n 3, 1) := dk_29 (dk_at dksL_law_35 6 rfl rfl)
theorem dL_law_1004 : decode cL_law 1004 = .ok (.iconst 2, 1) := dk_5 (dk_at dksL_law_35 7 rfl rfl)
theorem dL_law_1005 : decode cL_law 1005 = .ok (.iadd, 1) := dk_96 (dk_at dksL_law_35 8 rfl rfl)
theorem dL_law_1006 : decode cL_law 1006 = .ok (.iaload, 1) := dk_46 (dk_at dksL_law_35 9 rfl rfl)
theorem dL_law_1007 : decode cL_law 1007 = .ok (.invokevirtual 130, 3) := dk_182 0 130 (dk_at dksL_law_35 10 rfl rfl)
theorem dL_law_1010 : decode cL_law 1010 = .ok (.aload_n 2, 1) := dk_44 (dk_at dksL_law_35 13 rfl rfl)
theorem dL_law_1011 : decode cL_law 1011 = .ok (.aload_n 0, 1) := dk_42 (dk_at dksL_law_35 14 rfl rfl)
theorem dL_law_1012 : decode cL_law 1012 = .ok (.iload_n 3, 1) := dk_29 (dk_at dksL_law_35 15 rfl rfl)
theorem dL_law_1013 : decode cL_law 1013 = .ok (.iconst 1, 1) := dk_4 (dk_at dksL_law_35 16 rfl rfl)
theorem dL_law_1014 : decode cL_law 1014 = .ok (.iadd, 1) := dk_96 (dk_at dksL_law_35 17 rfl rfl)
theorem dL_law_1015 : decode cL_law 1015 = .ok (.iaload, 1) := dk_46 (dk_at dksL_law_35 18 rfl rfl)
theorem dL_law_1016 : decode cL_law 1016 = .ok (.aload_n 0, 1) := dk_42 (dk_at dksL_law_35 19 rfl rfl)
theorem dL_law_1017 : decode cL_law 1017 = .ok (.iload_n 3, 1) := dk_29 (dk_at dksL_law_35 20 rfl rfl)
theorem dL_law_1018 : decode cL_law 1018 = .ok (.iconst 2, 1) := dk_5 (dk_at dksL_law_35 21 rfl rfl)
theorem dL_law_1019 : decode cL_law 1019 = .ok (.iadd, 1) := dk_96 (dk_at dksL_law_35 22 rfl rfl)
theorem dL_law_1020 : decode cL_law 1020 = .ok (.iaload, 1) := dk_46 (dk_at dksL_law_35 23 rfl rfl)
theorem dL_law_1021 : decode cL_law 1021 = .ok (.invokevirtual 134, 3) := dk_182 0 134 (dk_at dksL_law_36 0 rfl rfl)
theorem dL_law_1024 : decode cL_law 1024 = .ok (.lcmp, 1) := dk_148 (dk_at dksL_law_36 3 rfl rfl)
theorem dL_law_1025 : decode cL_law 1025 = .ok (.ifCond .eq 523, 3) := dk_153 2 11 (dk_at dksL_law_36 4 rfl rfl)
theorem dL_law_1028 : decode cL_law 1028 = .ok (.iconst 0, 1) := dk_3 (dk_at dksL_law_36 7 rfl rfl)
theorem dL_law_1029 : decode cL_law 1029 = .ok (.ireturn, 1) := dk_172 (dk_at dksL_law_36 8 rfl rfl)
theorem dL_law_1030 : decode cL_law 1030 = .ok (.aload_n 1, 1) := dk_43 (dk_at dksL_law_36 9 rfl rfl)
theorem dL_law_1031 : decode cL_law 1031 = .ok (.aload_n 0, 1) := dk_42 (dk_at dksL_law_36 10 rfl rfl)
theorem dL_law_1032 : decode cL_law 1032 = .ok (.iload_n 3, 1) := dk_29 (dk_at dksL_law_36 11 rfl rfl)
theorem dL_law_1033 : decode cL_law 1033 = .ok (.iconst 1, 1) := dk_4 (dk_at dksL_law_36 12 rfl rfl)
theorem dL_law_1034 : decode cL_law 1034 = .ok (.iadd, 1) := dk_96 (dk_at dksL_law_36 13 rfl rfl)
theorem dL_law_1035 : decode cL_law 1035 = .ok (.iaload, 1) := dk_46 (dk_at dksL_law_36 14 rfl rfl)
theorem dL_law_1036 : decode cL_law 1036 = .ok (.aload_n 0, 1) := dk_42 (dk_at dksL_law_36 15 rfl rfl)
theorem dL_law_1037 : decode cL_law 1037 = .ok (.iload_n 3, 1) := dk_29 (dk_at dksL_law_36 16 rfl rfl)
theorem dL_law_1038 : decode cL_law 1038 = .ok (.iconst 2, 1) := dk_5 (dk_at dksL_law_36 17 rfl rfl)
theorem dL_law_1039 : decode cL_law 1039 = .ok (.iadd, 1) := dk_96 (dk_at dksL_law_36 18 rfl rfl)
theorem dL_law_1040 : decode cL_law 1040 = .ok (.iaload, 1) := dk_46 (dk_at dksL_law_36 19 rfl rfl)
theorem dL_law_1041 : decode cL_law 1041 = .ok (.invokevirtual 135, 3) := dk_182 0 135 (dk_at dksL_law_36 20 rfl rfl)
theorem dL_law_1044 : decode cL_law 1044 = .ok (.aload_n 2, 1) := dk_44 (dk_at dksL_law_36 23 rfl rfl)
theorem dL_law_1045 : decode cL_law 1045 = .ok (.aload_n 0, 1) := dk_42 (dk_at dksL_law_37 0 rfl rfl)
theorem dL_law_1046 : decode cL_law 1046 = .ok (.iload_n 3, 1) := dk_29 (dk_at dksL_law_37 1 rfl rfl)
theorem dL_law_1047 : decode cL_law 1047 = .ok (.iconst 1, 1) := dk_4 (dk_at dksL_law_37 2 rfl rfl)
theorem dL_law_1048 : decode cL_law 1048 = .ok (.iadd, 1) := dk_96 (dk_at dksL_law_37 3 rfl rfl)
theorem dL_law_1049 : decode cL_law 1049 = .ok (.iaload, 1) := dk_46 (dk_at dksL_law_37 4 rfl rfl)
theorem dL_law_1050 : decode cL_law 1050 = .ok (.aload_n 0, 1) := dk_42 (dk_at dksL_law_37 5 rfl rfl)
theorem dL_law_1051 : decode cL_law 1051 = .ok (.iload_n 3, 1) := dk_29 (dk_at dksL_law_37 6 rfl rfl)
theorem dL_law_1052 : decode cL_law 1052 = .ok (.iconst 2, 1) := dk_5 (dk_at dksL_law_37 7 rfl rfl)
theorem dL_law_1053 : decode cL_law 1053 = .ok (.iadd, 1) := dk_96 (dk_at dksL_law_37 8 rfl rfl)
theorem dL_law_1054 : decode cL_law 1054 = .ok (.iaload, 1) := dk_46 (dk_at dksL_law_37 9 rfl rfl)
theorem dL_law_1055 : decode cL_law 1055 = .ok (.invokevirtual 138, 3) := dk_182 0 138 (dk_at dksL_law_37 10 rfl rfl)
theorem dL_law_1058 : decode cL_law 1058 = .ok (.if_icmp .eq 490, 3) := dk_159 1 234 (dk_at dksL_law_37 13 rfl rfl)
theorem dL_law_1061 : decode cL_law 1061 = .ok (.iconst 0, 1) := dk_3 (dk_at dksL_law_37 16 rfl rfl)
theorem dL_law_1062 : decode cL_law 1062 = .ok (.ireturn, 1) := dk_172 (dk_at dksL_law_37 17 rfl rfl)
theorem dL_law_1063 : decode cL_law 1063 = .ok (.aload_n 1, 1) := dk_43 (dk_at dksL_law_37 18 rfl rfl)
theorem dL_law_1064 : decode cL_law 1064 = .ok (.aload_n 0, 1) := dk_42 (dk_at dksL_law_37 19 rfl rfl)
theorem dL_law_1065 : decode cL_law 1065 = .ok (.iload_n 3, 1) := dk_29 (dk_at dksL_law_37 20 rfl rfl)
theorem dL_law_1066 : decode cL_law 1066 = .ok (.iconst 1, 1) := dk_4 (dk_at dksL_law_37 21 rfl rfl)
theorem dL_law_1067 : decode cL_law 1067 = .ok (.iadd, 1) := dk_96 (dk_at dksL_law_37 22 rfl rfl)
theorem dL_law_1068 : decode cL_law 1068 = .ok (.iaload, 1) := dk_46 (dk_at dksL_law_37 23 rfl rfl)
theorem dL_law_1069 : decode cL_law 1069 = .ok (.invokevirtual 139, 3) := dk_182 0 139 (dk_at dksL_law_38 0 rfl rfl)
theorem dL_law_1072 : decode cL_law 1072 = .ok (.aload_n 2, 1) := dk_44 (dk_at dksL_law_38 3 rfl rfl)
theorem dL_law_1073 : decode cL_law 1073 = .ok (.aload_n 0, 1) := dk_42 (dk_at dksL_law_38 4 rfl rfl)
theorem dL_law_1074 : decode cL_law 1074 = .ok (.iload_n 3, 1) := dk_29 (dk_at dksL_law_38 5 rfl rfl)
theorem dL_law_1075 : decode cL_law 1075 = .ok (.iconst 1, 1) := dk_4 (dk_at dksL_law_38 6 rfl rfl)
theorem dL_law_1076 : decode cL_law 1076 = .ok (.iadd, 1) := dk_96 (dk_at dksL_law_38 7 rfl rfl)
theorem dL_law_1077 : decode cL_law 1077 = .ok (.iaload, 1) := dk_46 (dk_at dksL_law_38 8 rfl rfl)
theorem dL_law_1078 : decode cL_law 1078 = .ok (.invokevirtual 142, 3) := dk_182 0 142 (dk_at dksL_law_38 9 rfl rfl)
theorem dL_law_1081 : decode cL_law 1081 = .ok (.if_icmp .eq 467, 3) := dk_159 1 211 (dk_at dksL_law_38 12 rfl rfl)
theorem dL_law_1084 : decode cL_law 1084 = .ok (.iconst 0, 1) := dk_3 (dk_at dksL_law_38 15 rfl rfl)
theorem dL_law_1085 : decode cL_law 1085 = .ok (.ireturn, 1) := dk_172 (dk_at dksL_law_38 16 rfl rfl)
theorem dL_law_1086 : decode cL_law 1086 = .ok (.aload_n 1, 1) := dk_43 (dk_at dksL_law_38 17 rfl rfl)
theorem dL_law_1087 : decode cL_law 1087 = .ok (.aload_n 0, 1) := dk_42 (dk_at dksL_law_38 18 rfl rfl)
theorem dL_law_1088 : decode cL_law 1088 = .ok (.iload_n 3, 1) := dk_29 (dk_at dksL_law_38 19 rfl rfl)
theorem dL_law_1089 : decode cL_law 1089 = .ok (.iconst 1, 1) := dk_4 (dk_at dksL_law_38 20 rfl rfl)
theorem dL_law_1090 : decode cL_law 1090 = .ok (.iadd, 1) := dk_96 (dk_at dksL_law_38 21 rfl rfl)
theorem dL_law_1091 : decode cL_law 1091 = .ok (.iaload, 1) := dk_46 (dk_at dksL_law_38 22 rfl rfl)
theorem dL_law_1092 : decode cL_law 1092 = .ok (.aload_n 0, 1) := dk_42 (dk_at dksL_law_38 23 rfl rfl)
theorem dL_law_1093 : decode cL_law 1093 = .ok (.iload_n 3, 1) := dk_29 (dk_at dksL_law_39 0 rfl rfl)
theorem dL_law_1094 : decode cL_law 1094 = .ok (.iconst 2, 1) := dk_5 (dk_at dksL_law_39 1 rfl rfl)
theorem dL_law_1095 : decode cL_law 1095 = .ok (.iadd, 1) := dk_96 (dk_at dksL_law_39 2 rfl rfl)
theorem dL_law_1096 : decode cL_law 1096 = .ok (.iaload, 1) := dk_46 (dk_at dksL_law_39 3 rfl rfl)
theorem dL_law_1097 : decode cL_law 1097 = .ok (.invokevirtual 143, 3) := dk_182 0 143 (dk_at dksL_law_39 4 rfl rfl)
theorem dL_law_1100 : decode cL_law 1100 = .ok (.aload_n 2, 1) := dk_44 (dk_at dksL_law_39 7 rfl rfl)
theorem dL_law_1101 : decode cL_law 1101 = .ok (.aload_n 0, 1) := dk_42 (dk_at dksL_law_39 8 rfl rfl)
theorem dL_law_1102 : decode cL_law 1102 = .ok (.iload_n 3, 1) := dk_29 (dk_at dksL_law_39 9 rfl rfl)
theorem dL_law_1103 : decode cL_law 1103 = .ok (.iconst 1, 1) := dk_4 (dk_at dksL_law_39 10 rfl rfl)
theorem dL_law_1104 : decode cL_law 1104 = .ok (.iadd, 1) := dk_96 (dk_at dksL_law_39 11 rfl rfl)
theorem dL_law_1105 : decode cL_law 1105 = .ok (.iaload, 1) := dk_46 (dk_at dksL_law_39 12 rfl rfl)
theorem dL_law_1106 : decode cL_law 1106 = .ok (.aload_n 0, 1) := dk_42 (dk_at dksL_law_39 13 rfl rfl)
theorem dL_law_1107 : decode cL_law 1107 = .ok (.iload_n 3, 1) := dk_29 (dk_at dksL_law_39 14 rfl rfl)
theorem dL_law_1108 : decode cL_law 1108 = .ok (.iconst 2, 1) := dk_5 (dk_at dksL_law_39 15 rfl rfl)
theorem dL_law_1109 : decode cL_law 1109 = .ok (.iadd, 1) := dk_96 (dk_at dksL_law_39 16 rfl rfl)
theorem dL_law_1110 : decode cL_law 1110 = .ok (.iaload, 1) := dk_46 (dk_at dksL_law_39 17 rfl rfl)
theorem dL_law_1111 : decode cL_law 1111 = .ok (.invokevirtual 146, 3) := dk_182 0 146 (dk_at dksL_law_39 18 rfl rfl)
theorem dL_law_1114 : decode cL_law 1114 = .ok (.lcmp, 1) := dk_148 (dk_at dksL_law_39 21 rfl rfl)
theorem dL_law_1115 : decode cL_law 1115 = .ok (.ifCond .eq 433, 3) := dk_153 1 177 (dk_at dksL_law_40 0 rfl rfl)
theorem dL_law_1118 : decode cL_law 1118 = .ok (.iconst 0, 1) := dk_3 (dk_at dksL_law_40 3 rfl rfl)
theorem dL_law_1119 : decode cL_law 1119 = .ok (.ireturn, 1) := dk_172 (dk_at dksL_law_40 4 rfl rfl)
theorem dL_law_1120 : decode cL_law 1120 = .ok (.aload_n 1, 1) := dk_43 (dk_at dksL_law_40 5 rfl rfl)
theorem dL_law_1121 : decode cL_law 1121 = .ok (.aload_n 0, 1) := dk_42 (dk_at dksL_law_40 6 rfl rfl)
theorem dL_law_1122 : decode cL_law 1122 = .ok (.iload_n 3, 1) := dk_29 (dk_at dksL_law_40 7 rfl rfl)
theorem dL_law_1123 : decode cL_law 1123 = .ok (.iconst 1, 1) := dk_4 (dk_at dksL_law_40 8 rfl rfl)
theorem dL_law_1124 : decode cL_law 1124 = .ok (.iadd, 1) := dk_96 (dk_at dksL_law_40 9 rfl rfl)
theorem dL_law_1125 : decode cL_law 1125 = .ok (.iaload, 1) := dk_46 (dk_at dksL_law_40 10 rfl rfl)
theorem dL_law_1126 : decode cL_law 1126 = .ok (.invokevirtual 147, 3) := dk_182 0 147 (dk_at dksL_law_40 11 rfl rfl)
theorem dL_law_1129 : decode cL_law 1129 = .ok (.aload_n 2, 1) := dk_44 (dk_at dksL_law_40 14 rfl rfl)
theorem dL_law_1130 : decode cL_law 1130 = .ok (.aload_n 0, 1) := dk_42 (dk_at dksL_law_40 15 rfl rfl)
theorem dL_law_1131 : decode cL_law 1131 = .ok (.iload_n 3, 1) := dk_29 (dk_at dksL_law_40 16 rfl rfl)
theorem dL_law_1132 : decode cL_law 1132 = .ok (.iconst 1, 1) := dk_4 (dk_at dksL_law_40 17 rfl rfl)
theorem dL_law_1133 : decode cL_law 1133 = .ok (.iadd, 1) := dk_96 (dk_at dksL_law_40 18 rfl rfl)
theorem dL_law_1134 : decode cL_law 1134 = .ok (.iaload, 1) := dk_46 (dk_at dksL_law_40 19 rfl rfl)
theorem dL_law_1135 : decode cL_law 1135 = .ok (.invokevirtual 150, 3) := dk_182 0 150 (dk_at dksL_law_40 20 rfl rfl)
theorem dL_law_1138 : decode cL_law 1138 = .ok (.if_icmp .eq 410, 3) := dk_159 1 154 (dk_at dksL_law_41 0 rfl rfl)
theorem dL_law_1141 : decode cL_law 1141 = .ok (.iconst 0, 1) := dk_3 (dk_at dksL_law_41 3 rfl rfl)
theorem dL_law_1142 : decode cL_law 1142 = .ok (.ireturn, 1) := dk_172 (dk_at dksL_law_41 4 rfl rfl)
theorem dL_law_1143 : decode cL_law 1143 = .ok (.aload_n 1, 1) := dk_43 (dk_at dksL_law_41 5 rfl rfl)
theorem dL_law_1144 : decode cL_law 1144 = .ok (.aload_n 0, 1) := dk_42 (dk_at dksL_law_41 6 rfl rfl)
theorem dL_law_1145 : decode cL_law 1145 = .ok (.iload_n 3, 1) := dk_29 (dk_at dksL_law_41 7 rfl rfl)
theorem dL_law_1146 : decode cL_law 1146 = .ok (.iconst 1, 1) := dk_4 (dk_at dksL_law_41 8 rfl rfl)
theorem dL_law_1147 : decode cL_law 1147 = .ok (.iadd, 1) := dk_96 (dk_at dksL_law_41 9 rfl rfl)
theorem dL_law_1148 : decode cL_law 1148 = .ok (.iaload, 1) := dk_46 (dk_at dksL_law_41 10 rfl rfl)
theorem dL_law_1149 : decode cL_law 1149 = .ok (.aload_n 0, 1) := dk_42 (dk_at dksL_law_41 11 rfl rfl)
theorem dL_law_1150 : decode cL_law 1150 = .ok (.iload_n 3, 1) := dk_29 (dk_at dksL_law_41 12 rfl rfl)
theorem dL_law_1151 : decode cL_law 1151 = .ok (.iconst 2, 1) := dk_5 (dk_at dksL_law_41 13 rfl rfl)
theorem dL_law_1152 : decode cL_law 1152 = .ok (.iadd, 1) := dk_96 (dk_at dksL_law_41 14 rfl rfl)
theorem dL_law_1153 : decode cL_law 1153 = .ok (.iaload, 1) := dk_46 (dk_at dksL_law_41 15 rfl rfl)
theorem dL_law_1154 : decode cL_law 1154 = .ok (.invokevirtual 151, 3) := dk_182 0 151 (dk_at dksL_law_41 16 rfl rfl)
theorem dL_law_1157 : decode cL_law 1157 = .ok (.aload_n 2, 1) := dk_44 (dk_at dksL_law_41 19 rfl rfl)
theorem dL_law_1158 : decode cL_law 1158 = .ok (.aload_n 0, 1) := dk_42 (dk_at dksL_law_41 20 rfl rfl)
theorem dL_law_1159 : decode cL_law 1159 = .ok (.iload_n 3, 1) := dk_29 (dk_at dksL_law_41 21 rfl rfl)
theorem dL_law_1160 : decode cL_law 1160 = .ok (.iconst 1, 1) := dk_4 (dk_at dksL_law_41 22 rfl rfl)
theorem dL_law_1161 : decode cL_law 1161 = .ok (.iadd, 1) := dk_96 (dk_at dksL_law_41 23 rfl rfl)
theorem dL_law_1162 : decode cL_law 1162 = .ok (.iaload, 1) := dk_46 (dk_at dksL_law_42 0 rfl rfl)
theorem dL_law_1163 : decode cL_law 1163 = .ok (.aload_n 0, 1) := dk_42 (dk_at dksL_law_42 1 rfl rfl)
theorem dL_law_1164 : decode cL_law 1164 = .ok (.iload_n 3, 1) := dk_29 (dk_at dksL_law_42 2 rfl rfl)
theorem dL_law_1165 : decode cL_law 1165 = .ok (.iconst 2, 1) := dk_5 (dk_at dksL_law_42 3 rfl rfl)
theorem dL_law_1166 : decode cL_law 1166 = .ok (.iadd, 1) := dk_96 (dk_at dksL_law_42 4 rfl rfl)
theorem dL_law_1167 : decode cL_law 1167 = .ok (.iaload, 1) := dk_46 (dk_at dksL_law_42 5 rfl rfl)
theorem dL_law_1168 : decode cL_law 1168 = .ok (.invokevirtual 154, 3) := dk_182 0 154 (dk_at dksL_law_42 6 rfl rfl)
theorem dL_law_1171 : decode cL_law 1171 = .ok (.if_icmp .eq 377, 3) := dk_159 1 121 (dk_at dksL_law_42 9 rfl rfl)
theorem dL_law_1174 : decode cL_law 1174 = .ok (.iconst 0, 1) := dk_3 (dk_at dksL_law_42 12 rfl rfl)
theorem dL_law_1175 : decode cL_law 1175 = .ok (.ireturn, 1) := dk_172 (dk_at dksL_law_42 13 rfl rfl)
theorem dL_law_1176 : decode cL_law 1176 = .ok (.aload_n 1, 1) := dk_43 (dk_at dksL_law_42 14 rfl rfl)
theorem dL_law_1177 : decode cL_law 1177 = .ok (.invokevirtual 155, 3) := dk_182 0 155 (dk_at dksL_law_42 15 rfl rfl)
theorem dL_law_1180 : decode cL_law 1180 = .ok (.aload_n 2, 1) := dk_44 (dk_at dksL_law_42 18 rfl rfl)
theorem dL_law_1181 : decode cL_law 1181 = .ok (.invokevirtual 158, 3) := dk_182 0 158 (dk_at dksL_law_42 19 rfl rfl)
theorem dL_law_1184 : decode cL_law 1184 = .ok (.if_icmp .eq 364, 3) := dk_159 1 108 (dk_at dksL_law_43 0 rfl rfl)
theorem dL_law_1187 : decode cL_law 1187 = .ok (.iconst 0, 1) := dk_3 (dk_at dksL_law_43 3 rfl rfl)
theorem dL_law_1188 : decode cL_law 1188 = .ok (.ireturn, 1) := dk_172 (dk_at dksL_law_43 4 rfl rfl)
theorem dL_law_1189 : decode cL_law 1189 = .ok (.aload_n 1, 1) := dk_43 (dk_at dksL_law_43 5 rfl rfl)
theorem dL_law_1190 : decode cL_law 1190 = .ok (.invokevirtual 159, 3) := dk_182 0 159 (dk_at dksL_law_43 6 rfl rfl)
theorem dL_law_1193 : decode cL_law 1193 = .ok (.aload_n 2, 1) := dk_44 (dk_at dksL_law_43 9 rfl rfl)
theorem dL_law_1194 : decode cL_law 1194 = .ok (.invokevirtual 162, 3) := dk_182 0 162 (dk_at dksL_law_43 10 rfl rfl)
theorem dL_law_1197 : decode cL_law 1197 = .ok (.if_icmp .eq 351, 3) := dk_159 1 95 (dk_at dksL_law_43 13 rfl rfl)
theorem dL_law_1200 : decode cL_law 1200 = .ok (.iconst 0, 1) := dk_3 (dk_at dksL_law_43 16 rfl rfl)
theorem dL_law_1201 : decode cL_law 1201 = .ok (.ireturn, 1) := dk_172 (dk_at dksL_law_43 17 rfl rfl)
theorem dL_law_1202 : decode cL_law 1202 = .ok (.aload_n 1, 1) := dk_43 (dk_at dksL_law_43 18 rfl rfl)
theorem dL_law_1203 : decode cL_law 1203 = .ok (.aload_n 0, 1) := dk_42 (dk_at dksL_law_43 19 rfl rfl)
theorem dL_law_1204 : decode cL_law 1204 = .ok (.iload_n 3, 1) := dk_29 (dk_at dksL_law_43 20 rfl rfl)
theorem dL_law_1205 : decode cL_law 1205 = .ok (.iconst 1, 1) := dk_4 (dk_at dksL_law_43 21 rfl rfl)
theorem dL_law_1206 : decode cL_law 1206 = .ok (.iadd, 1) := dk_96 (dk_at dksL_law_43 22 rfl rfl)
theorem dL_law_1207 : decode cL_law 1207 = .ok (.iaload, 1) := dk_46 (dk_at dksL_law_43 23 rfl rfl)
theorem dL_law_1208 : decode cL_law 1208 = .ok (.aload_n 0, 1) := dk_42 (dk_at dksL_law_44 0 rfl rfl)
theorem dL_law_1209 : decode cL_law 1209 = .ok (.iload_n 3, 1) := dk_29 (dk_at dksL_law_44 1 rfl rfl)
theorem dL_law_1210 : decode cL_law 1210 = .ok (.iconst 2, 1) := dk_5 (dk_at dksL_law_44 2 rfl rfl)
theorem dL_law_1211 : decode cL_law 1211 = .ok (.iadd, 1) := dk_96 (dk_at dksL_law_44 3 rfl rfl)
theorem dL_law_1212 : decode cL_law 1212 = .ok (.iaload, 1) := dk_46 (dk_at dksL_law_44 4 rfl rfl)
theorem dL_law_1213 : decode cL_law 1213 = .ok (.invokevirtual 163, 3) := dk_182 0 163 (dk_at dksL_law_44 5 rfl rfl)
theorem dL_law_1216 : decode cL_law 1216 = .ok (.aload_n 2, 1) := dk_44 (dk_at dksL_law_44 8 rfl rfl)
theorem dL_law_1217 : decode cL_law 1217 = .ok (.aload_n 0, 1) := dk_42 (dk_at dksL_law_44 9 rfl rfl)
theorem dL_law_1218 : decode cL_law 1218 = .ok (.iload_n 3, 1) := dk_29 (dk_at dksL_law_44 10 rfl rfl)
theorem dL_law_1219 : decode cL_law 1219 = .ok (.iconst 1, 1) := dk_4 (dk_at dksL_law_44 11 rfl rfl)
theorem dL_law_1220 : decode cL_law 1220 = .ok (.iadd, 1) := dk_96 (dk_at dksL_law_44 12 rfl rfl)
theorem dL_law_1221 : decode cL_law 1221 = .ok (.iaload, 1) := dk_46 (dk_at dksL_law_44 13 rfl rfl)
theorem dL_law_1222 : decode cL_law 1222 = .ok (.aload_n 0, 1) := dk_42 (dk_at dksL_law_44 14 rfl rfl)
theorem dL_law_1223 : decode cL_law 1223 = .ok (.iload_n 3, 1) := dk_29 (dk_at dksL_law_44 15 rfl rfl)
theorem dL_law_1224 : decode cL_law 1224 = .ok (.iconst 2, 1) := dk_5 (dk_at dksL_law_44 16 rfl rfl)
theorem dL_law_1225 : decode cL_law 1225 = .ok (.iadd, 1) := dk_96 (dk_at dksL_law_44 17 rfl rfl)
theorem dL_law_1226 : decode cL_law 1226 = .ok (.iaload, 1) := dk_46 (dk_at dksL_law_44 18 rfl rfl)
theorem dL_law_1227 : decode cL_law 1227 = .ok (.invokevirtual 166, 3) := dk_182 0 166 (dk_at dksL_law_44 19 rfl rfl)
theorem dL_law_1230 : decode cL_law 1230 = .ok (.if_icmp .eq 318, 3) := dk_159 1 62 (dk_at dksL_law_45 0 rfl rfl)
theorem dL_law_1233 : decode cL_law 1233 = .ok (.iconst 0, 1) := dk_3 (dk_at dksL_law_45 3 rfl rfl)
theorem dL_law_1234 : decode cL_law 1234 = .ok (.ireturn, 1) := dk_172 (dk_at dksL_law_45 4 rfl rfl)
theorem dL_law_1235 : decode cL_law 1235 = .ok (.aload_n 1, 1) := dk_43 (dk_at dksL_law_45 5 rfl rfl)
theorem dL_law_1236 : decode cL_law 1236 = .ok (.aload_n 0, 1) := dk_42 (dk_at dksL_law_45 6 rfl rfl)
theorem dL_law_1237 : decode cL_law 1237 = .ok (.iload_n 3, 1) := dk_29 (dk_at dksL_law_45 7 rfl rfl)
theorem dL_law_1238 : decode cL_law 1238 = .ok (.iconst 1, 1) := dk_4 (dk_at dksL_law_45 8 rfl rfl)
theorem dL_law_1239 : decode cL_law 1239 = .ok (.iadd, 1) := dk_96 (dk_at dksL_law_45 9 rfl rfl)
theorem dL_law_1240 : decode cL_law 1240 = .ok (.iaload, 1) := dk_46 (dk_at dksL_law_45 10 rfl rfl)
theorem dL_law_1241 : decode cL_law 1241 = .ok (.aload_n 0, 1) := dk_42 (dk_at dksL_law_45 11 rfl rfl)
theorem dL_law_1242 : decode cL_law 1242 = .ok (.iload_n 3, 1) := dk_29 (dk_at dksL_law_45 12 rfl rfl)
theorem dL_law_1243 : decode cL_law 1243 = .ok (.iconst 2, 1) := dk_5 (dk_at dksL_law_45 13 rfl rfl)
theorem dL_law_1244 : decode cL_law 1244 = .ok (.iadd, 1) := dk_96 (dk_at dksL_law_45 14 rfl rfl)
theorem dL_law_1245 : decode cL_law 1245 = .ok (.iaload, 1) := dk_46 (dk_at dksL_law_45 15 rfl rfl)
theorem dL_law_1246 : decode cL_law 1246 = .ok (.invokevirtual 167, 3) := dk_182 0 167 (dk_at dksL_law_45 16 rfl rfl)
theorem dL_law_1249 : decode cL_law 1249 = .ok (.aload_n 2, 1) := dk_44 (dk_at dksL_law_45 19 rfl rfl)
theorem dL_law_1250 : decode cL_law 1250 = .ok (.aload_n 0, 1) := dk_42 (dk_at dksL_law_45 20 rfl rfl)
theorem dL_law_1251 : decode cL_law 1251 = .ok (.iload_n 3, 1) := dk_29 (dk_at dksL_law_45 21 rfl rfl)
theorem dL_law_1252 : decode cL_law 1252 = .ok (.iconst 1, 1) := dk_4 (dk_at dksL_law_45 22 rfl rfl)
theorem dL_law_1253 : decode cL_law 1253 = .ok (.iadd, 1) := dk_96 (dk_at dksL_law_45 23 rfl rfl)
theorem dL_law_1254 : decode cL_law 1254 = .ok (.iaload, 1) := dk_46 (dk_at dksL_law_46 0 rfl rfl)
theorem dL_law_1255 : decode cL_law 1255 = .ok (.aload_n 0, 1) := dk_42 (dk_at dksL_law_46 1 rfl rfl)
theorem dL_law_1256 : decode cL_law 1256 = .ok (.iload_n 3, 1) := dk_29 (dk_at dksL_law_46 2 rfl rfl)
theorem dL_law_1257 : decode cL_law 1257 = .ok (.iconst 2, 1) := dk_5 (dk_at dksL_law_46 3 rfl rfl)
theorem dL_law_1258 : decode cL_law 1258 = .ok (.iadd, 1) := dk_96 (dk_at dksL_law_46 4 rfl rfl)
theorem dL_law_1259 : decode cL_law 1259 = .ok (.iaload, 1) := dk_46 (dk_at dksL_law_46 5 rfl rfl)
theorem dL_law_1260 : decode cL_law 1260 = .ok (.invokevirtual 170, 3) := dk_182 0 170 (dk_at dksL_law_46 6 rfl rfl)
theorem dL_law_1263 : decode cL_law 1263 = .ok (.if_icmp .eq 285, 3) := dk_159 1 29 (dk_at dksL_law_46 9 rfl rfl)
theorem dL_law_1266 : decode cL_law 1266 = .ok (.iconst 0, 1) := dk_3 (dk_at dksL_law_46 12 rfl rfl)
theorem dL_law_1267 : decode cL_law 1267 = .ok (.ireturn, 1) := dk_172 (dk_at dksL_law_46 13 rfl rfl)
theorem dL_law_1268 : decode cL_law 1268 = .ok (.aload_n 1, 1) := dk_43 (dk_at dksL_law_46 14 rfl rfl)
theorem dL_law_1269 : decode cL_law 1269 = .ok (.aload_n 0, 1) := dk_42 (dk_at dksL_law_46 15 rfl rfl)
theorem dL_law_1270 : decode cL_law 1270 = .ok (.iload_n 3, 1) := dk_29 (dk_at dksL_law_46 16 rfl rfl)
theorem dL_law_1271 : decode cL_law 1271 = .ok (.iconst 1, 1) := dk_4 (dk_at dksL_law_46 17 rfl rfl)
theorem dL_law_1272 : decode cL_law 1272 = .ok (.iadd, 1) := dk_96 (dk_at dksL_law_46 18 rfl rfl)
theorem dL_law_1273 : decode cL_law 1273 = .ok (.iaload, 1) := dk_46 (dk_at dksL_law_46 19 rfl rfl)
theorem dL_law_1274 : decode cL_law 1274 = .ok (.aload_n 0, 1) := dk_42 (dk_at dksL_law_46 20 rfl rfl)
theorem dL_law_1275 : decode cL_law 1275 = .ok (.iload_n 3, 1) := dk_29 (dk_at dksL_law_46 21 rfl rfl)
theorem dL_law_1276 : decode cL_law 1276 = .ok (.iconst 2, 1) := dk_5 (dk_at dksL_law_46 22 rfl rfl)
theorem dL_law_1277 : decode cL_law 1277 = .ok (.iadd, 1) := dk_96 (dk_at dksL_law_46 23 rfl rfl)
theorem dL_law_1278 : decode cL_law 1278 = .ok (.iaload, 1) := dk_46 (dk_at dksL_law_47 0 rfl rfl)
theorem dL_law_1279 : decode cL_law 1279 = .ok (.aload_n 0, 1) := dk_42 (dk_at dksL_law_47 1 rfl rfl)
theorem dL_law_1280 : decode cL_law 1280 = .ok (.iload_n 3, 1) := dk_29 (dk_at dksL_law_47 2 rfl rfl)
theorem dL_law_1281 : decode cL_law 1281 = .ok (.iconst 3, 1) := dk_6 (dk_at dksL_law_47 3 rfl rfl)
theorem dL_law_1282 : decode cL_law 1282 = .ok (.iadd, 1) := dk_96 (dk_at dksL_law_47 4 rfl rfl)
theorem dL_law_1283 : decode cL_law 1283 = .ok (.iaload, 1) := dk_46 (dk_at dksL_law_47 5 rfl rfl)
theorem dL_law_1284 : decode cL_law 1284 = .ok (.invokevirtual 171, 3) := dk_182 0 171 (dk_at dksL_law_47 6 rfl rfl)
theorem dL_law_1287 : decode cL_law 1287 = .ok (.aload_n 2, 1) := dk_44 (dk_at dksL_law_47 9 rfl rfl)
theorem dL_law_1288 : decode cL_law 1288 = .ok (.aload_n 0, 1) := dk_42 (dk_at dksL_law_47 10 rfl rfl)
theorem dL_law_1289 : decode cL_law 1289 = .ok (.iload_n 3, 1) := dk_29 (dk_at dksL_law_47 11 rfl rfl)
theorem dL_law_1290 : decode cL_law 1290 = .ok (.iconst 1, 1) := dk_4 (dk_at dksL_law_47 12 rfl rfl)
theorem dL_law_1291 : decode cL_law 1291 = .ok (.iadd, 1) := dk_96 (dk_at dksL_law_47 13 rfl rfl)
theorem dL_law_1292 : decode cL_law 1292 = .ok (.iaload, 1) := dk_46 (dk_at dksL_law_47 14 rfl rfl)
theorem dL_law_1293 : decode cL_law 1293 = .ok (.aload_n 0, 1) := dk_42 (dk_at dksL_law_47 15 rfl rfl)
theorem dL_law_1294 : decode cL_law 1294 = .ok (.iload_n 3, 1) := dk_29 (dk_at dksL_law_47 16 rfl rfl)
theorem dL_law_1295 : decode cL_law 1295 = .ok (.iconst 2, 1) := dk_5 (dk_at dksL_law_47 17 rfl rfl)
theorem dL_law_1296 : decode cL_law 1296 = .ok (.iadd, 1) := dk_96 (dk_at dksL_law_47 18 rfl rfl)
theorem dL_law_1297 : decode cL_law 1297 = .ok (.iaload, 1) := dk_46 (dk_at dksL_law_47 19 rfl rfl)
theorem dL_law_1298 : decode cL_law 1298 = .ok (.aload_n 0, 1) := dk_42 (dk_at dksL_law_47 20 rfl rfl)
theorem dL_law_1299 : decode cL_law 1299 = .ok (.iload_n 3, 1) := dk_29 (dk_at dksL_law_47 21 rfl rfl)
theorem dL_law_1300 : decode cL_law 1300 = .ok (.iconst 3, 1) := dk_6 (dk_at dksL_law_47 22 rfl rfl)
theorem dL_law_1301 : decode cL_law 1301 = .ok (.iadd, 1) := dk_96 (dk_at dksL_law_47 23 rfl rfl)
theorem dL_law_1302 : decode cL_law 1302 = .ok (.iaload, 1) := dk_46 (dk_at dksL_law_48 0 rfl rfl)
theorem dL_law_1303 : decode cL_law 1303 = .ok (.invokevirtual 174, 3) := dk_182 0 174 (dk_at dksL_law_48 1 rfl rfl)
theorem dL_law_1306 : decode cL_law 1306 = .ok (.if_icmp .eq 242, 3) := dk_159 0 242 (dk_at dksL_law_48 4 rfl rfl)
theorem dL_law_1309 : decode cL_law 1309 = .ok (.iconst 0, 1) := dk_3 (dk_at dksL_law_48 7 rfl rfl)
theorem dL_law_1310 : decode cL_law 1310 = .ok (.ireturn, 1) := dk_172 (dk_at dksL_law_48 8 rfl rfl)
theorem dL_law_1311 : decode cL_law 1311 = .ok (.aload_n 1, 1) := dk_43 (dk_at dksL_law_48 9 rfl rfl)
theorem dL_law_1312 : decode cL_law 1312 = .ok (.aload_n 0, 1) := dk_42 (dk_at dksL_law_48 10 rfl rfl)
theorem dL_law_1313 : decode cL_law 1313 = .ok (.iload_n 3, 1) := dk_29 (dk_at dksL_law_48 11 rfl rfl)
theorem dL_law_1314 : decode cL_law 1314 = .ok (.iconst 1, 1) := dk_4 (dk_at dksL_law_48 12 rfl rfl)
theorem dL_law_1315 : decode cL_law 1315 = .ok (.iadd, 1) := dk_96 (dk_at dksL_law_48 13 rfl rfl)
theorem dL_law_1316 : decode cL_law 1316 = .ok (.iaload, 1) := dk_46 (dk_at dksL_law_48 14 rfl rfl)
theorem dL_law_1317 : decode cL_law 1317 = .ok (.aload_n 0, 1) := dk_42 (dk_at dksL_law_48 15 rfl rfl)
theorem dL_law_1318 : decode cL_law 1318 = .ok (.iload_n 3, 1) := dk_29 (dk_at dksL_law_48 16 rfl rfl)
theorem dL_law_1319 : decode cL_law 1319 = .ok (.iconst 2, 1) := dk_5 (dk_at dksL_law_48 17 rfl rfl)
theorem dL_law_1320 : decode cL_law 1320 = .ok (.iadd, 1) := dk_96 (dk_at dksL_law_48 18 rfl rfl)
theorem dL_law_1321 : decode cL_law 1321 = .ok (.iaload, 1) := dk_46 (dk_at dksL_law_48 19 rfl rfl)
theorem dL_law_1322 : decode cL_law 1322 = .ok (.aload_n 0, 1) := dk_42 (dk_at dksL_law_48 20 rfl rfl)
theorem dL_law_1323 : decode cL_law 1323 = .ok (.iload_n 3, 1) := dk_29 (dk_at dksL_law_48 21 rfl rfl)
theorem dL_law_1324 : decode cL_law 1324 = .ok (.iconst 3, 1) := dk_6 (dk_at dksL_law_48 22 rfl rfl)
theorem dL_law_1325 : decode cL_law 1325 = .ok (.iadd, 1) := dk_96 (dk_at dksL_law_48 23 rfl rfl)
theorem dL_law_1326 : decode cL_law 1326 = .ok (.iaload, 1) := dk_46 (dk_at dksL_law_49 0 rfl rfl)
theorem dL_law_1327 : decode cL_law 1327 = .ok (.invokevirtual 175, 3) := dk_182 0 175 (dk_at dksL_law_49 1 rfl rfl)
theorem dL_law_1330 : decode cL_law 1330 = .ok (.aload_n 2, 1) := dk_44 (dk_at dksL_law_49 4 rfl rfl)
theorem dL_law_1331 : decode cL_law 1331 = .ok (.aload_n 0, 1) := dk_42 (dk_at dksL_law_49 5 rfl rfl)
theorem dL_law_1332 : decode cL_law 1332 = .ok (.iload_n 3, 1) := dk_29 (dk_at dksL_law_49 6 rfl rfl)
theorem dL_law_1333 : decode cL_law 1333 = .ok (.iconst 1, 1) := dk_4 (dk_at dksL_law_49 7 rfl rfl)
theorem dL_law_1334 : decode cL_law 1334 = .ok (.iadd, 1) := dk_96 (dk_at dksL_law_49 8 rfl rfl)
theorem dL_law_1335 : decode cL_law 1335 = .ok (.iaload, 1) := dk_46 (dk_at dksL_law_49 9 rfl rfl)
theorem dL_law_1336 : decode cL_law 1336 = .ok (.aload_n 0, 1) := dk_42 (dk_at dksL_law_49 10 rfl rfl)
theorem dL_law_1337 : decode cL_law 1337 = .ok (.iload_n 3, 1) := dk_29 (dk_at dksL_law_49 11 rfl rfl)
theorem dL_law_1338 : decode cL_law 1338 = .ok (.iconst 2, 1) := dk_5 (dk_at dksL_law_49 12 rfl rfl)
theorem dL_law_1339 : decode cL_law 1339 = .ok (.iadd, 1) := dk_96 (dk_at dksL_law_49 13 rfl rfl)
theorem dL_law_1340 : decode cL_law 1340 = .ok (.iaload, 1) := dk_46 (dk_at dksL_law_49 14 rfl rfl)
theorem dL_law_1341 : decode cL_law 1341 = .ok (.aload_n 0, 1) := dk_42 (dk_at dksL_law_49 15 rfl rfl)
theorem dL_law_1342 : decode cL_law 1342 = .ok (.iload_n 3, 1) := dk_29 (dk_at dksL_law_49 16 rfl rfl)
theorem dL_law_1343 : decode cL_law 1343 = .ok (.iconst 3, 1) := dk_6 (dk_at dksL_law_49 17 rfl rfl)
theorem dL_law_1344 : decode cL_law 1344 = .ok (.iadd, 1) := dk_96 (dk_at dksL_law_49 18 rfl rfl)
theorem dL_law_1345 : decode cL_law 1345 = .ok (.iaload, 1) := dk_46 (dk_at dksL_law_49 19 rfl rfl)
theorem dL_law_1346 : decode cL_law 1346 = .ok (.invokevirtual 178, 3) := dk_182 0 178 (dk_at dksL_law_49 20 rfl rfl)
theorem dL_law_1349 : decode cL_law 1349 = .ok (.if_icmp .eq 199, 3) := dk_159 0 199 (dk_at dksL_law_50 0 rfl rfl)
theorem dL_law_1352 : decode cL_law 1352 = .ok (.iconst 0, 1) := dk_3 (dk_at dksL_law_50 3 rfl rfl)
theorem dL_law_1353 : decode cL_law 1353 = .ok (.ireturn, 1) := dk_172 (dk_at dksL_law_50 4 rfl rfl)
theorem dL_law_1354 : decode cL_law 1354 = .ok (.aload_n 1, 1) := dk_43 (dk_at dksL_law_50 5 rfl rfl)
theorem dL_law_1355 : decode cL_law 1355 = .ok (.aload_n 0, 1) := dk_42 (dk_at dksL_law_50 6 rfl rfl)
theorem dL_law_1356 : decode cL_law 1356 = .ok (.iload_n 3, 1) := dk_29 (dk_at dksL_law_50 7 rfl rfl)
theorem dL_law_1357 : decode cL_law 1357 = .ok (.iconst 1, 1) := dk_4 (dk_at dksL_law_50 8 rfl rfl)
theorem dL_law_1358 : decode cL_law 1358 = .ok (.iadd, 1) := dk_96 (dk_at dksL_law_50 9 rfl rfl)
theorem dL_law_1359 : decode cL_law 1359 = .ok (.iaload, 1) := dk_46 (dk_at dksL_law_50 10 rfl rfl)
theorem dL_law_1360 : decode cL_law 1360 = .ok (.aload_n 0, 1) := dk_42 (dk_at dksL_law_50 11 rfl rfl)
theorem dL_law_1361 : decode cL_law 1361 = .ok (.iload_n 3, 1) := dk_29 (dk_at dksL_law_50 12 rfl rfl)
theorem dL_law_1362 : decode cL_law 1362 = .ok (.iconst 2, 1) := dk_5 (dk_at dksL_law_50 13 rfl rfl)
theorem dL_law_1363 : decode cL_law 1363 = .ok (.iadd, 1) := dk_96 (dk_at dksL_law_50 14 rfl rfl)
theorem dL_law_1364 : decode cL_law 1364 = .ok (.iaload, 1) := dk_46 (dk_at dksL_law_50 15 rfl rfl)
theorem dL_law_1365 : decode cL_law 1365 = .ok (.aload_n 0, 1) := dk_42 (dk_at dksL_law_50 16 rfl rfl)
theorem dL_law_1366 : decode cL_law 1366 = .ok (.iload_n 3, 1) := dk_29 (dk_at dksL_law_50 17 rfl rfl)
theorem dL_law_1367 : decode cL_law 1367 = .ok (.iconst 3, 1) := dk_6 (dk_at dksL_law_50 18 rfl rfl)
theorem dL_law_1368 : decode cL_law 1368 = .ok (.iadd, 1) := dk_96 (dk_at dksL_law_50 19 rfl rfl)
theorem dL_law_1369 : decode cL_law 1369 = .ok (.iaload, 1) := dk_46 (dk_at dksL_law_50 20 rfl rfl)
theorem dL_law_1370 : decode cL_law 1370 = .ok (.aload_n 0, 1) := dk_42 (dk_at dksL_law_50 21 rfl rfl)
theorem dL_law_1371 : decode cL_law 1371 = .ok (.iload_n 3, 1) := dk_29 (dk_at dksL_law_50 22 rfl rfl)
theorem dL_law_1372 : decode cL_law 1372 = .ok (.iconst 4, 1) := dk_7 (dk_at dksL_law_50 23 rfl rfl)
theorem dL_law_1373 : decode cL_law 1373 = .ok (.iadd, 1) := dk_96 (dk_at dksL_law_51 0 rfl rfl)
theorem dL_law_1374 : decode cL_law 1374 = .ok (.iaload, 1) := dk_46 (dk_at dksL_law_51 1 rfl rfl)
theorem dL_law_1375 : decode cL_law 1375 = .ok (.aload_n 0, 1) := dk_42 (dk_at dksL_law_51 2 rfl rfl)
theorem dL_law_1376 : decode cL_law 1376 = .ok (.iload_n 3, 1) := dk_29 (dk_at dksL_law_51 3 rfl rfl)
theorem dL_law_1377 : decode cL_law 1377 = .ok (.iconst 5, 1) := dk_8 (dk_at dksL_law_51 4 rfl rfl)
theorem dL_law_1378 : decode cL_law 1378 = .ok (.iadd, 1) := dk_96 (dk_at dksL_law_51 5 rfl rfl)
theorem dL_law_1379 : decode cL_law 1379 = .ok (.iaload, 1) := dk_46 (dk_at dksL_law_51 6 rfl rfl)
theorem dL_law_1380 : decode cL_law 1380 = .ok (.invokevirtual 179, 3) := dk_182 0 179 (dk_at dksL_law_51 7 rfl rfl)
theorem dL_law_1383 : decode cL_law 1383 = .ok (.aload_n 2, 1) := dk_44 (dk_at dksL_law_51 10 rfl rfl)
theorem dL_law_1384 : decode cL_law 1384 = .ok (.aload_n 0, 1) := dk_42 (dk_at dksL_law_51 11 rfl rfl)
theorem dL_law_1385 : decode cL_law 1385 = .ok (.iload_n 3, 1) := dk_29 (dk_at dksL_law_51 12 rfl rfl)
theorem dL_law_1386 : decode cL_law 1386 = .ok (.iconst 1, 1) := dk_4 (dk_at dksL_law_51 13 rfl rfl)
theorem dL_law_1387 : decode cL_law 1387 = .ok (.iadd, 1) := dk_96 (dk_at dksL_law_51 14 rfl rfl)
theorem dL_law_1388 : decode cL_law 1388 = .ok (.iaload, 1) := dk_46 (dk_at dksL_law_51 15 rfl rfl)
theorem dL_law_1389 : decode cL_law 1389 = .ok (.aload_n 0, 1) := dk_42 (dk_at dksL_law_51 16 rfl rfl)
theorem dL_law_1390 : decode cL_law 1390 = .ok (.iload_n 3, 1) := dk_29 (dk_at dksL_law_51 17 rfl rfl)
theorem dL_law_1391 : decode cL_law 1391 = .ok (.iconst 2, 1) := dk_5 (dk_at dksL_law_51 18 rfl rfl)
theorem dL_law_1392 : decode cL_law 1392 = .ok (.iadd, 1) := dk_96 (dk_at dksL_law_51 19 rfl rfl)
theorem dL_law_1393 : decode cL_law 1393 = .ok (.iaload, 1) := dk_46 (dk_at dksL_law_51 20 rfl rfl)
theorem dL_law_1394 : decode cL_law 1394 = .ok (.aload_n 0, 1) := dk_42 (dk_at dksL_law_51 21 rfl rfl)
theorem dL_law_1395 : decode cL_law 1395 = .ok (.iload_n 3, 1) := dk_29 (dk_at dksL_law_51 22 rfl rfl)
theorem dL_law_1396 : decode cL_law 1396 = .ok (.iconst 3, 1) := dk_6 (dk_at dksL_law_51 23 rfl rfl)
theorem dL_law_1397 : decode cL_law 1397 = .ok (.iadd, 1) := dk_96 (dk_at dksL_law_52 0 rfl rfl)
theorem dL_law_1398 : decode cL_law 1398 = .ok (.iaload, 1) := dk_46 (dk_at dksL_law_52 1 rfl rfl)
theorem dL_law_1399 : decode cL_law 1399 = .ok (.aload_n 0, 1) := dk_42 (dk_at dksL_law_52 2 rfl rfl)
theorem dL_law_1400 : decode cL_law 1400 = .ok (.iload_n 3, 1) := dk_29 (dk_at dksL_law_52 3 rfl rfl)
theorem dL_law_1401 : decode cL_law 1401 = .ok (.iconst 4, 1) := dk_7 (dk_at dksL_law_52 4 rfl rfl)
theorem dL_law_1402 : decode cL_law 1402 = .ok (.iadd, 1) := dk_96 (dk_at dksL_law_52 5 rfl rfl)
theorem dL_law_1403 : decode cL_law 1403 = .ok (.iaload, 1) := dk_46 (dk_at dksL_law_52 6 rfl rfl)
theorem dL_law_1404 : decode cL_law 1404 = .ok (.aload_n 0, 1) := dk_42 (dk_at dksL_law_52 7 rfl rfl)
theorem dL_law_1405 : decode cL_law 1405 = .ok (.iload_n 3, 1) := dk_29 (dk_at dksL_law_52 8 rfl rfl)
theorem dL_law_1406 : decode cL_law 1406 = .ok (.iconst 5, 1) := dk_8 (dk_at dksL_law_52 9 rfl rfl)
theorem dL_law_1407 : decode cL_law 1407 = .ok (.iadd, 1) := dk_96 (dk_at dksL_law_52 10 rfl rfl)
theorem dL_law_1408 : decode cL_law 1408 = .ok (.iaload, 1) := dk_46 (dk_at dksL_law_52 11 rfl rfl)
theorem dL_law_1409 : decode cL_law 1409 = .ok (.invokevirtual 183, 3) := dk_182 0 183 (dk_at dksL_law_52 12 rfl rfl)
theorem dL_law_1412 : decode cL_law 1412 = .ok (.if_icmp .eq 136, 3) := dk_159 0 136 (dk_at dksL_law_52 15 rfl rfl)
theorem dL_law_1415 : decode cL_law 1415 = .ok (.iconst 0, 1) := dk_3 (dk_at dksL_law_52 18 rfl rfl)
theorem dL_law_1416 : decode cL_law 1416 = .ok (.ireturn, 1) := dk_172 (dk_at dksL_law_52 19 rfl rfl)
theorem dL_law_1417 : decode cL_law 1417 = .ok (.aload_n 1, 1) := dk_43 (dk_at dksL_law_52 20 rfl rfl)
theorem dL_law_1418 : decode cL_law 1418 = .ok (.aload_n 0, 1) := dk_42 (dk_at dksL_law_52 21 rfl rfl)
theorem dL_law_1419 : decode cL_law 1419 = .ok (.iload_n 3, 1) := dk_29 (dk_at dksL_law_52 22 rfl rfl)
theorem dL_law_1420 : decode cL_law 1420 = .ok (.iconst 1, 1) := dk_4 (dk_at dksL_law_52 23 rfl rfl)
theorem dL_law_1421 : decode cL_law 1421 = .ok (.iadd, 1) := dk_96 (dk_at dksL_law_53 0 rfl rfl)
theorem dL_law_1422 : decode cL_law 1422 = .ok (.iaload, 1) := dk_46 (dk_at dksL_law_53 1 rfl rfl)
theorem dL_law_1423 : decode cL_law 1423 = .ok (.invokevirtual 184, 3) := dk_182 0 184 (dk_at dksL_law_53 2 rfl rfl)
theorem dL_law_1426 : decode cL_law 1426 = .ok (.aload_n 2, 1) := dk_44 (dk_at dksL_law_53 5 rfl rfl)
theorem dL_law_1427 : decode cL_law 1427 = .ok (.aload_n 0, 1) := dk_42 (dk_at dksL_law_53 6 rfl rfl)
theorem dL_law_1428 : decode cL_law 1428 = .ok (.iload_n 3, 1) := dk_29 (dk_at dksL_law_53 7 rfl rfl)
theorem dL_law_1429 : decode cL_law 1429 = .ok (.iconst 1, 1) := dk_4 (dk_at dksL_law_53 8 rfl rfl)
theorem dL_law_1430 : decode cL_law 1430 = .ok (.iadd, 1) := dk_96 (dk_at dksL_law_53 9 rfl rfl)
theorem dL_law_1431 : decode cL_law 1431 = .ok (.iaload, 1) := dk_46 (dk_at dksL_law_53 10 rfl rfl)
theorem dL_law_1432 : decode cL_law 1432 = .ok (.invokevirtual 187, 3) := dk_182 0 187 (dk_at dksL_law_53 11 rfl rfl)
theorem dL_law_1435 : decode cL_law 1435 = .ok (.if_icmp .eq 113, 3) := dk_159 0 113 (dk_at dksL_law_53 14 rfl rfl)
theorem dL_law_1438 : decode cL_law 1438 = .ok (.iconst 0, 1) := dk_3 (dk_at dksL_law_53 17 rfl rfl)
theorem dL_law_1439 : decode cL_law 1439 = .ok (.ireturn, 1) := dk_172 (dk_at dksL_law_53 18 rfl rfl)
theorem dL_law_1440 : decode cL_law 1440 = .ok (.aload_n 1, 1) := dk_43 (dk_at dksL_law_53 19 rfl rfl)
theorem dL_law_1441 : decode cL_law 1441 = .ok (.aload_n 0, 1) := dk_42 (dk_at dksL_law_53 20 rfl rfl)
theorem dL_law_1442 : decode cL_law 1442 = .ok (.iload_n 3, 1) := dk_29 (dk_at dksL_law_53 21 rfl rfl)
theorem dL_law_1443 : decode cL_law 1443 = .ok (.iconst 1, 1) := dk_4 (dk_at dksL_law_53 22 rfl rfl)
theorem dL_law_1444 : decode cL_law 1444 = .ok (.iadd, 1) := dk_96 (dk_at dksL_law_53 23 rfl rfl)
theorem dL_law_1445 : decode cL_law 1445 = .ok (.iaload, 1) := dk_46 (dk_at dksL_law_54 0 rfl rfl)
theorem dL_law_1446 : decode cL_law 1446 = .ok (.invokevirtual 188, 3) := dk_182 0 188 (dk_at dksL_law_54 1 rfl rfl)
theorem dL_law_1449 : decode cL_law 1449 = .ok (.aload_n 2, 1) := dk_44 (dk_at dksL_law_54 4 rfl rfl)
theorem dL_law_1450 : decode cL_law 1450 = .ok (.aload_n 0, 1) := dk_42 (dk_at dksL_law_54 5 rfl rfl)
theorem dL_law_1451 : decode cL_law 1451 = .ok (.iload_n 3, 1) := dk_29 (dk_at dksL_law_54 6 rfl rfl)
theorem dL_law_1452 : decode cL_law 1452 = .ok (.iconst 1, 1) := dk_4 (dk_at dksL_law_54 7 rfl rfl)
theorem dL_law_1453 : decode cL_law 1453 = .ok (.iadd, 1) := dk_96 (dk_at dksL_law_54 8 rfl rfl)
theorem dL_law_1454 : decode cL_law 1454 = .ok (.iaload, 1) := dk_46 (dk_at dksL_law_54 9 rfl rfl)
theorem dL_law_1455 : decode cL_law 1455 = .ok (.invokevirtual 191, 3) := dk_182 0 191 (dk_at dksL_law_54 10 rfl rfl)
theorem dL_law_1458 : decode cL_law 1458 = .ok (.if_icmp .eq 90, 3) := dk_159 0 90 (dk_at dksL_law_54 13 rfl rfl)
theorem dL_law_1461 : decode cL_law 1461 = .ok (.iconst 0, 1) := dk_3 (dk_at dksL_law_54 16 rfl rfl)
theorem dL_law_1462 : decode cL_law 1462 = .ok (.ireturn, 1) := dk_172 (dk_at dksL_law_54 17 rfl rfl)
theorem dL_law_1463 : decode cL_law 1463 = .ok (.aload_n 1, 1) := dk_43 (dk_at dksL_law_54 18 rfl rfl)
theorem dL_law_1464 : decode cL_law 1464 = .ok (.invokevirtual 192, 3) := dk_182 0 192 (dk_at dksL_law_54 19 rfl rfl)
theorem dL_law_1467 : decode cL_law 1467 = .ok (.aload_n 2, 1) := dk_44 (dk_at dksL_law_54 22 rfl rfl)
theorem dL_law_1468 : decode cL_law 1468 = .ok (.invokevirtual 195, 3) := dk_182 0 195 (dk_at dksL_law_55 0 rfl rfl)
theorem dL_law_1471 : decode cL_law 1471 = .ok (.if_icmp .eq 77, 3) := dk_159 0 77 (dk_at dksL_law_55 3 rfl rfl)
theorem dL_law_1474 : decode cL_law 1474 = .ok (.iconst 0, 1) := dk_3 (dk_at dksL_law_55 6 rfl rfl)
theorem dL_law_1475 : decode cL_law 1475 = .ok (.ireturn, 1) := dk_172 (dk_at dksL_law_55 7 rfl rfl)
theorem dL_law_1476 : decode cL_law 1476 = .ok (.aload_n 1, 1) := dk_43 (dk_at dksL_law_55 8 rfl rfl)
theorem dL_law_1477 : decode cL_law 1477 = .ok (.invokevirtual 196, 3) := dk_182 0 196 (dk_at dksL_law_55 9 rfl rfl)
theorem dL_law_1480 : decode cL_law 1480 = .ok (.aload_n 2, 1) := dk_44 (dk_at dksL_law_55 12 rfl rfl)
theorem dL_law_1481 : decode cL_law 1481 = .ok (.invokevirtual 199, 3) := dk_182 0 199 (dk_at dksL_law_55 13 rfl rfl)
theorem dL_law_1484 : decode cL_law 1484 = .ok (.if_icmp .eq 64, 3) := dk_159 0 64 (dk_at dksL_law_55 16 rfl rfl)
theorem dL_law_1487 : decode cL_law 1487 = .ok (.iconst 0, 1) := dk_3 (dk_at dksL_law_55 19 rfl rfl)
theorem dL_law_1488 : decode cL_law 1488 = .ok (.ireturn, 1) := dk_172 (dk_at dksL_law_55 20 rfl rfl)
theorem dL_law_1489 : decode cL_law 1489 = .ok (.aload_n 1, 1) := dk_43 (dk_at dksL_law_55 21 rfl rfl)
theorem dL_law_1490 : decode cL_law 1490 = .ok (.invokevirtual 200, 3) := dk_182 0 200 (dk_at dksL_law_56 0 rfl rfl)
theorem dL_law_1493 : decode cL_law 1493 = .ok (.aload_n 2, 1) := dk_44 (dk_at dksL_law_56 3 rfl rfl)
theorem dL_law_1494 : decode cL_law 1494 = .ok (.invokevirtual 203, 3) := dk_182 0 203 (dk_at dksL_law_56 4 rfl rfl)
theorem dL_law_1497 : decode cL_law 1497 = .ok (.if_icmp .eq 51, 3) := dk_159 0 51 (dk_at dksL_law_56 7 rfl rfl)
theorem dL_law_1500 : decode cL_law 1500 = .ok (.iconst 0, 1) := dk_3 (dk_at dksL_law_56 10 rfl rfl)
theorem dL_law_1501 : decode cL_law 1501 = .ok (.ireturn, 1) := dk_172 (dk_at dksL_law_56 11 rfl rfl)
theorem dL_law_1502 : decode cL_law 1502 = .ok (.aload_n 1, 1) := dk_43 (dk_at dksL_law_56 12 rfl rfl)
theorem dL_law_1503 : decode cL_law 1503 = .ok (.aload_n 0, 1) := dk_42 (dk_at dksL_law_56 13 rfl rfl)
theorem dL_law_1504 : decode cL_law 1504 = .ok (.iload_n 3, 1) := dk_29 (dk_at dksL_law_56 14 rfl rfl)
theorem dL_law_1505 : decode cL_law 1505 = .ok (.iconst 1, 1) := dk_4 (dk_at dksL_law_56 15 rfl rfl)
theorem dL_law_1506 : decode cL_law 1506 = .ok (.iadd, 1) := dk_96 (dk_at dksL_law_56 16 rfl rfl)
theorem dL_law_1507 : decode cL_law 1507 = .ok (.iaload, 1) := dk_46 (dk_at dksL_law_56 17 rfl rfl)
theorem dL_law_1508 : decode cL_law 1508 = .ok (.invokevirtual 204, 3) := dk_182 0 204 (dk_at dksL_law_56 18 rfl rfl)
theorem dL_law_1511 : decode cL_law 1511 = .ok (.aload_n 2, 1) := dk_44 (dk_at dksL_law_56 21 rfl rfl)
theorem dL_law_1512 : decode cL_law 1512 = .ok (.aload_n 0, 1) := dk_42 (dk_at dksL_law_56 22 rfl rfl)
theorem dL_law_1513 : decode cL_law 1513 = .ok (.iload_n 3, 1) := dk_29 (dk_at dksL_law_56 23 rfl rfl)
theorem dL_law_1514 : decode cL_law 1514 = .ok (.iconst 1, 1) := dk_4 (dk_at dksL_law_57 0 rfl rfl)
theorem dL_law_1515 : decode cL_law 1515 = .ok (.iadd, 1) := dk_96 (dk_at dksL_law_57 1 rfl rfl)
theorem dL_law_1516 : decode cL_law 1516 = .ok (.iaload, 1) := dk_46 (dk_at dksL_law_57 2 rfl rfl)
theorem dL_law_1517 : decode cL_law 1517 = .ok (.invokevirtual 207, 3) := dk_182 0 207 (dk_at dksL_law_57 3 rfl rfl)
theorem dL_law_1520 : decode cL_law 1520 = .ok (.if_icmp .eq 28, 3) := dk_159 0 28 (dk_at dksL_law_57 6 rfl rfl)
theorem dL_law_1523 : decode cL_law 1523 = .ok (.iconst 0, 1) := dk_3 (dk_at dksL_law_57 9 rfl rfl)
theorem dL_law_1524 : decode cL_law 1524 = .ok (.ireturn, 1) := dk_172 (dk_at dksL_law_57 10 rfl rfl)
theorem dL_law_1525 : decode cL_law 1525 = .ok (.aload_n 1, 1) := dk_43 (dk_at dksL_law_57 11 rfl rfl)
theorem dL_law_1526 : decode cL_law 1526 = .ok (.aload_n 0, 1) := dk_42 (dk_at dksL_law_57 12 rfl rfl)
theorem dL_law_1527 : decode cL_law 1527 = .ok (.iload_n 3, 1) := dk_29 (dk_at dksL_law_57 13 rfl rfl)
theorem dL_law_1528 : decode cL_law 1528 = .ok (.iconst 1, 1) := dk_4 (dk_at dksL_law_57 14 rfl rfl)
theorem dL_law_1529 : decode cL_law 1529 = .ok (.iadd, 1) := dk_96 (dk_at dksL_law_57 15 rfl rfl)
theorem dL_law_1530 : decode cL_law 1530 = .ok (.iaload, 1) := dk_46 (dk_at dksL_law_57 16 rfl rfl)
theorem dL_law_1531 : decode cL_law 1531 = .ok (.invokevirtual 208, 3) := dk_182 0 208 (dk_at dksL_law_57 17 rfl rfl)
theorem dL_law_1534 : decode cL_law 1534 = .ok (.aload_n 2, 1) := dk_44 (dk_at dksL_law_57 20 rfl rfl)
theorem dL_law_1535 : decode cL_law 1535 = .ok (.aload_n 0, 1) := dk_42 (dk_at dksL_law_57 21 rfl rfl)
theorem dL_law_1536 : decode cL_law 1536 = .ok (.iload_n 3, 1) := dk_29 (dk_at dksL_law_57 22 rfl rfl)
theorem dL_law_1537 : decode cL_law 1537 = .ok (.iconst 1, 1) := dk_4 (dk_at dksL_law_57 23 rfl rfl)
theorem dL_law_1538 : decode cL_law 1538 = .ok (.iadd, 1) := dk_96 (dk_at dksL_law_58 0 rfl rfl)
theorem dL_law_1539 : decode cL_law 1539 = .ok (.iaload, 1) := dk_46 (dk_at dksL_law_58 1 rfl rfl)
theorem dL_law_1540 : decode cL_law 1540 = .ok (.invokevirtual 211, 3) := dk_182 0 211 (dk_at dksL_law_58 2 rfl rfl)
theorem dL_law_1543 : decode cL_law 1543 = .ok (.if_icmp .eq 5, 3) := dk_159 0 5 (dk_at dksL_law_58 5 rfl rfl)
theorem dL_law_1546 : decode cL_law 1546 = .ok (.iconst 0, 1) := dk_3 (dk_at dksL_law_58 8 rfl rfl)
theorem dL_law_1547 : decode cL_law 1547 = .ok (.ireturn, 1) := dk_172 (dk_at dksL_law_58 9 rfl rfl)
theorem dL_law_1548 : decode cL_law 1548 = .ok (.iinc 3 6, 3) := dk_132 3 6 (dk_at dksL_law_58 10 rfl rfl)
theorem dL_law_1551 : decode cL_law 1551 = .ok (.goto (-1533), 3) := dk_167 250 3 (dk_at dksL_law_58 13 rfl rfl)
theorem dL_law_1554 : decode cL_law 1554 = .ok (.iconst 1, 1) := dk_4 (dk_at dksL_law_58 16 rfl rfl)
theorem dL_law_1555 : decode cL_law 1555 = .ok (.ireturn, 1) := dk_172 (dk_at dksL_law_58 17 rfl rfl)
theorem q107 : (Jvm.Cond.initialized "OwlEarsLaw") ∈ lw_all := lw_g (lw_at lw_m1 0 rfl) rfl
set_option maxRecDepth 100000
theorem q133 : (Jvm.Cond.classLink "OwlEarsLaw" (7 : Nat) "OwlEars") ∈ lw_all := lw_g (lw_at lw_m1 26 rfl) rfl
theorem q135 : (Jvm.Cond.methodLink "OwlEarsLaw" (9 : Nat) ({ cls := "OwlEars", name := "<init>", desc := "()V" } : Jvm.MethodName)) ∈ lw_all := lw_g (lw_at lw_m1 28 rfl) rfl
theorem q462 : (Jvm.Cond.methodLink "OwlEarsLaw" (13 : Nat) ({ cls := "OwlEars", name := "cell", desc := "(III)I" } : Jvm.MethodName)) ∈ lw_all := lw_g (lw_at lw_m2 115 rfl) rfl
theorem q477 : (Jvm.Cond.methodLink "OwlEarsLaw" (18 : Nat) ({ cls := "OwlEars", name := "cellOf", desc := "(II)I" } : Jvm.MethodName)) ∈ lw_all := lw_g (lw_at lw_m2 130 rfl) rfl
theorem q502 : (Jvm.Cond.methodLink "OwlEarsLaw" (23 : Nat) ({ cls := "OwlEars", name := "mouse", desc := "(II)I" } : Jvm.MethodName)) ∈ lw_all := lw_g (lw_at lw_m2 155 rfl) rfl
theorem q513 : (Jvm.Cond.methodLink "OwlEarsLaw" (27 : Nat) ({ cls := "OwlEars", name := "owl", desc := "(II)I" } : Jvm.MethodName)) ∈ lw_all := lw_g (lw_at lw_m2 166 rfl) rfl
theorem q517 : (Jvm.Cond.methodLink "OwlEarsLaw" (31 : Nat) ({ cls := "OwlEars", name := "told", desc := "(I)I" } : Jvm.MethodName)) ∈ lw_all := lw_g (lw_at lw_m2 170 rfl) rfl
theorem q523 : (Jvm.Cond.methodLink "OwlEarsLaw" (36 : Nat) ({ cls := "OwlEars", name := "strike", desc := "(II)I" } : Jvm.MethodName)) ∈ lw_all := lw_g (lw_at lw_m2 176 rfl) rfl
theorem q534 : (Jvm.Cond.methodLink "OwlEarsLaw" (40 : Nat) ({ cls := "OwlEars", name := "of", desc := "(II)I" } : Jvm.MethodName)) ∈ lw_all := lw_g (lw_at lw_m2 187 rfl) rfl
theorem q771 : (Jvm.Cond.methodLink "OwlEarsLaw" (44 : Nat) ({ cls := "OwlEars", name := "change", desc := "(III)I" } : Jvm.MethodName)) ∈ lw_all := lw_g (lw_at lw_m3 184 rfl) rfl
theorem q778 : (Jvm.Cond.methodLink "OwlEarsLaw" (48 : Nat) ({ cls := "OwlEars", name := "strikes", desc := "(I)I" } : Jvm.MethodName)) ∈ lw_all := lw_g (lw_at lw_m3 191 rfl) rfl
theorem q794 : (Jvm.Cond.methodLink "OwlEarsLaw" (52 : Nat) ({ cls := "OwlEars", name := "go", desc := "(I)I" } : Jvm.MethodName)) ∈ lw_all := lw_g (lw_at lw_m3 207 rfl) rfl
theorem q802 : (Jvm.Cond.methodLink "OwlEarsLaw" (56 : Nat) ({ cls := "OwlEars", name := "now", desc := "(I)I" } : Jvm.MethodName)) ∈ lw_all := lw_g (lw_at lw_m3 215 rfl) rfl
theorem q838 : (Jvm.Cond.methodLink "OwlEarsLaw" (60 : Nat) ({ cls := "OwlEars", name := "ear", desc := "(I)I" } : Jvm.MethodName)) ∈ lw_all := lw_g (lw_at lw_m4 11 rfl) rfl
theorem q844 : (Jvm.Cond.methodLink "OwlEarsLaw" (64 : Nat) ({ cls := "OwlEars", name := "where", desc := "(I)I" } : Jvm.MethodName)) ∈ lw_all := lw_g (lw_at lw_m4 17 rfl) rfl
theorem q852 : (Jvm.Cond.methodLink "OwlEarsLaw" (68 : Nat) ({ cls := "OwlEars", name := "heard", desc := "(I)I" } : Jvm.MethodName)) ∈ lw_all := lw_g (lw_at lw_m4 25 rfl) rfl
theorem q860 : (Jvm.Cond.methodLink "OwlEarsLaw" (72 : Nat) ({ cls := "OwlEars", name := "when", desc := "(I)I" } : Jvm.MethodName)) ∈ lw_all := lw_g (lw_at lw_m4 33 rfl) rfl
theorem q872 : (Jvm.Cond.methodLink "OwlEarsLaw" (76 : Nat) ({ cls := "OwlEars", name := "rustle", desc := "()I" } : Jvm.MethodName)) ∈ lw_all := lw_g (lw_at lw_m4 45 rfl) rfl
theorem q876 : (Jvm.Cond.methodLink "OwlEarsLaw" (81 : Nat) ({ cls := "OwlEars", name := "run", desc := "(I)J" } : Jvm.MethodName)) ∈ lw_all := lw_g (lw_at lw_m4 49 rfl) rfl
theorem q884 : (Jvm.Cond.methodLink "OwlEarsLaw" (86 : Nat) ({ cls := "OwlEars", name := "soonest", desc := "(I)I" } : Jvm.MethodName)) ∈ lw_all := lw_g (lw_at lw_m4 57 rfl) rfl
theorem q892 : (Jvm.Cond.methodLink "OwlEarsLaw" (90 : Nat) ({ cls := "OwlEars", name := "chances", desc := "(II)I" } : Jvm.MethodName)) ∈ lw_all := lw_g (lw_at lw_m4 65 rfl) rfl
theorem q900 : (Jvm.Cond.methodLink "OwlEarsLaw" (94 : Nat) ({ cls := "OwlEars", name := "aim", desc := "(I)I" } : Jvm.MethodName)) ∈ lw_all := lw_g (lw_at lw_m4 73 rfl) rfl
theorem q919 : (Jvm.Cond.methodLink "OwlEarsLaw" (98 : Nat) ({ cls := "OwlEars", name := "aims", desc := "(I)J" } : Jvm.MethodName)) ∈ lw_all := lw_g (lw_at lw_m4 92 rfl) rfl
theorem q923 : (Jvm.Cond.methodLink "OwlEarsLaw" (102 : Nat) ({ cls := "OwlEars", name := "kinds", desc := "(I)I" } : Jvm.MethodName)) ∈ lw_all := lw_g (lw_at lw_m4 96 rfl) rfl
theorem q927 : (Jvm.Cond.methodLink "OwlEarsLaw" (106 : Nat) ({ cls := "OwlEars", name := "waitFor", desc := "(I)I" } : Jvm.MethodName)) ∈ lw_all := lw_g (lw_at lw_m4 100 rfl) rfl
theorem q931 : (Jvm.Cond.methodLink "OwlEarsLaw" (110 : Nat) ({ cls := "OwlEars", name := "best", desc := "(I)I" } : Jvm.MethodName)) ∈ lw_all := lw_g (lw_at lw_m4 104 rfl) rfl
theorem q940 : (Jvm.Cond.methodLink "OwlEarsLaw" (114 : Nat) ({ cls := "OwlEars", name := "post", desc := "(I)I" } : Jvm.MethodName)) ∈ lw_all := lw_g (lw_at lw_m4 113 rfl) rfl
theorem q948 : (Jvm.Cond.methodLink "OwlEarsLaw" (118 : Nat) ({ cls := "OwlEars", name := "face", desc := "(I)I" } : Jvm.MethodName)) ∈ lw_all := lw_g (lw_at lw_m4 121 rfl) rfl
theorem q952 : (Jvm.Cond.methodLink "OwlEarsLaw" (122 : Nat) ({ cls := "OwlEars", name := "rhythm", desc := "(II)I" } : Jvm.MethodName)) ∈ lw_all := lw_g (lw_at lw_m4 125 rfl) rfl
theorem q972 : (Jvm.Cond.methodLink "OwlEarsLaw" (126 : Nat) ({ cls := "OwlEars", name := "least", desc := "(II)I" } : Jvm.MethodName)) ∈ lw_all := lw_g (lw_at lw_m4 145 rfl) rfl
theorem q976 : (Jvm.Cond.methodLink "OwlEarsLaw" (130 : Nat) ({ cls := "OwlEars", name := "fits", desc := "(II)J" } : Jvm.MethodName)) ∈ lw_all := lw_g (lw_at lw_m4 149 rfl) rfl
theorem q1016 : (Jvm.Cond.methodLink "OwlEarsLaw" (135 : Nat) ({ cls := "OwlEars", name := "headings", desc := "(II)I" } : Jvm.MethodName)) ∈ lw_all := lw_g (lw_at lw_m4 189 rfl) rfl
theorem q1026 : (Jvm.Cond.methodLink "OwlEarsLaw" (139 : Nat) ({ cls := "OwlEars", name := "leaves", desc := "(I)I" } : Jvm.MethodName)) ∈ lw_all := lw_g (lw_at lw_m4 199 rfl) rfl
theorem q1039 : (Jvm.Cond.methodLink "OwlEarsLaw" (143 : Nat) ({ cls := "OwlEars", name := "odds", desc := "(II)J" } : Jvm.MethodName)) ∈ lw_all := lw_g (lw_at lw_m4 212 rfl) rfl
theorem q1050 : (Jvm.Cond.methodLink "OwlEarsLaw" (147 : Nat) ({ cls := "OwlEars", name := "seed", desc := "(I)I" } : Jvm.MethodName)) ∈ lw_all := lw_g (lw_at lw_m4 223 rfl) rfl
theorem q1054 : (Jvm.Cond.methodLink "OwlEarsLaw" (151 : Nat) ({ cls := "OwlEars", name := "feed", desc := "(II)I" } : Jvm.MethodName)) ∈ lw_all := lw_g (lw_at lw_m4 227 rfl) rfl
theorem q1058 : (Jvm.Cond.methodLink "OwlEarsLaw" (155 : Nat) ({ cls := "OwlEars", name := "wipe", desc := "()I" } : Jvm.MethodName)) ∈ lw_all := lw_g (lw_at lw_m4 231 rfl) rfl
theorem q1062 : (Jvm.Cond.methodLink "OwlEarsLaw" (159 : Nat) ({ cls := "OwlEars", name := "text", desc := "()I" } : Jvm.MethodName)) ∈ lw_all := lw_g (lw_at lw_m4 235 rfl) rfl
theorem q1180 : (Jvm.Cond.methodLink "OwlEarsLaw" (163 : Nat) ({ cls := "OwlEars", name := "hold", desc := "(II)I" } : Jvm.MethodName)) ∈ lw_all := lw_g (lw_at lw_m5 113 rfl) rfl
theorem q1187 : (Jvm.Cond.methodLink "OwlEarsLaw" (167 : Nat) ({ cls := "OwlEars", name := "as", desc := "(II)I" } : Jvm.MethodName)) ∈ lw_all := lw_g (lw_at lw_m5 120 rfl) rfl
theorem q1219 : (Jvm.Cond.methodLink "OwlEarsLaw" (171 : Nat) ({ cls := "OwlEars", name := "sheet", desc := "(III)I" } : Jvm.MethodName)) ∈ lw_all := lw_g (lw_at lw_m5 152 rfl) rfl
theorem q1224 : (Jvm.Cond.methodLink "OwlEarsLaw" (175 : Nat) ({ cls := "OwlEars", name := "write", desc := "(III)I" } : Jvm.MethodName)) ∈ lw_all := lw_g (lw_at lw_m5 157 rfl) rfl
theorem q1231 : (Jvm.Cond.methodLink "OwlEarsLaw" (179 : Nat) ({ cls := "OwlEars", name := "copy", desc := "(IIIII)I" } : Jvm.MethodName)) ∈ lw_all := lw_g (lw_at lw_m5 164 rfl) rfl
theorem q1242 : (Jvm.Cond.methodLink "OwlEarsLaw" (184 : Nat) ({ cls := "OwlEars", name := "load", desc := "(I)I" } : Jvm.MethodName)) ∈ lw_all := lw_g (lw_at lw_m5 175 rfl) rfl
theorem q1250 : (Jvm.Cond.methodLink "OwlEarsLaw" (188 : Nat) ({ cls := "OwlEars", name := "judge", desc := "(I)I" } : Jvm.MethodName)) ∈ lw_all := lw_g (lw_at lw_m5 183 rfl) rfl
theorem q1258 : (Jvm.Cond.methodLink "OwlEarsLaw" (192 : Nat) ({ cls := "OwlEars", name := "image", desc := "()I" } : Jvm.MethodName)) ∈ lw_all := lw_g (lw_at lw_m5 191 rfl) rfl
theorem q1262 : (Jvm.Cond.methodLink "OwlEarsLaw" (196 : Nat) ({ cls := "OwlEars", name := "undo", desc := "()I" } : Jvm.MethodName)) ∈ lw_all := lw_g (lw_at lw_m5 195 rfl) rfl
theorem q1266 : (Jvm.Cond.methodLink "OwlEarsLaw" (200 : Nat) ({ cls := "OwlEars", name := "tear", desc := "()I" } : Jvm.MethodName)) ∈ lw_all := lw_g (lw_at lw_m5 199 rfl) rfl
theorem q1270 : (Jvm.Cond.methodLink "OwlEarsLaw" (204 : Nat) ({ cls := "OwlEars", name := "count", desc := "(I)I" } : Jvm.MethodName)) ∈ lw_all := lw_g (lw_at lw_m5 203 rfl) rfl
theorem q1287 : (Jvm.Cond.methodLink "OwlEarsLaw" (208 : Nat) ({ cls := "OwlEars", name := "status", desc := "(I)I" } : Jvm.MethodName)) ∈ lw_all := lw_g (lw_at lw_m5 220 rfl) rfl
theorem q1291 : (Jvm.Cond.classLink "OwlEarsLaw" (10 : Nat) "OwlEarsModel") ∈ lw_all := lw_g (lw_at lw_m5 224 rfl) rfl
theorem q1293 : (Jvm.Cond.methodLink "OwlEarsLaw" (12 : Nat) ({ cls := "OwlEarsModel", name := "<init>", desc := "()V" } : Jvm.MethodName)) ∈ lw_all := lw_g (lw_at lw_m5 226 rfl) rfl
theorem q1383 : (Jvm.Cond.methodLink "OwlEarsLaw" (17 : Nat) ({ cls := "OwlEarsModel", name := "cell", desc := "(III)I" } : Jvm.MethodName)) ∈ lw_all := lw_g (lw_at lw_m6 76 rfl) rfl
theorem q1408 : (Jvm.Cond.methodLink "OwlEarsLaw" (22 : Nat) ({ cls := "OwlEarsModel", name := "cellOf", desc := "(II)I" } : Jvm.MethodName)) ∈ lw_all := lw_g (lw_at lw_m6 101 rfl) rfl
theorem q1429 : (Jvm.Cond.methodLink "OwlEarsLaw" (26 : Nat) ({ cls := "OwlEarsModel", name := "mouse", desc := "(II)I" } : Jvm.MethodName)) ∈ lw_all := lw_g (lw_at lw_m6 122 rfl) rfl
theorem q1440 : (Jvm.Cond.methodLink "OwlEarsLaw" (30 : Nat) ({ cls := "OwlEarsModel", name := "owl", desc := "(II)I" } : Jvm.MethodName)) ∈ lw_all := lw_g (lw_at lw_m6 133 rfl) rfl
theorem q1444 : (Jvm.Cond.methodLink "OwlEarsLaw" (35 : Nat) ({ cls := "OwlEarsModel", name := "told", desc := "(I)I" } : Jvm.MethodName)) ∈ lw_all := lw_g (lw_at lw_m6 137 rfl) rfl
theorem q1448 : (Jvm.Cond.methodLink "OwlEarsLaw" (39 : Nat) ({ cls := "OwlEarsModel", name := "strike", desc := "(II)I" } : Jvm.MethodName)) ∈ lw_all := lw_g (lw_at lw_m6 141 rfl) rfl
theorem q1463 : (Jvm.Cond.methodLink "OwlEarsLaw" (43 : Nat) ({ cls := "OwlEarsModel", name := "of", desc := "(II)I" } : Jvm.MethodName)) ∈ lw_all := lw_g (lw_at lw_m6 156 rfl) rfl
theorem q1509 : (Jvm.Cond.methodLink "OwlEarsLaw" (47 : Nat) ({ cls := "OwlEarsModel", name := "change", desc := "(III)I" } : Jvm.MethodName)) ∈ lw_all := lw_g (lw_at lw_m6 202 rfl) rfl
theorem q1516 : (Jvm.Cond.methodLink "OwlEarsLaw" (51 : Nat) ({ cls := "OwlEarsModel", name := "strikes", desc := "(I)I" } : Jvm.MethodName)) ∈ lw_all := lw_g (lw_at lw_m6 209 rfl) rfl
theorem q1527 : (Jvm.Cond.methodLink "OwlEarsLaw" (55 : Nat) ({ cls := "OwlEarsModel", name := "go", desc := "(I)I" } : Jvm.MethodName)) ∈ lw_all := lw_g (lw_at lw_m6 220 rfl) rfl
theorem q1531 : (Jvm.Cond.methodLink "OwlEarsLaw" (59 : Nat) ({ cls := "OwlEarsModel", name := "now", desc := "(I)I" } : Jvm.MethodName)) ∈ lw_all := lw_g (lw_at lw_m6 224 rfl) rfl
theorem q1566 : (Jvm.Cond.methodLink "OwlEarsLaw" (63 : Nat) ({ cls := "OwlEarsModel", name := "ear", desc := "(I)I" } : Jvm.MethodName)) ∈ lw_all := lw_g (lw_at lw_m7 19 rfl) rfl
theorem q1571 : (Jvm.Cond.methodLink "OwlEarsLaw" (67 : Nat) ({ cls := "OwlEarsModel", name := "where", desc := "(I)I" } : Jvm.MethodName)) ∈ lw_all := lw_g (lw_at lw_m7 24 rfl) rfl
theorem q1582 : (Jvm.Cond.methodLink "OwlEarsLaw" (71 : Nat) ({ cls := "OwlEarsModel", name := "heard", desc := "(I)I" } : Jvm.MethodName)) ∈ lw_all := lw_g (lw_at lw_m7 35 rfl) rfl
theorem q1590 : (Jvm.Cond.methodLink "OwlEarsLaw" (75 : Nat) ({ cls := "OwlEarsModel", name := "when", desc := "(I)I" } : Jvm.MethodName)) ∈ lw_all := lw_g (lw_at lw_m7 43 rfl) rfl
theorem q1598 : (Jvm.Cond.methodLink "OwlEarsLaw" (80 : Nat) ({ cls := "OwlEarsModel", name := "rustle", desc := "()I" } : Jvm.MethodName)) ∈ lw_all := lw_g (lw_at lw_m7 51 rfl) rfl
theorem q1602 : (Jvm.Cond.methodLink "OwlEarsLaw" (85 : Nat) ({ cls := "OwlEarsModel", name := "run", desc := "(I)J" } : Jvm.MethodName)) ∈ lw_all := lw_g (lw_at lw_m7 55 rfl) rfl
theorem q1606 : (Jvm.Cond.methodLink "OwlEarsLaw" (89 : Nat) ({ cls := "OwlEarsModel", name := "soonest", desc := "(I)I" } : Jvm.MethodName)) ∈ lw_all := lw_g (lw_at lw_m7 59 rfl) rfl
theorem q1610 : (Jvm.Cond.methodLink "OwlEarsLaw" (93 : Nat) ({ cls := "OwlEarsModel", name := "chances", desc := "(II)I" } : Jvm.MethodName)) ∈ lw_all := lw_g (lw_at lw_m7 63 rfl) rfl
theorem q1618 : (Jvm.Cond.methodLink "OwlEarsLaw" (97 : Nat) ({ cls := "OwlEarsModel", name := "aim", desc := "(I)I" } : Jvm.MethodName)) ∈ lw_all := lw_g (lw_at lw_m7 71 rfl) rfl
theorem q1626 : (Jvm.Cond.methodLink "OwlEarsLaw" (101 : Nat) ({ cls := "OwlEarsModel", name := "aims", desc := "(I)J" } : Jvm.MethodName)) ∈ lw_all := lw_g (lw_at lw_m7 79 rfl) rfl
theorem q1630 : (Jvm.Cond.methodLink "OwlEarsLaw" (105 : Nat) ({ cls := "OwlEarsModel", name := "kinds", desc := "(I)I" } : Jvm.MethodName)) ∈ lw_all := lw_g (lw_at lw_m7 83 rfl) rfl
theorem q1638 : (Jvm.Cond.methodLink "OwlEarsLaw" (109 : Nat) ({ cls := "OwlEarsModel", name := "waitFor", desc := "(I)I" } : Jvm.MethodName)) ∈ lw_all := lw_g (lw_at lw_m7 91 rfl) rfl
theorem q1645 : (Jvm.Cond.methodLink "OwlEarsLaw" (113 : Nat) ({ cls := "OwlEarsModel", name := "best", desc := "(I)I" } : Jvm.MethodName)) ∈ lw_all := lw_g (lw_at lw_m7 98 rfl) rfl
theorem q1652 : (Jvm.Cond.methodLink "OwlEarsLaw" (117 : Nat) ({ cls := "OwlEarsModel", name := "post", desc := "(I)I" } : Jvm.MethodName)) ∈ lw_all := lw_g (lw_at lw_m7 105 rfl) rfl
theorem q1660 : (Jvm.Cond.methodLink "OwlEarsLaw" (121 : Nat) ({ cls := "OwlEarsModel", name := "face", desc := "(I)I" } : Jvm.MethodName)) ∈ lw_all := lw_g (lw_at lw_m7 113 rfl) rfl
theorem q1664 : (Jvm.Cond.methodLink "OwlEarsLaw" (125 : Nat) ({ cls := "OwlEarsModel", name := "rhythm", desc := "(II)I" } : Jvm.MethodName)) ∈ lw_all := lw_g (lw_at lw_m7 117 rfl) rfl
theorem q1675 : (Jvm.Cond.methodLink "OwlEarsLaw" (129 : Nat) ({ cls := "OwlEarsModel", name := "least", desc := "(II)I" } : Jvm.MethodName)) ∈ lw_all := lw_g (lw_at lw_m7 128 rfl) rfl
theorem q1679 : (Jvm.Cond.methodLink "OwlEarsLaw" (134 : Nat) ({ cls := "OwlEarsModel", name := "fits", desc := "(II)J" } : Jvm.MethodName)) ∈ lw_all := lw_g (lw_at lw_m7 132 rfl) rfl
theorem q1707 : (Jvm.Cond.methodLink "OwlEarsLaw" (138 : Nat) ({ cls := "OwlEarsModel", name := "headings", desc := "(II)I" } : Jvm.MethodName)) ∈ lw_all := lw_g (lw_at lw_m7 160 rfl) rfl
theorem q1711 : (Jvm.Cond.methodLink "OwlEarsLaw" (142 : Nat) ({ cls := "OwlEarsModel", name := "leaves", desc := "(I)I" } : Jvm.MethodName)) ∈ lw_all := lw_g (lw_at lw_m7 164 rfl) rfl
theorem q1720 : (Jvm.Cond.methodLink "OwlEarsLaw" (146 : Nat) ({ cls := "OwlEarsModel", name := "odds", desc := "(II)J" } : Jvm.MethodName)) ∈ lw_all := lw_g (lw_at lw_m7 173 rfl) rfl
theorem q1724 : (Jvm.Cond.methodLink "OwlEarsLaw" (150 : Nat) ({ cls := "OwlEarsModel", name := "seed", desc := "(I)I" } : Jvm.MethodName)) ∈ lw_all := lw_g (lw_at lw_m7 177 rfl) rfl
theorem q1728 : (Jvm.Cond.methodLink "OwlEarsLaw" (154 : Nat) ({ cls := "OwlEarsModel", name := "feed", desc := "(II)I" } : Jvm.MethodName)) ∈ lw_all := lw_g (lw_at lw_m7 181 rfl) rfl
theorem q1732 : (Jvm.Cond.methodLink "OwlEarsLaw" (158 : Nat) ({ cls := "OwlEarsModel", name := "wipe", desc := "()I" } : Jvm.MethodName)) ∈ lw_all := lw_g (lw_at lw_m7 185 rfl) rfl
theorem q1736 : (Jvm.Cond.methodLink "OwlEarsLaw" (162 : Nat) ({ cls := "OwlEarsModel", name := "text", desc := "()I" } : Jvm.MethodName)) ∈ lw_all := lw_g (lw_at lw_m7 189 rfl) rfl
theorem q1812 : (Jvm.Cond.methodLink "OwlEarsLaw" (166 : Nat) ({ cls := "OwlEarsModel", name := "hold", desc := "(II)I" } : Jvm.MethodName)) ∈ lw_all := lw_g (lw_at lw_m8 25 rfl) rfl
theorem q1819 : (Jvm.Cond.methodLink "OwlEarsLaw" (170 : Nat) ({ cls := "OwlEarsModel", name := "as", desc := "(II)I" } : Jvm.MethodName)) ∈ lw_all := lw_g (lw_at lw_m8 32 rfl) rfl
theorem q1830 : (Jvm.Cond.methodLink "OwlEarsLaw" (174 : Nat) ({ cls := "OwlEarsModel", name := "sheet", desc := "(III)I" } : Jvm.MethodName)) ∈ lw_all := lw_g (lw_at lw_m8 43 rfl) rfl
theorem q1835 : (Jvm.Cond.methodLink "OwlEarsLaw" (178 : Nat) ({ cls := "OwlEarsModel", name := "write", desc := "(III)I" } : Jvm.MethodName)) ∈ lw_all := lw_g (lw_at lw_m8 48 rfl) rfl
theorem q1842 : (Jvm.Cond.methodLink "OwlEarsLaw" (183 : Nat) ({ cls := "OwlEarsModel", name := "copy", desc := "(IIIII)I" } : Jvm.MethodName)) ∈ lw_all := lw_g (lw_at lw_m8 55 rfl) rfl
theorem q1846 : (Jvm.Cond.methodLink "OwlEarsLaw" (187 : Nat) ({ cls := "OwlEarsModel", name := "load", desc := "(I)I" } : Jvm.MethodName)) ∈ lw_all := lw_g (lw_at lw_m8 59 rfl) rfl
theorem q1850 : (Jvm.Cond.methodLink "OwlEarsLaw" (191 : Nat) ({ cls := "OwlEarsModel", name := "judge", desc := "(I)I" } : Jvm.MethodName)) ∈ lw_all := lw_g (lw_at lw_m8 63 rfl) rfl
theorem q1854 : (Jvm.Cond.methodLink "OwlEarsLaw" (195 : Nat) ({ cls := "OwlEarsModel", name := "image", desc := "()I" } : Jvm.MethodName)) ∈ lw_all := lw_g (lw_at lw_m8 67 rfl) rfl
theorem q1858 : (Jvm.Cond.methodLink "OwlEarsLaw" (199 : Nat) ({ cls := "OwlEarsModel", name := "undo", desc := "()I" } : Jvm.MethodName)) ∈ lw_all := lw_g (lw_at lw_m8 71 rfl) rfl
theorem q1862 : (Jvm.Cond.methodLink "OwlEarsLaw" (203 : Nat) ({ cls := "OwlEarsModel", name := "tear", desc := "()I" } : Jvm.MethodName)) ∈ lw_all := lw_g (lw_at lw_m8 75 rfl) rfl
theorem q1866 : (Jvm.Cond.methodLink "OwlEarsLaw" (207 : Nat) ({ cls := "OwlEarsModel", name := "count", desc := "(I)I" } : Jvm.MethodName)) ∈ lw_all := lw_g (lw_at lw_m8 79 rfl) rfl
theorem q1870 : (Jvm.Cond.methodLink "OwlEarsLaw" (211 : Nat) ({ cls := "OwlEarsModel", name := "status", desc := "(I)I" } : Jvm.MethodName)) ∈ lw_all := lw_g (lw_at lw_m8 83 rfl) rfl
