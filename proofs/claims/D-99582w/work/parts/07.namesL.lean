/-! the law's own entry -/
set_option maxRecDepth 100000
abbrev cL_law : ByteArray := code
def dkwL_law_59 : List UInt8 := [172]
abbrev dktL_law_59 : List UInt8 := dkwL_law_59 ++ []
def dkwL_law_58 : List UInt8 := [182, 0, 179, 44, 42, 29, 4, 96, 46, 182, 0, 182, 159, 0, 5, 3, 172, 132, 3, 6, 167, 250, 21, 4]
abbrev dktL_law_58 : List UInt8 := dkwL_law_58 ++ dktL_law_59
def dkwL_law_57 : List UInt8 := [182, 0, 175, 44, 42, 29, 4, 96, 46, 182, 0, 178, 159, 0, 28, 3, 172, 43, 42, 29, 4, 96, 46]
abbrev dktL_law_57 : List UInt8 := dkwL_law_57 ++ dktL_law_58
def dkwL_law_56 : List UInt8 := [46, 182, 0, 171, 44, 42, 29, 4, 96, 46, 182, 0, 174, 159, 0, 51, 3, 172, 43, 42, 29, 4, 96, 46]
abbrev dktL_law_56 : List UInt8 := dkwL_law_56 ++ dktL_law_57
def dkwL_law_55 : List UInt8 := [46, 42, 29, 5, 96, 46, 42, 29, 6, 96, 46, 182, 0, 170, 159, 0, 74, 3, 172, 43, 42, 29, 4, 96]
abbrev dktL_law_55 : List UInt8 := dkwL_law_55 ++ dktL_law_56
def dkwL_law_54 : List UInt8 := [43, 42, 29, 4, 96, 46, 42, 29, 5, 96, 46, 42, 29, 6, 96, 46, 182, 0, 167, 44, 42, 29, 4, 96]
abbrev dktL_law_54 : List UInt8 := dkwL_law_54 ++ dktL_law_55
def dkwL_law_53 : List UInt8 := [133, 16, 32, 121, 42, 29, 7, 96, 46, 133, 20, 0, 160, 127, 129, 182, 0, 166, 148, 153, 0, 117, 3, 172]
abbrev dktL_law_53 : List UInt8 := dkwL_law_53 ++ dktL_law_54
def dkwL_law_52 : List UInt8 := [20, 0, 160, 127, 129, 182, 0, 162, 44, 42, 29, 4, 96, 46, 42, 29, 5, 96, 46, 42, 29, 6, 96, 46]
abbrev dktL_law_52 : List UInt8 := dkwL_law_52 ++ dktL_law_53
def dkwL_law_51 : List UInt8 := [4, 96, 46, 42, 29, 5, 96, 46, 42, 29, 6, 96, 46, 133, 16, 32, 121, 42, 29, 7, 96, 46, 133]
abbrev dktL_law_51 : List UInt8 := dkwL_law_51 ++ dktL_law_52
def dkwL_law_50 : List UInt8 := [4, 96, 46, 42, 29, 5, 96, 46, 42, 29, 6, 96, 46, 182, 0, 159, 159, 0, 191, 3, 172, 43, 42, 29]
abbrev dktL_law_50 : List UInt8 := dkwL_law_50 ++ dktL_law_51
def dkwL_law_49 : List UInt8 := [3, 172, 43, 42, 29, 4, 96, 46, 42, 29, 5, 96, 46, 42, 29, 6, 96, 46, 182, 0, 156, 44, 42, 29]
abbrev dktL_law_49 : List UInt8 := dkwL_law_49 ++ dktL_law_50
def dkwL_law_48 : List UInt8 := [29, 5, 96, 46, 182, 0, 152, 44, 42, 29, 4, 96, 46, 42, 29, 5, 96, 46, 182, 0, 155, 159, 0, 234]
abbrev dktL_law_48 : List UInt8 := dkwL_law_48 ++ dktL_law_49
def dkwL_law_47 : List UInt8 := [29, 5, 96, 46, 42, 29, 6, 96, 46, 182, 0, 151, 159, 1, 11, 3, 172, 43, 42, 29, 4, 96, 46, 42]
abbrev dktL_law_47 : List UInt8 := dkwL_law_47 ++ dktL_law_48
def dkwL_law_46 : List UInt8 := [29, 4, 96, 46, 42, 29, 5, 96, 46, 42, 29, 6, 96, 46, 182, 0, 148, 44, 42, 29, 4, 96, 46, 42]
abbrev dktL_law_46 : List UInt8 := dkwL_law_46 ++ dktL_law_47
def dkwL_law_45 : List UInt8 := [42, 29, 4, 96, 46, 182, 0, 144, 44, 42, 29, 4, 96, 46, 182, 0, 147, 159, 1, 54, 3, 172, 43, 42]
abbrev dktL_law_45 : List UInt8 := dkwL_law_45 ++ dktL_law_46
def dkwL_law_44 : List UInt8 := [46, 182, 0, 140, 44, 42, 29, 4, 96, 46, 42, 29, 5, 96, 46, 182, 0, 143, 159, 1, 77, 3, 172, 43]
abbrev dktL_law_44 : List UInt8 := dkwL_law_44 ++ dktL_law_45
def dkwL_law_43 : List UInt8 := [46, 42, 29, 5, 96, 46, 182, 0, 139, 159, 1, 110, 3, 172, 43, 42, 29, 4, 96, 46, 42, 29, 5, 96]
abbrev dktL_law_43 : List UInt8 := dkwL_law_43 ++ dktL_law_44
def dkwL_law_42 : List UInt8 := [159, 1, 143, 3, 172, 43, 42, 29, 4, 96, 46, 42, 29, 5, 96, 46, 182, 0, 136, 44, 42, 29, 4, 96]
abbrev dktL_law_42 : List UInt8 := dkwL_law_42 ++ dktL_law_43
def dkwL_law_41 : List UInt8 := [42, 29, 5, 96, 46, 182, 0, 132, 44, 42, 29, 4, 96, 46, 42, 29, 5, 96, 46, 182, 0, 135]
abbrev dktL_law_41 : List UInt8 := dkwL_law_41 ++ dktL_law_42
def dkwL_law_40 : List UInt8 := [42, 29, 5, 96, 46, 42, 29, 6, 96, 46, 182, 0, 131, 159, 1, 176, 3, 172, 43, 42, 29, 4, 96, 46]
abbrev dktL_law_40 : List UInt8 := dkwL_law_40 ++ dktL_law_41
def dkwL_law_39 : List UInt8 := [42, 29, 4, 96, 46, 42, 29, 5, 96, 46, 42, 29, 6, 96, 46, 182, 0, 128, 44, 42, 29, 4, 96, 46]
abbrev dktL_law_39 : List UInt8 := dkwL_law_39 ++ dktL_law_40
def dkwL_law_38 : List UInt8 := [42, 29, 5, 96, 46, 42, 29, 6, 96, 46, 42, 29, 7, 96, 46, 182, 0, 127, 159, 1, 219, 3, 172, 43]
abbrev dktL_law_38 : List UInt8 := dkwL_law_38 ++ dktL_law_39
def dkwL_law_37 : List UInt8 := [42, 29, 5, 96, 46, 42, 29, 6, 96, 46, 42, 29, 7, 96, 46, 182, 0, 124, 44, 42, 29, 4, 96, 46]
abbrev dktL_law_37 : List UInt8 := dkwL_law_37 ++ dktL_law_38
def dkwL_law_36 : List UInt8 := [42, 29, 5, 96, 46, 42, 29, 6, 96, 46, 182, 0, 123, 159, 2, 16, 3, 172, 43, 42, 29, 4, 96, 46]
abbrev dktL_law_36 : List UInt8 := dkwL_law_36 ++ dktL_law_37
def dkwL_law_35 : List UInt8 := [42, 29, 4, 96, 46, 42, 29, 5, 96, 46, 42, 29, 6, 96, 46, 182, 0, 120, 44, 42, 29, 4, 96, 46]
abbrev dktL_law_35 : List UInt8 := dkwL_law_35 ++ dktL_law_36
def dkwL_law_34 : List UInt8 := [42, 29, 5, 96, 46, 42, 29, 6, 96, 46, 42, 29, 7, 96, 46, 182, 0, 119, 159, 2, 59, 3, 172, 43]
abbrev dktL_law_34 : List UInt8 := dkwL_law_34 ++ dktL_law_35
def dkwL_law_33 : List UInt8 := [42, 29, 5, 96, 46, 42, 29, 6, 96, 46, 42, 29, 7, 96, 46, 182, 0, 115, 44, 42, 29, 4, 96, 46]
abbrev dktL_law_33 : List UInt8 := dkwL_law_33 ++ dktL_law_34
def dkwL_law_32 : List UInt8 := [29, 5, 96, 46, 42, 29, 6, 96, 46, 182, 0, 114, 148, 153, 2, 112, 3, 172, 43, 42, 29, 4, 96, 46]
abbrev dktL_law_32 : List UInt8 := dkwL_law_32 ++ dktL_law_33
def dkwL_law_31 : List UInt8 := [29, 4, 96, 46, 42, 29, 5, 96, 46, 42, 29, 6, 96, 46, 182, 0, 110, 44, 42, 29, 4, 96, 46, 42]
abbrev dktL_law_31 : List UInt8 := dkwL_law_31 ++ dktL_law_32
def dkwL_law_30 : List UInt8 := [182, 0, 106, 44, 42, 29, 4, 96, 46, 42, 29, 5, 96, 46, 182, 0, 109, 159, 2, 156, 3, 172, 43, 42]
abbrev dktL_law_30 : List UInt8 := dkwL_law_30 ++ dktL_law_31
def dkwL_law_29 : List UInt8 := [4, 96, 46, 182, 0, 105, 159, 2, 189, 3, 172, 43, 42, 29, 4, 96, 46, 42, 29, 5, 96, 46]
abbrev dktL_law_29 : List UInt8 := dkwL_law_29 ++ dktL_law_30
def dkwL_law_28 : List UInt8 := [182, 0, 98, 44, 182, 0, 101, 159, 2, 212, 3, 172, 43, 42, 29, 4, 96, 46, 182, 0, 102, 44, 42, 29]
abbrev dktL_law_28 : List UInt8 := dkwL_law_28 ++ dktL_law_29
def dkwL_law_27 : List UInt8 := [182, 0, 94, 44, 42, 29, 4, 96, 46, 42, 29, 5, 96, 46, 182, 0, 97, 159, 2, 225, 3, 172, 43]
abbrev dktL_law_27 : List UInt8 := dkwL_law_27 ++ dktL_law_28
def dkwL_law_26 : List UInt8 := [5, 96, 46, 182, 0, 93, 159, 3, 2, 3, 172, 43, 42, 29, 4, 96, 46, 42, 29, 5, 96, 46]
abbrev dktL_law_26 : List UInt8 := dkwL_law_26 ++ dktL_law_27
def dkwL_law_25 : List UInt8 := [3, 172, 43, 42, 29, 4, 96, 46, 42, 29, 5, 96, 46, 182, 0, 90, 44, 42, 29, 4, 96, 46, 42, 29]
abbrev dktL_law_25 : List UInt8 := dkwL_law_25 ++ dktL_law_26
def dkwL_law_24 : List UInt8 := [42, 29, 4, 96, 46, 182, 0, 84, 159, 3, 48, 3, 172, 43, 182, 0, 85, 44, 182, 0, 89, 159, 3, 35]
abbrev dktL_law_24 : List UInt8 := dkwL_law_24 ++ dktL_law_25
def dkwL_law_23 : List UInt8 := [46, 42, 29, 6, 96, 46, 182, 0, 80, 159, 3, 71, 3, 172, 43, 42, 29, 4, 96, 46, 182, 0, 81, 44]
abbrev dktL_law_23 : List UInt8 := dkwL_law_23 ++ dktL_law_24
def dkwL_law_22 : List UInt8 := [46, 42, 29, 5, 96, 46, 42, 29, 6, 96, 46, 182, 0, 76, 44, 42, 29, 4, 96, 46, 42, 29, 5, 96]
abbrev dktL_law_22 : List UInt8 := dkwL_law_22 ++ dktL_law_23
def dkwL_law_21 : List UInt8 := [44, 42, 29, 4, 96, 46, 42, 29, 5, 96, 46, 182, 0, 75, 159, 3, 114, 3, 172, 43, 42, 29, 4, 96]
abbrev dktL_law_21 : List UInt8 := dkwL_law_21 ++ dktL_law_22
def dkwL_law_20 : List UInt8 := [96, 46, 182, 0, 71, 159, 3, 147, 3, 172, 43, 42, 29, 4, 96, 46, 42, 29, 5, 96, 46, 182, 0, 72]
abbrev dktL_law_20 : List UInt8 := dkwL_law_20 ++ dktL_law_21
def dkwL_law_19 : List UInt8 := [172, 43, 42, 29, 4, 96, 46, 42, 29, 5, 96, 46, 182, 0, 68, 44, 42, 29, 4, 96, 46, 42, 29, 5]
abbrev dktL_law_19 : List UInt8 := dkwL_law_19 ++ dktL_law_20
def dkwL_law_18 : List UInt8 := [3, 172, 43, 42, 29, 4, 96, 46, 182, 0, 64, 44, 42, 29, 4, 96, 46, 182, 0, 67, 159, 3, 180, 3]
abbrev dktL_law_18 : List UInt8 := dkwL_law_18 ++ dktL_law_19
def dkwL_law_17 : List UInt8 := [29, 5, 96, 46, 182, 0, 60, 44, 42, 29, 4, 96, 46, 42, 29, 5, 96, 46, 182, 0, 63, 159, 3, 203]
abbrev dktL_law_17 : List UInt8 := dkwL_law_17 ++ dktL_law_18
def dkwL_law_16 : List UInt8 := [182, 0, 56, 44, 42, 29, 4, 96, 46, 182, 0, 59, 159, 3, 236, 3, 172, 43, 42, 29, 4, 96, 46, 42]
abbrev dktL_law_16 : List UInt8 := dkwL_law_16 ++ dktL_law_17
def dkwL_law_15 : List UInt8 := [182, 0, 52, 44, 42, 29, 4, 96, 46, 182, 0, 55, 159, 4, 3, 3, 172, 43, 42, 29, 4, 96, 46]
abbrev dktL_law_15 : List UInt8 := dkwL_law_15 ++ dktL_law_16
def dkwL_law_14 : List UInt8 := [29, 4, 96, 46, 42, 29, 5, 96, 46, 182, 0, 51, 159, 4, 26, 3, 172, 43, 42, 29, 4, 96, 46]
abbrev dktL_law_14 : List UInt8 := dkwL_law_14 ++ dktL_law_15
def dkwL_law_13 : List UInt8 := [182, 0, 47, 159, 4, 59, 3, 172, 43, 42, 29, 4, 96, 46, 42, 29, 5, 96, 46, 182, 0, 48, 44, 42]
abbrev dktL_law_13 : List UInt8 := dkwL_law_13 ++ dktL_law_14
def dkwL_law_12 : List UInt8 := [182, 0, 43, 159, 4, 82, 3, 172, 43, 42, 29, 4, 96, 46, 182, 0, 44, 44, 42, 29, 4, 96, 46]
abbrev dktL_law_12 : List UInt8 := dkwL_law_12 ++ dktL_law_13
def dkwL_law_11 : List UInt8 := [182, 0, 39, 159, 4, 105, 3, 172, 43, 42, 29, 4, 96, 46, 182, 0, 40, 44, 42, 29, 4, 96, 46]
abbrev dktL_law_11 : List UInt8 := dkwL_law_11 ++ dktL_law_12
def dkwL_law_10 : List UInt8 := [4, 96, 46, 42, 29, 5, 96, 46, 182, 0, 36, 44, 42, 29, 4, 96, 46, 42, 29, 5, 96, 46]
abbrev dktL_law_10 : List UInt8 := dkwL_law_10 ++ dktL_law_11
def dkwL_law_9 : List UInt8 := [29, 4, 96, 46, 182, 0, 32, 44, 42, 29, 4, 96, 46, 182, 0, 35, 159, 4, 138, 3, 172, 43, 42, 29]
abbrev dktL_law_9 : List UInt8 := dkwL_law_9 ++ dktL_law_10
def dkwL_law_8 : List UInt8 := [182, 0, 27, 44, 42, 29, 4, 96, 46, 42, 29, 5, 96, 46, 182, 0, 31, 159, 4, 161, 3, 172, 43, 42]
abbrev dktL_law_8 : List UInt8 := dkwL_law_8 ++ dktL_law_9
def dkwL_law_7 : List UInt8 := [42, 29, 4, 96, 46, 182, 0, 26, 159, 4, 194, 3, 172, 43, 42, 29, 4, 96, 46, 42, 29, 5, 96, 46]
abbrev dktL_law_7 : List UInt8 := dkwL_law_7 ++ dktL_law_8
def dkwL_law_6 : List UInt8 := [44, 42, 29, 4, 96, 46, 182, 0, 22, 159, 4, 217, 3, 172, 43, 42, 29, 4, 96, 46, 182, 0, 23, 44]
abbrev dktL_law_6 : List UInt8 := dkwL_law_6 ++ dktL_law_7
def dkwL_law_5 : List UInt8 := [96, 46, 42, 29, 8, 96, 46, 182, 0, 17, 159, 4, 240, 3, 172, 43, 42, 29, 4, 96, 46, 182, 0, 18]
abbrev dktL_law_5 : List UInt8 := dkwL_law_5 ++ dktL_law_6
def dkwL_law_4 : List UInt8 := [96, 46, 182, 0, 13, 44, 42, 29, 4, 96, 46, 42, 29, 5, 96, 46, 42, 29, 6, 96, 46, 42, 29, 7]
abbrev dktL_law_4 : List UInt8 := dkwL_law_4 ++ dktL_law_5
def dkwL_law_3 : List UInt8 := [43, 42, 29, 4, 96, 46, 42, 29, 5, 96, 46, 42, 29, 6, 96, 46, 42, 29, 7, 96, 46, 42, 29, 8]
abbrev dktL_law_3 : List UInt8 := dkwL_law_3 ++ dktL_law_4
def dkwL_law_2 : List UInt8 := [170, 0, 0, 0, 0, 5, 217, 0, 0, 0, 0, 0, 0, 0, 39, 0, 0, 0, 175, 0, 0, 0, 238, 0, 0, 1, 5, 0, 0, 1, 28, 0, 0, 1, 61, 0, 0, 1, 84, 0, 0, 1, 117, 0, 0, 1, 140, 0, 0, 1, 163, 0, 0, 1, 196, 0, 0, 1, 219, 0, 0, 1, 242, 0, 0, 2, 19, 0, 0, 2, 42, 0, 0, 2, 75, 0, 0, 2, 108, 0, 0, 2, 151, 0, 0, 2, 174, 0, 0, 2, 187, 0, 0, 2, 220, 0, 0, 2, 253, 0, 0, 3, 10, 0, 0, 3, 33, 0, 0, 3, 66, 0, 0, 3, 110, 0, 0, 3, 163, 0, 0, 3, 206, 0, 0, 4, 3, 0, 0, 4, 46, 0, 0, 4, 79, 0, 0, 4, 112, 0, 0, 4, 145, 0, 0, 4, 168, 0, 0, 4, 211, 0, 0, 4, 244, 0, 0, 5, 31, 0, 0, 5, 105, 0, 0, 5, 148, 0, 0, 5, 171, 0, 0, 5, 194]
abbrev dktL_law_2 : List UInt8 := dkwL_law_2 ++ dktL_law_3
def dkwL_law_1 : List UInt8 := [163, 5, 232, 42, 29, 46, 16, 63, 126]
abbrev dktL_law_1 : List UInt8 := dkwL_law_1 ++ dktL_law_2
def dkwL_law_0 : List UInt8 := [187, 0, 7, 89, 183, 0, 9, 76, 187, 0, 10, 89, 183, 0, 12, 77, 3, 62, 29, 42, 190, 16, 6, 100]
abbrev dktL_law_0 : List UInt8 := dkwL_law_0 ++ dktL_law_1
theorem dksL_law_0 : cL_law.data.toList.drop 0 = dktL_law_0 := by decide +kernel
theorem dksL_law_1 : cL_law.data.toList.drop 24 = dktL_law_1 := dk_seg dksL_law_0 24 rfl rfl
theorem dksL_law_2 : cL_law.data.toList.drop 33 = dktL_law_2 := dk_seg dksL_law_1 9 rfl rfl
theorem dksL_law_3 : cL_law.data.toList.drop 208 = dktL_law_3 := dk_seg dksL_law_2 175 rfl rfl
theorem dksL_law_4 : cL_law.data.toList.drop 232 = dktL_law_4 := dk_seg dksL_law_3 24 rfl rfl
theorem dksL_law_5 : cL_law.data.toList.drop 256 = dktL_law_5 := dk_seg dksL_law_4 24 rfl rfl
theorem dksL_law_6 : cL_law.data.toList.drop 280 = dktL_law_6 := dk_seg dksL_law_5 24 rfl rfl
theorem dksL_law_7 : cL_law.data.toList.drop 304 = dktL_law_7 := dk_seg dksL_law_6 24 rfl rfl
theorem dksL_law_8 : cL_law.data.toList.drop 328 = dktL_law_8 := dk_seg dksL_law_7 24 rfl rfl
theorem dksL_law_9 : cL_law.data.toList.drop 352 = dktL_law_9 := dk_seg dksL_law_8 24 rfl rfl
theorem dksL_law_10 : cL_law.data.toList.drop 376 = dktL_law_10 := dk_seg dksL_law_9 24 rfl rfl
theorem dksL_law_11 : cL_law.data.toList.drop 398 = dktL_law_11 := dk_seg dksL_law_10 22 rfl rfl
theorem dksL_law_12 : cL_law.data.toList.drop 421 = dktL_law_12 := dk_seg dksL_law_11 23 rfl rfl
theorem dksL_law_13 : cL_law.data.toList.drop 444 = dktL_law_13 := dk_seg dksL_law_12 23 rfl rfl
theorem dksL_law_14 : cL_law.data.toList.drop 468 = dktL_law_14 := dk_seg dksL_law_13 24 rfl rfl
theorem dksL_law_15 : cL_law.data.toList.drop 491 = dktL_law_15 := dk_seg dksL_law_14 23 rfl rfl
theorem dksL_law_16 : cL_law.data.toList.drop 514 = dktL_law_16 := dk_seg dksL_law_15 23 rfl rfl
theorem dksL_law_17 : cL_law.data.toList.drop 538 = dktL_law_17 := dk_seg dksL_law_16 24 rfl rfl
theorem dksL_law_18 : cL_law.data.toList.drop 562 = dktL_law_18 := dk_seg dksL_law_17 24 rfl rfl
theorem dksL_law_19 : cL_law.data.toList.drop 586 = dktL_law_19 := dk_seg dksL_law_18 24 rfl rfl
theorem dksL_law_20 : cL_law.data.toList.drop 610 = dktL_law_20 := dk_seg dksL_law_19 24 rfl rfl
theorem dksL_law_21 : cL_law.data.toList.drop 634 = dktL_law_21 := dk_seg dksL_law_20 24 rfl rfl
theorem dksL_law_22 : cL_law.data.toList.drop 658 = dktL_law_22 := dk_seg dksL_law_21 24 rfl rfl
theorem dksL_law_23 : cL_law.data.toList.drop 682 = dktL_law_23 := dk_seg dksL_law_22 24 rfl rfl
theorem dksL_law_24 : cL_law.data.toList.drop 706 = dktL_law_24 := dk_seg dksL_law_23 24 rfl rfl
theorem dksL_law_25 : cL_law.data.toList.drop 730 = dktL_law_25 := dk_seg dksL_law_24 24 rfl rfl
theorem dksL_law_26 : cL_law.data.toList.drop 754 = dktL_law_26 := dk_seg dksL_law_25 24 rfl rfl
theorem dksL_law_27 : cL_law.data.toList.drop 776 = dktL_law_27 := dk_seg dksL_law_26 22 rfl rfl
theorem dksL_law_28 : cL_law.data.toList.drop 799 = dktL_law_28 := dk_seg dksL_law_27 23 rfl rfl
theorem dksL_law_29 : cL_law.data.toList.drop 823 = dktL_law_29 := dk_seg dksL_law_28 24 rfl rfl
theorem dksL_law_30 : cL_law.data.toList.drop 845 = dktL_law_30 := dk_seg dksL_law_29 22 rfl rfl
theorem dksL_law_31 : cL_law.data.toList.drop 869 = dktL_law_31 := dk_seg dksL_law_30 24 rfl rfl
theorem dksL_law_32 : cL_law.data.toList.drop 893 = dktL_law_32 := dk_seg dksL_law_31 24 rfl rfl
theorem dksL_law_33 : cL_law.data.toList.drop 917 = dktL_law_33 := dk_seg dksL_law_32 24 rfl rfl
theorem dksL_law_34 : cL_law.data.toList.drop 941 = dktL_law_34 := dk_seg dksL_law_33 24 rfl rfl
theorem dksL_law_35 : cL_law.data.toList.drop 965 = dktL_law_35 := dk_seg dksL_law_34 24 rfl rfl
theorem dksL_law_36 : cL_law.data.toList.drop 989 = dktL_law_36 := dk_seg dksL_law_35 24 rfl rfl
theorem dksL_law_37 : cL_law.data.toList.drop 1013 = dktL_law_37 := dk_seg dksL_law_36 24 rfl rfl
theorem dksL_law_38 : cL_law.data.toList.drop 1037 = dktL_law_38 := dk_seg dksL_law_37 24 rfl rfl
theorem dksL_law_39 : cL_law.data.toList.drop 1061 = dktL_law_39 := dk_seg dksL_law_38 24 rfl rfl
theorem dksL_law_40 : cL_law.data.toList.drop 1085 = dktL_law_40 := dk_seg dksL_law_39 24 rfl rfl
theorem dksL_law_41 : cL_law.data.toList.drop 1109 = dktL_law_41 := dk_seg dksL_law_40 24 rfl rfl
theorem dksL_law_42 : cL_law.data.toList.drop 1131 = dktL_law_42 := dk_seg dksL_law_41 22 rfl rfl
theorem dksL_law_43 : cL_law.data.toList.drop 1155 = dktL_law_43 := dk_seg dksL_law_42 24 rfl rfl
theorem dksL_law_44 : cL_law.data.toList.drop 1179 = dktL_law_44 := dk_seg dksL_law_43 24 rfl rfl
theorem dksL_law_45 : cL_law.data.toList.drop 1203 = dktL_law_45 := dk_seg dksL_law_44 24 rfl rfl
theorem dksL_law_46 : cL_law.data.toList.drop 1227 = dktL_law_46 := dk_seg dksL_law_45 24 rfl rfl
theorem dksL_law_47 : cL_law.data.toList.drop 1251 = dktL_law_47 := dk_seg dksL_law_46 24 rfl rfl
theorem dksL_law_48 : cL_law.data.toList.drop 1275 = dktL_law_48 := dk_seg dksL_law_47 24 rfl rfl
theorem dksL_law_49 : cL_law.data.toList.drop 1299 = dktL_law_49 := dk_seg dksL_law_48 24 rfl rfl
theorem dksL_law_50 : cL_law.data.toList.drop 1323 = dktL_law_50 := dk_seg dksL_law_49 24 rfl rfl
theorem dksL_law_51 : cL_law.data.toList.drop 1347 = dktL_law_51 := dk_seg dksL_law_50 24 rfl rfl
theorem dksL_law_52 : cL_law.data.toList.drop 1370 = dktL_law_52 := dk_seg dksL_law_51 23 rfl rfl
theorem dksL_law_53 : cL_law.data.toList.drop 1394 = dktL_law_53 := dk_seg dksL_law_52 24 rfl rfl
theorem dksL_law_54 : cL_law.data.toList.drop 1418 = dktL_law_54 := dk_seg dksL_law_53 24 rfl rfl
theorem dksL_law_55 : cL_law.data.toList.drop 1442 = dktL_law_55 := dk_seg dksL_law_54 24 rfl rfl
theorem dksL_law_56 : cL_law.data.toList.drop 1466 = dktL_law_56 := dk_seg dksL_law_55 24 rfl rfl
theorem dksL_law_57 : cL_law.data.toList.drop 1490 = dktL_law_57 := dk_seg dksL_law_56 24 rfl rfl
theorem dksL_law_58 : cL_law.data.toList.drop 1513 = dktL_law_58 := dk_seg dksL_law_57 23 rfl rfl
theorem dksL_law_59 : cL_law.data.toList.drop 1537 = dktL_law_59 := dk_seg dksL_law_58 24 rfl rfl
theorem dL_law_0 : decode cL_law 0 = .ok (.new 7, 3) := dk_187 0 7 (dk_at dksL_law_0 0 rfl rfl)
theorem dL_law_3 : decode cL_law 3 = .ok (.dup, 1) := dk_89 (dk_at dksL_law_0 3 rfl rfl)
theorem dL_law_4 : decode cL_law 4 = .ok (.invokespecial 9, 3) := dk_183 0 9 (dk_at dksL_law_0 4 rfl rfl)
theorem dL_law_7 : decode cL_law 7 = .ok (.astore_n 1, 1) := dk_76 (dk_at dksL_law_0 7 rfl rfl)
theorem dL_law_8 : decode cL_law 8 = .ok (.new 10, 3) := dk_187 0 10 (dk_at dksL_law_0 8 rfl rfl)
theorem dL_law_11 : decode cL_law 11 = .ok (.dup, 1) := dk_89 (dk_at dksL_law_0 11 rfl rfl)
theorem dL_law_12 : decode cL_law 12 = .ok (.invokespecial 12, 3) := dk_183 0 12 (dk_at dksL_law_0 12 rfl rfl)
theorem dL_law_15 : decode cL_law 15 = .ok (.astore_n 2, 1) := dk_77 (dk_at dksL_law_0 15 rfl rfl)
theorem dL_law_16 : decode cL_law 16 = .ok (.iconst 0, 1) := dk_3 (dk_at dksL_law_0 16 rfl rfl)
theorem dL_law_17 : decode cL_law 17 = .ok (.istore_n 3, 1) := dk_62 (dk_at dksL_law_0 17 rfl rfl)
theorem dL_law_18 : decode cL_law 18 = .ok (.iload_n 3, 1) := dk_29 (dk_at dksL_law_0 18 rfl rfl)
theorem dL_law_19 : decode cL_law 19 = .ok (.aload_n 0, 1) := dk_42 (dk_at dksL_law_0 19 rfl rfl)
theorem dL_law_20 : decode cL_law 20 = .ok (.arraylength, 1) := dk_190 (dk_at dksL_law_0 20 rfl rfl)
theorem dL_law_21 : decode cL_law 21 = .ok (.bipush 6, 2) := dk_16 6 (dk_at dksL_law_0 21 rfl rfl)
theorem dL_law_23 : decode cL_law 23 = .ok (.isub, 1) := dk_100 (dk_at dksL_law_0 23 rfl rfl)
theorem dL_law_24 : decode cL_law 24 = .ok (.if_icmp .gt 1512, 3) := dk_163 5 232 (dk_at dksL_law_1 0 rfl rfl)
theorem dL_law_27 : decode cL_law 27 = .ok (.aload_n 0, 1) := dk_42 (dk_at dksL_law_1 3 rfl rfl)
theorem dL_law_28 : decode cL_law 28 = .ok (.iload_n 3, 1) := dk_29 (dk_at dksL_law_1 4 rfl rfl)
theorem dL_law_29 : decode cL_law 29 = .ok (.iaload, 1) := dk_46 (dk_at dksL_law_1 5 rfl rfl)
theorem dL_law_30 : decode cL_law 30 = .ok (.bipush 63, 2) := dk_16 63 (dk_at dksL_law_1 6 rfl rfl)
theorem dL_law_32 : decode cL_law 32 = .ok (.iand, 1) := dk_126 (dk_at dksL_law_1 8 rfl rfl)
theorem dL_law_33 : decode cL_law 33 = .ok (.tableswitch 1497 0 39 #[175, 238, 261, 284, 317, 340, 373, 396, 419, 452, 475, 498, 531, 554, 587, 620, 663, 686, 699, 732, 765, 778, 801, 834, 878, 931, 974, 1027, 1070, 1103, 1136, 1169, 1192, 1235, 1268, 1311, 1385, 1428, 1451, 1474], 175) := by decide +kernel
theorem dL_law_208 : decode cL_law 208 = .ok (.aload_n 1, 1) := dk_43 (dk_at dksL_law_3 0 rfl rfl)
theorem dL_law_209 : decode cL_law 209 = .ok (.aload_n 0, 1) := dk_42 (dk_at dksL_law_3 1 rfl rfl)
theorem dL_law_210 : decode cL_law 210 = .ok (.iload_n 3, 1) := dk_29 (dk_at dksL_law_3 2 rfl rfl)
theorem dL_law_211 : decode cL_law 211 = .ok (.iconst 1, 1) := dk_4 (dk_at dksL_law_3 3 rfl rfl)
theorem dL_law_212 : decode cL_law 212 = .ok (.iadd, 1) := dk_96 (dk_at dksL_law_3 4 rfl rfl)
theorem dL_law_213 : decode cL_law 213 = .ok (.iaload, 1) := dk_46 (dk_at dksL_law_3 5 rfl rfl)
theorem dL_law_214 : decode cL_law 214 = .ok (.aload_n 0, 1) := dk_42 (dk_at dksL_law_3 6 rfl rfl)
theorem dL_law_215 : decode cL_law 215 = .ok (.iload_n 3, 1) := dk_29 (dk_at dksL_law_3 7 rfl rfl)
theorem dL_law_216 : decode cL_law 216 = .ok (.iconst 2, 1) := dk_5 (dk_at dksL_law_3 8 rfl rfl)
theorem dL_law_217 : decode cL_law 217 = .ok (.iadd, 1) := dk_96 (dk_at dksL_law_3 9 rfl rfl)
theorem dL_law_218 : decode cL_law 218 = .ok (.iaload, 1) := dk_46 (dk_at dksL_law_3 10 rfl rfl)
theorem dL_law_219 : decode cL_law 219 = .ok (.aload_n 0, 1) := dk_42 (dk_at dksL_law_3 11 rfl rfl)
theorem dL_law_220 : decode cL_law 220 = .ok (.iload_n 3, 1) := dk_29 (dk_at dksL_law_3 12 rfl rfl)
theorem dL_law_221 : decode cL_law 221 = .ok (.iconst 3, 1) := dk_6 (dk_at dksL_law_3 13 rfl rfl)
theorem dL_law_222 : decode cL_law 222 = .ok (.iadd, 1) := dk_96 (dk_at dksL_law_3 14 rfl rfl)
theorem dL_law_223 : decode cL_law 223 = .ok (.iaload, 1) := dk_46 (dk_at dksL_law_3 15 rfl rfl)
theorem dL_law_224 : decode cL_law 224 = .ok (.aload_n 0, 1) := dk_42 (dk_at dksL_law_3 16 rfl rfl)
theorem dL_law_225 : decode cL_law 225 = .ok (.iload_n 3, 1) := dk_29 (dk_at dksL_law_3 17 rfl rfl)
theorem dL_law_226 : decode cL_law 226 = .ok (.iconst 4, 1) := dk_7 (dk_at dksL_law_3 18 rfl rfl)
theorem dL_law_227 : decode cL_law 227 = .ok (.iadd, 1) := dk_96 (dk_at dksL_law_3 19 rfl rfl)
theorem dL_law_228 : decode cL_law 228 = .ok (.iaload, 1) := dk_46 (dk_at dksL_law_3 20 rfl rfl)
theorem dL_law_229 : decode cL_law 229 = .ok (.aload_n 0, 1) := dk_42 (dk_at dksL_law_3 21 rfl rfl)
theorem dL_law_230 : decode cL_law 230 = .ok (.iload_n 3, 1) := dk_29 (dk_at dksL_law_3 22 rfl rfl)
theorem dL_law_231 : decode cL_law 231 = .ok (.iconst 5, 1) := dk_8 (dk_at dksL_law_3 23 rfl rfl)
theorem dL_law_232 : decode cL_law 232 = .ok (.iadd, 1) := dk_96 (dk_at dksL_law_4 0 rfl rfl)
theorem dL_law_233 : decode cL_law 233 = .ok (.iaload, 1) := dk_46 (dk_at dksL_law_4 1 rfl rfl)
theorem dL_law_234 : decode cL_law 234 = .ok (.invokevirtual 13, 3) := dk_182 0 13 (dk_at dksL_law_4 2 rfl rfl)
theorem dL_law_237 : decode cL_law 237 = .ok (.aload_n 2, 1) := dk_44 (dk_at dksL_law_4 5 rfl rfl)
theorem dL_law_238 : decode cL_law 238 = .ok (.aload_n 0, 1) := dk_42 (dk_at dksL_law_4 6 rfl rfl)
theorem dL_law_239 : decode cL_law 239 = .ok (.iload_n 3, 1) := dk_29 (dk_at dksL_law_4 7 rfl rfl)
theorem dL_law_240 : decode cL_law 240 = .ok (.iconst 1, 1) := dk_4 (dk_at dksL_law_4 8 rfl rfl)
theorem dL_law_241 : decode cL_law 241 = .ok (.iadd, 1) := dk_96 (dk_at dksL_law_4 9 rfl rfl)
theorem dL_law_242 : decode cL_law 242 = .ok (.iaload, 1) := dk_46 (dk_at dksL_law_4 10 rfl rfl)
theorem dL_law_243 : decode cL_law 243 = .ok (.aload_n 0, 1) := dk_42 (dk_at dksL_law_4 11 rfl rfl)
theorem dL_law_244 : decode cL_law 244 = .ok (.iload_n 3, 1) := dk_29 (dk_at dksL_law_4 12 rfl rfl)
theorem dL_law_245 : decode cL_law 245 = .ok (.iconst 2, 1) := dk_5 (dk_at dksL_law_4 13 rfl rfl)
theorem dL_law_246 : decode cL_law 246 = .ok (.iadd, 1) := dk_96 (dk_at dksL_law_4 14 rfl rfl)
theorem dL_law_247 : decode cL_law 247 = .ok (.iaload, 1) := dk_46 (dk_at dksL_law_4 15 rfl rfl)
theorem dL_law_248 : decode cL_law 248 = .ok (.aload_n 0, 1) := dk_42 (dk_at dksL_law_4 16 rfl rfl)
theorem dL_law_249 : decode cL_law 249 = .ok (.iload_n 3, 1) := dk_29 (dk_at dksL_law_4 17 rfl rfl)
theorem dL_law_250 : decode cL_law 250 = .ok (.iconst 3, 1) := dk_6 (dk_at dksL_law_4 18 rfl rfl)
theorem dL_law_251 : decode cL_law 251 = .ok (.iadd, 1) := dk_96 (dk_at dksL_law_4 19 rfl rfl)
theorem dL_law_252 : decode cL_law 252 = .ok (.iaload, 1) := dk_46 (dk_at dksL_law_4 20 rfl rfl)
theorem dL_law_253 : decode cL_law 253 = .ok (.aload_n 0, 1) := dk_42 (dk_at dksL_law_4 21 rfl rfl)
theorem dL_law_254 : decode cL_law 254 = .ok (.iload_n 3, 1) := dk_29 (dk_at dksL_law_4 22 rfl rfl)
theorem dL_law_255 : decode cL_law 255 = .ok (.iconst 4, 1) := dk_7 (dk_at dksL_law_4 23 rfl rfl)
theorem dL_law_256 : decode cL_law 256 = .ok (.iadd, 1) := dk_96 (dk_at dksL_law_5 0 rfl rfl)
theorem dL_law_257 : decode cL_law 257 = .ok (.iaload, 1) := dk_46 (dk_at dksL_law_5 1 rfl rfl)
theorem dL_law_258 : decode cL_law 258 = .ok (.aload_n 0, 1) := dk_42 (dk_at dksL_law_5 2 rfl rfl)
theorem dL_law_259 : decode cL_law 259 = .ok (.iload_n 3, 1) := dk_29 (dk_at dksL_law_5 3 rfl rfl)
theorem dL_law_260 : decode cL_law 260 = .ok (.iconst 5, 1) := dk_8 (dk_at dksL_law_5 4 rfl rfl)
theorem dL_law_261 : decode cL_law 261 = .ok (.iadd, 1) := dk_96 (dk_at dksL_law_5 5 rfl rfl)
theorem dL_law_262 : decode cL_law 262 = .ok (.iaload, 1) := dk_46 (dk_at dksL_law_5 6 rfl rfl)
theorem dL_law_263 : decode cL_law 263 = .ok (.invokevirtual 17, 3) := dk_182 0 17 (dk_at dksL_law_5 7 rfl rfl)
theorem dL_law_266 : decode cL_law 266 = .ok (.if_icmp .eq 1264, 3) := dk_159 4 240 (dk_at dksL_law_5 10 rfl rfl)
theorem dL_law_269 : decode cL_law 269 = .ok (.iconst 0, 1) := dk_3 (dk_at dksL_law_5 13 rfl rfl)
theorem dL_law_270 : decode cL_law 270 = .ok (.ireturn, 1) := dk_172 (dk_at dksL_law_5 14 rfl rfl)
theorem dL_law_271 : decode cL_law 271 = .ok (.aload_n 1, 1) := dk_43 (dk_at dksL_law_5 15 rfl rfl)
theorem dL_law_272 : decode cL_law 272 = .ok (.aload_n 0, 1) := dk_42 (dk_at dksL_law_5 16 rfl rfl)
theorem dL_law_273 : decode cL_law 273 = .ok (.iload_n 3, 1) := dk_29 (dk_at dksL_law_5 17 rfl rfl)
theorem dL_law_274 : decode cL_law 274 = .ok (.iconst 1, 1) := dk_4 (dk_at dksL_law_5 18 rfl rfl)
theorem dL_law_275 : decode cL_law 275 = .ok (.iadd, 1) := dk_96 (dk_at dksL_law_5 19 rfl rfl)
theorem dL_law_276 : decode cL_law 276 = .ok (.iaload, 1) := dk_46 (dk_at dksL_law_5 20 rfl rfl)
theorem dL_law_277 : decode cL_law 277 = .ok (.invokevirtual 18, 3) := dk_182 0 18 (dk_at dksL_law_5 21 rfl rfl)
theorem dL_law_280 : decode cL_law 280 = .ok (.aload_n 2, 1) := dk_44 (dk_at dksL_law_6 0 rfl rfl)
theorem dL_law_281 : decode cL_law 281 = .ok (.aload_n 0, 1) := dk_42 (dk_at dksL_law_6 1 rfl rfl)
theorem dL_law_282 : decode cL_law 282 = .ok (.iload_n 3, 1) := dk_29 (dk_at dksL_law_6 2 rfl rfl)
theorem dL_law_283 : decode cL_law 283 = .ok (.iconst 1, 1) := dk_4 (dk_at dksL_law_6 3 rfl rfl)
theorem dL_law_284 : decode cL_law 284 = .ok (.iadd, 1) := dk_96 (dk_at dksL_law_6 4 rfl rfl)
theorem dL_law_285 : decode cL_law 285 = .ok (.iaload, 1) := dk_46 (dk_at dksL_law_6 5 rfl rfl)
theorem dL_law_286 : decode cL_law 286 = .ok (.invokevirtual 22, 3) := dk_182 0 22 (dk_at dksL_law_6 6 rfl rfl)
theorem dL_law_289 : decode cL_law 289 = .ok (.if_icmp .eq 1241, 3) := dk_159 4 217 (dk_at dksL_law_6 9 rfl rfl)
theorem dL_law_292 : decode cL_law 292 = .ok (.iconst 0, 1) := dk_3 (dk_at dksL_law_6 12 rfl rfl)
theorem dL_law_293 : decode cL_law 293 = .ok (.ireturn, 1) := dk_172 (dk_at dksL_law_6 13 rfl rfl)
theorem dL_law_294 : decode cL_law 294 = .ok (.aload_n 1, 1) := dk_43 (dk_at dksL_law_6 14 rfl rfl)
theorem dL_law_295 : decode cL_law 295 = .ok (.aload_n 0, 1) := dk_42 (dk_at dksL_law_6 15 rfl rfl)
theorem dL_law_296 : decode cL_law 296 = .ok (.iload_n 3, 1) := dk_29 (dk_at dksL_law_6 16 rfl rfl)
theorem dL_law_297 : decode cL_law 297 = .ok (.iconst 1, 1) := dk_4 (dk_at dksL_law_6 17 rfl rfl)
theorem dL_law_298 : decode cL_law 298 = .ok (.iadd, 1) := dk_96 (dk_at dksL_law_6 18 rfl rfl)
theorem dL_law_299 : decode cL_law 299 = .ok (.iaload, 1) := dk_46 (dk_at dksL_law_6 19 rfl rfl)
theorem dL_law_300 : decode cL_law 300 = .ok (.invokevirtual 23, 3) := dk_182 0 23 (dk_at dksL_law_6 20 rfl rfl)
theorem dL_law_303 : decode cL_law 303 = .ok (.aload_n 2, 1) := dk_44 (dk_at dksL_law_6 23 rfl rfl)
theorem dL_law_304 : decode cL_law 304 = .ok (.aload_n 0, 1) := dk_42 (dk_at dksL_law_7 0 rfl rfl)
theorem dL_law_305 : decode cL_law 305 = .ok (.iload_n 3, 1) := dk_29 (dk_at dksL_law_7 1 rfl rfl)
theorem dL_law_306 : decode cL_law 306 = .ok (.iconst 1, 1) := dk_4 (dk_at dksL_law_7 2 rfl rfl)
theorem dL_law_307 : decode cL_law 307 = .ok (.iadd, 1) := dk_96 (dk_at dksL_law_7 3 rfl rfl)
theorem dL_law_308 : decode cL_law 308 = .ok (.iaload, 1) := dk_46 (dk_at dksL_law_7 4 rfl rfl)
theorem dL_law_309 : decode cL_law 309 = .ok (.invokevirtual 26, 3) := dk_182 0 26 (dk_at dksL_law_7 5 rfl rfl)
theorem dL_law_312 : decode cL_law 312 = .ok (.if_icmp .eq 1218, 3) := dk_159 4 194 (dk_at dksL_law_7 8 rfl rfl)
theorem dL_law_315 : decode cL_law 315 = .ok (.iconst 0, 1) := dk_3 (dk_at dksL_law_7 11 rfl rfl)
theorem dL_law_316 : decode cL_law 316 = .ok (.ireturn, 1) := dk_172 (dk_at dksL_law_7 12 rfl rfl)
theorem dL_law_317 : decode cL_law 317 = .ok (.aload_n 1, 1) := dk_43 (dk_at dksL_law_7 13 rfl rfl)
theorem dL_law_318 : decode cL_law 318 = .ok (.aload_n 0, 1) := dk_42 (dk_at dksL_law_7 14 rfl rfl)
theorem dL_law_319 : decode cL_law 319 = .ok (.iload_n 3, 1) := dk_29 (dk_at dksL_law_7 15 rfl rfl)
theorem dL_law_320 : decode cL_law 320 = .ok (.iconst 1, 1) := dk_4 (dk_at dksL_law_7 16 rfl rfl)
theorem dL_law_321 : decode cL_law 321 = .ok (.iadd, 1) := dk_96 (dk_at dksL_law_7 17 rfl rfl)
theorem dL_law_322 : decode cL_law 322 = .ok (.iaload, 1) := dk_46 (dk_at dksL_law_7 18 rfl rfl)
theorem dL_law_323 : decode cL_law 323 = .ok (.aload_n 0, 1) := dk_42 (dk_at dksL_law_7 19 rfl rfl)
theorem dL_law_324 : decode cL_law 324 = .ok (.iload_n 3, 1) := dk_29 (dk_at dksL_law_7 20 rfl rfl)
theorem dL_law_325 : decode cL_law 325 = .ok (.iconst 2, 1) := dk_5 (dk_at dksL_law_7 21 rfl rfl)
theorem dL_law_326 : decode cL_law 326 = .ok (.iadd, 1) := dk_96 (dk_at dksL_law_7 22 rfl rfl)
theorem dL_law_327 : decode cL_law 327 = .ok (.iaload, 1) := dk_46 (dk_at dksL_law_7 23 rfl rfl)
theorem dL_law_328 : decode cL_law 328 = .ok (.invokevirtual 27, 3) := dk_182 0 27 (dk_at dksL_law_8 0 rfl rfl)
theorem dL_law_331 : decode cL_law 331 = .ok (.aload_n 2, 1) := dk_44 (dk_at dksL_law_8 3 rfl rfl)
theorem dL_law_332 : decode cL_law 332 = .ok (.aload_n 0, 1) := dk_42 (dk_at dksL_law_8 4 rfl rfl)
theorem dL_law_333 : decode cL_law 333 = .ok (.iload_n 3, 1) := dk_29 (dk_at dksL_law_8 5 rfl rfl)
theorem dL_law_334 : decode cL_law 334 = .ok (.iconst 1, 1) := dk_4 (dk_at dksL_law_8 6 rfl rfl)
theorem dL_law_335 : decode cL_law 335 = .ok (.iadd, 1) := dk_96 (dk_at dksL_law_8 7 rfl rfl)
theorem dL_law_336 : decode cL_law 336 = .ok (.iaload, 1) := dk_46 (dk_at dksL_law_8 8 rfl rfl)
theorem dL_law_337 : decode cL_law 337 = .ok (.aload_n 0, 1) := dk_42 (dk_at dksL_law_8 9 rfl rfl)
theorem dL_law_338 : decode cL_law 338 = .ok (.iload_n 3, 1) := dk_29 (dk_at dksL_law_8 10 rfl rfl)
theorem dL_law_339 : decode cL_law 339 = .ok (.iconst 2, 1) := dk_5 (dk_at dksL_law_8 11 rfl rfl)
theorem dL_law_340 : decode cL_law 340 = .ok (.iadd, 1) := dk_96 (dk_at dksL_law_8 12 rfl rfl)
theorem dL_law_341 : decode cL_law 341 = .ok (.iaload, 1) := dk_46 (dk_at dksL_law_8 13 rfl rfl)
theorem dL_law_342 : decode cL_law 342 = .ok (.invokevirtual 31, 3) := dk_182 0 31 (dk_at dksL_law_8 14 rfl rfl)
theorem dL_law_345 : decode cL_law 345 = .ok (.if_icmp .eq 1185, 3) := dk_159 4 161 (dk_at dksL_law_8 17 rfl rfl)
theorem dL_law_348 : decode cL_law 348 = .ok (.iconst 0, 1) := dk_3 (dk_at dksL_law_8 20 rfl rfl)
theorem dL_law_349 : decode cL_law 349 = .ok (.ireturn, 1) := dk_172 (dk_at dksL_law_8 21 rfl rfl)
theorem dL_law_350 : decode cL_law 350 = .ok (.aload_n 1, 1) := dk_43 (dk_at dksL_law_8 22 rfl rfl)
theorem dL_law_351 : decode cL_law 351 = .ok (.aload_n 0, 1) := dk_42 (dk_at dksL_law_8 23 rfl rfl)
theorem dL_law_352 : decode cL_law 352 = .ok (.iload_n 3, 1) := dk_29 (dk_at dksL_law_9 0 rfl rfl)
theorem dL_law_353 : decode cL_law 353 = .ok (.iconst 1, 1) := dk_4 (dk_at dksL_law_9 1 rfl rfl)
theorem dL_law_354 : decode cL_law 354 = .ok (.iadd, 1) := dk_96 (dk_at dksL_law_9 2 rfl rfl)
theorem dL_law_355 : decode cL_law 355 = .ok (.iaload, 1) := dk_46 (dk_at dksL_law_9 3 rfl rfl)
theorem dL_law_356 : decode cL_law 356 = .ok (.invokevirtual 32, 3) := dk_182 0 32 (dk_at dksL_law_9 4 rfl rfl)
theorem dL_law_359 : decode cL_law 359 = .ok (.aload_n 2, 1) := dk_44 (dk_at dksL_law_9 7 rfl rfl)
theorem dL_law_360 : decode cL_law 360 = .ok (.aload_n 0, 1) := dk_42 (dk_at dksL_law_9 8 rfl rfl)
theorem dL_law_361 : decode cL_law 361 = .ok (.iload_n 3, 1) := dk_29 (dk_at dksL_law_9 9 rfl rfl)
theorem dL_law_362 : decode cL_law 362 = .ok (.iconst 1, 1) := dk_4 (dk_at dksL_law_9 10 rfl rfl)
theorem dL_law_363 : decode cL_law 363 = .ok (.iadd, 1) := dk_96 (dk_at dksL_law_9 11 rfl rfl)
theorem dL_law_364 : decode cL_law 364 = .ok (.iaload, 1) := dk_46 (dk_at dksL_law_9 12 rfl rfl)
theorem dL_law_365 : decode cL_law 365 = .ok (.invokevirtual 35, 3) := dk_182 0 35 (dk_at dksL_law_9 13 rfl rfl)
theorem dL_law_368 : decode cL_law 368 = .ok (.if_icmp .eq 1162, 3) := dk_159 4 138 (dk_at dksL_law_9 16 rfl rfl)
theorem dL_law_371 : decode cL_law 371 = .ok (.iconst 0, 1) := dk_3 (dk_at dksL_law_9 19 rfl rfl)
theorem dL_law_372 : decode cL_law 372 = .ok (.ireturn, 1) := dk_172 (dk_at dksL_law_9 20 rfl rfl)
theorem dL_law_373 : decode cL_law 373 = .ok (.aload_n 1, 1) := dk_43 (dk_at dksL_law_9 21 rfl rfl)
theorem dL_law_374 : decode cL_law 374 = .ok (.aload_n 0, 1) := dk_42 (dk_at dksL_law_9 22 rfl rfl)
theorem dL_law_375 : decode cL_law 375 = .ok (.iload_n 3, 1) := dk_29 (dk_at dksL_law_9 23 rfl rfl)
theorem dL_law_376 : decode cL_law 376 = .ok (.iconst 1, 1) := dk_4 (dk_at dksL_law_10 0 rfl rfl)
theorem dL_law_377 : decode cL_law 377 = .ok (.iadd, 1) := dk_96 (dk_at dksL_law_10 1 rfl rfl)
theorem dL_law_378 : decode cL_law 378 = .ok (.iaload, 1) := dk_46 (dk_at dksL_law_10 2 rfl rfl)
theorem dL_law_379 : decode cL_law 379 = .ok (.aload_n 0, 1) := dk_42 (dk_at dksL_law_10 3 rfl rfl)
theorem dL_law_380 : decode cL_law 380 = .ok (.iload_n 3, 1) := dk_29 (dk_at dksL_law_10 4 rfl rfl)
theorem dL_law_381 : decode cL_law 381 = .ok (.iconst 2, 1) := dk_5 (dk_at dksL_law_10 5 rfl rfl)
theorem dL_law_382 : decode cL_law 382 = .ok (.iadd, 1) := dk_96 (dk_at dksL_law_10 6 rfl rfl)
theorem dL_law_383 : decode cL_law 383 = .ok (.iaload, 1) := dk_46 (dk_at dksL_law_10 7 rfl rfl)
theorem dL_law_384 : decode cL_law 384 = .ok (.invokevirtual 36, 3) := dk_182 0 36 (dk_at dksL_law_10 8 rfl rfl)
theorem dL_law_387 : decode cL_law 387 = .ok (.aload_n 2, 1) := dk_44 (dk_at dksL_law_10 11 rfl rfl)
theorem dL_law_388 : decode cL_law 388 = .ok (.aload_n 0, 1) := dk_42 (dk_at dksL_law_10 12 rfl rfl)
theorem dL_law_389 : decode cL_law 389 = .ok (.iload_n 3, 1) := dk_29 (dk_at dksL_law_10 13 rfl rfl)
theorem dL_law_390 : decode cL_law 390 = .ok (.iconst 1, 1) := dk_4 (dk_at dksL_law_10 14 rfl rfl)
theorem dL_law_391 : decode cL_law 391 = .ok (.iadd, 1) := dk_96 (dk_at dksL_law_10 15 rfl rfl)
theorem dL_law_392 : decode cL_law 392 = .ok (.iaload, 1) := dk_46 (dk_at dksL_law_10 16 rfl rfl)
theorem dL_law_393 : decode cL_law 393 = .ok (.aload_n 0, 1) := dk_42 (dk_at dksL_law_10 17 rfl rfl)
theorem dL_law_394 : decode cL_law 394 = .ok (.iload_n 3, 1) := dk_29 (dk_at dksL_law_10 18 rfl rfl)
theorem dL_law_395 : decode cL_law 395 = .ok (.iconst 2, 1) := dk_5 (dk_at dksL_law_10 19 rfl rfl)
theorem dL_law_396 : decode cL_law 396 = .ok (.iadd, 1) := dk_96 (dk_at dksL_law_10 20 rfl rfl)
theorem dL_law_397 : decode cL_law 397 = .ok (.iaload, 1) := dk_46 (dk_at dksL_law_10 21 rfl rfl)
theorem dL_law_398 : decode cL_law 398 = .ok (.invokevirtual 39, 3) := dk_182 0 39 (dk_at dksL_law_11 0 rfl rfl)
theorem dL_law_401 : decode cL_law 401 = .ok (.if_icmp .eq 1129, 3) := dk_159 4 105 (dk_at dksL_law_11 3 rfl rfl)
theorem dL_law_404 : decode cL_law 404 = .ok (.iconst 0, 1) := dk_3 (dk_at dksL_law_11 6 rfl rfl)
theorem dL_law_405 : decode cL_law 405 = .ok (.ireturn, 1) := dk_172 (dk_at dksL_law_11 7 rfl rfl)
theorem dL_law_406 : decode cL_law 406 = .ok (.aload_n 1, 1) := dk_43 (dk_at dksL_law_11 8 rfl rfl)
theorem dL_law_407 : decode cL_law 407 = .ok (.aload_n 0, 1) := dk_42 (dk_at dksL_law_11 9 rfl rfl)
theorem dL_law_408 : decode cL_law 408 = .ok (.iload_n 3, 1) := dk_29 (dk_at dksL_law_11 10 rfl rfl)
theorem dL_law_409 : decode cL_law 409 = .ok (.iconst 1, 1) := dk_4 (dk_at dksL_law_11 11 rfl rfl)
theorem dL_law_410 : decode cL_law 410 = .ok (.iadd, 1) := dk_96 (dk_at dksL_law_11 12 rfl rfl)
theorem dL_law_411 : decode cL_law 411 = .ok (.iaload, 1) := dk_46 (dk_at dksL_law_11 13 rfl rfl)
theorem dL_law_412 : decode cL_law 412 = .ok (.invokevirtual 40, 3) := dk_182 0 40 (dk_at dksL_law_11 14 rfl rfl)
theorem dL_law_415 : decode cL_law 415 = .ok (.aload_n 2, 1) := dk_44 (dk_at dksL_law_11 17 rfl rfl)
theorem dL_law_416 : decode cL_law 416 = .ok (.aload_n 0, 1) := dk_42 (dk_at dksL_law_11 18 rfl rfl)
theorem dL_law_417 : decode cL_law 417 = .ok (.iload_n 3, 1) := dk_29 (dk_at dksL_law_11 19 rfl rfl)
theorem dL_law_418 : decode cL_law 418 = .ok (.iconst 1, 1) := dk_4 (dk_at dksL_law_11 20 rfl rfl)
theorem dL_law_419 : decode cL_law 419 = .ok (.iadd, 1) := dk_96 (dk_at dksL_law_11 21 rfl rfl)
theorem dL_law_420 : decode cL_law 420 = .ok (.iaload, 1) := dk_46 (dk_at dksL_law_11 22 rfl rfl)
theorem dL_law_421 : decode cL_law 421 = .ok (.invokevirtual 43, 3) := dk_182 0 43 (dk_at dksL_law_12 0 rfl rfl)
theorem dL_law_424 : decode cL_law 424 = .ok (.if_icmp .eq 1106, 3) := dk_159 4 82 (dk_at dksL_law_12 3 rfl rfl)
theorem dL_law_427 : decode cL_law 427 = .ok (.iconst 0, 1) := dk_3 (dk_at dksL_law_12 6 rfl rfl)
theorem dL_law_428 : decode cL_law 428 = .ok (.ireturn, 1) := dk_172 (dk_at dksL_law_12 7 rfl rfl)
theorem dL_law_429 : decode cL_law 429 = .ok (.aload_n 1, 1) := dk_43 (dk_at dksL_law_12 8 rfl rfl)
theorem dL_law_430 : decode cL_law 430 = .ok (.aload_n 0, 1) := dk_42 (dk_at dksL_law_12 9 rfl rfl)
theorem dL_law_431 : decode cL_law 431 = .ok (.iload_n 3, 1) := dk_29 (dk_at dksL_law_12 10 rfl rfl)
theorem dL_law_432 : decode cL_law 432 = .ok (.iconst 1, 1) := dk_4 (dk_at dksL_law_12 11 rfl rfl)
theorem dL_law_433 : decode cL_law 433 = .ok (.iadd, 1) := dk_96 (dk_at dksL_law_12 12 rfl rfl)
theorem dL_law_434 : decode cL_law 434 = .ok (.iaload, 1) := dk_46 (dk_at dksL_law_12 13 rfl rfl)
theorem dL_law_435 : decode cL_law 435 = .ok (.invokevirtual 44, 3) := dk_182 0 44 (dk_at dksL_law_12 14 rfl rfl)
theorem dL_law_438 : decode cL_law 438 = .ok (.aload_n 2, 1) := dk_44 (dk_at dksL_law_12 17 rfl rfl)
theorem dL_law_439 : decode cL_law 439 = .ok (.aload_n 0, 1) := dk_42 (dk_at dksL_law_12 18 rfl rfl)
theorem dL_law_440 : decode cL_law 440 = .ok (.iload_n 3, 1) := dk_29 (dk_at dksL_law_12 19 rfl rfl)
theorem dL_law_441 : decode cL_law 441 = .ok (.iconst 1, 1) := dk_4 (dk_at dksL_law_12 20 rfl rfl)
theorem dL_law_442 : decode cL_law 442 = .ok (.iadd, 1) := dk_96 (dk_at dksL_law_12 21 rfl rfl)
theorem dL_law_443 : decode cL_law 443 = .ok (.iaload, 1) := dk_46 (dk_at dksL_law_12 22 rfl rfl)
theorem dL_law_444 : decode cL_law 444 = .ok (.invokevirtual 47, 3) := dk_182 0 47 (dk_at dksL_law_13 0 rfl rfl)
theorem dL_law_447 : decode cL_law 447 = .ok (.if_icmp .eq 1083, 3) := dk_159 4 59 (dk_at dksL_law_13 3 rfl rfl)
theorem dL_law_450 : decode cL_law 450 = .ok (.iconst 0, 1) := dk_3 (dk_at dksL_law_13 6 rfl rfl)
theorem dL_law_451 : decode cL_law 451 = .ok (.ireturn, 1) := dk_172 (dk_at dksL_law_13 7 rfl rfl)
theorem dL_law_452 : decode cL_law 452 = .ok (.aload_n 1, 1) := dk_43 (dk_at dksL_law_13 8 rfl rfl)
theorem dL_law_453 : decode cL_law 453 = .ok (.aload_n 0, 1) := dk_42 (dk_at dksL_law_13 9 rfl rfl)
theorem dL_law_454 : decode cL_law 454 = .ok (.iload_n 3, 1) := dk_29 (dk_at dksL_law_13 10 rfl rfl)
theorem dL_law_455 : decode cL_law 455 = .ok (.iconst 1, 1) := dk_4 (dk_at dksL_law_13 11 rfl rfl)
theorem dL_law_456 : decode cL_law 456 = .ok (.iadd, 1) := dk_96 (dk_at dksL_law_13 12 rfl rfl)
theorem dL_law_457 : decode cL_law 457 = .ok (.iaload, 1) := dk_46 (dk_at dksL_law_13 13 rfl rfl)
theorem dL_law_458 : decode cL_law 458 = .ok (.aload_n 0, 1) := dk_42 (dk_at dksL_law_13 14 rfl rfl)
theorem dL_law_459 : decode cL_law 459 = .ok (.iload_n 3, 1) := dk_29 (dk_at dksL_law_13 15 rfl rfl)
theorem dL_law_460 : decode cL_law 460 = .ok (.iconst 2, 1) := dk_5 (dk_at dksL_law_13 16 rfl rfl)
theorem dL_law_461 : decode cL_law 461 = .ok (.iadd, 1) := dk_96 (dk_at dksL_law_13 17 rfl rfl)
theorem dL_law_462 : decode cL_law 462 = .ok (.iaload, 1) := dk_46 (dk_at dksL_law_13 18 rfl rfl)
theorem dL_law_463 : decode cL_law 463 = .ok (.invokevirtual 48, 3) := dk_182 0 48 (dk_at dksL_law_13 19 rfl rfl)
theorem dL_law_466 : decode cL_law 466 = .ok (.aload_n 2, 1) := dk_44 (dk_at dksL_law_13 22 rfl rfl)
theorem dL_law_467 : decode cL_law 467 = .ok (.aload_n 0, 1) := dk_42 (dk_at dksL_law_13 23 rfl rfl)
theorem dL_law_468 : decode cL_law 468 = .ok (.iload_n 3, 1) := dk_29 (dk_at dksL_law_14 0 rfl rfl)
theorem dL_law_469 : decode cL_law 469 = .ok (.iconst 1, 1) := dk_4 (dk_at dksL_law_14 1 rfl rfl)
theorem dL_law_470 : decode cL_law 470 = .ok (.iadd, 1) := dk_96 (dk_at dksL_law_14 2 rfl rfl)
theorem dL_law_471 : decode cL_law 471 = .ok (.iaload, 1) := dk_46 (dk_at dksL_law_14 3 rfl rfl)
theorem dL_law_472 : decode cL_law 472 = .ok (.aload_n 0, 1) := dk_42 (dk_at dksL_law_14 4 rfl rfl)
theorem dL_law_473 : decode cL_law 473 = .ok (.iload_n 3, 1) := dk_29 (dk_at dksL_law_14 5 rfl rfl)
theorem dL_law_474 : decode cL_law 474 = .ok (.iconst 2, 1) := dk_5 (dk_at dksL_law_14 6 rfl rfl)
theorem dL_law_475 : decode cL_law 475 = .ok (.iadd, 1) := dk_96 (dk_at dksL_law_14 7 rfl rfl)
theorem dL_law_476 : decode cL_law 476 = .ok (.iaload, 1) := dk_46 (dk_at dksL_law_14 8 rfl rfl)
theorem dL_law_477 : decode cL_law 477 = .ok (.invokevirtual 51, 3) := dk_182 0 51 (dk_at dksL_law_14 9 rfl rfl)
theorem dL_law_480 : decode cL_law 480 = .ok (.if_icmp .eq 1050, 3) := dk_159 4 26 (dk_at dksL_law_14 12 rfl rfl)
theorem dL_law_483 : decode cL_law 483 = .ok (.iconst 0, 1) := dk_3 (dk_at dksL_law_14 15 rfl rfl)
theorem dL_law_484 : decode cL_law 484 = .ok (.ireturn, 1) := dk_172 (dk_at dksL_law_14 16 rfl rfl)
theorem dL_law_485 : decode cL_law 485 = .ok (.aload_n 1, 1) := dk_43 (dk_at dksL_law_14 17 rfl rfl)
theorem dL_law_486 : decode cL_law 486 = .ok (.aload_n 0, 1) := dk_42 (dk_at dksL_law_14 18 rfl rfl)
theorem dL_law_487 : decode cL_law 487 = .ok (.iload_n 3, 1) := dk_29 (dk_at dksL_law_14 19 rfl rfl)
theorem dL_law_488 : decode cL_law 488 = .ok (.iconst 1, 1) := dk_4 (dk_at dksL_law_14 20 rfl rfl)
theorem dL_law_489 : decode cL_law 489 = .ok (.iadd, 1) := dk_96 (dk_at dksL_law_14 21 rfl rfl)
theorem dL_law_490 : decode cL_law 490 = .ok (.iaload, 1) := dk_46 (dk_at dksL_law_14 22 rfl rfl)
theorem dL_law_491 : decode cL_law 491 = .ok (.invokevirtual 52, 3) := dk_182 0 52 (dk_at dksL_law_15 0 rfl rfl)
theorem dL_law_494 : decode cL_law 494 = .ok (.aload_n 2, 1) := dk_44 (dk_at dksL_law_15 3 rfl rfl)
theorem dL_law_495 : decode cL_law 495 = .ok (.aload_n 0, 1) := dk_42 (dk_at dksL_law_15 4 rfl rfl)
theorem dL_law_496 : decode cL_law 496 = .ok (.iload_n 3, 1) := dk_29 (dk_at dksL_law_15 5 rfl rfl)
theorem dL_law_497 : decode cL_law 497 = .ok (.iconst 1, 1) := dk_4 (dk_at dksL_law_15 6 rfl rfl)
theorem dL_law_498 : decode cL_law 498 = .ok (.iadd, 1) := dk_96 (dk_at dksL_law_15 7 rfl rfl)
theorem dL_law_499 : decode cL_law 499 = .ok (.iaload, 1) := dk_46 (dk_at dksL_law_15 8 rfl rfl)
theorem dL_law_500 : decode cL_law 500 = .ok (.invokevirtual 55, 3) := dk_182 0 55 (dk_at dksL_law_15 9 rfl rfl)
theorem dL_law_503 : decode cL_law 503 = .ok (.if_icmp .eq 1027, 3) := dk_159 4 3 (dk_at dksL_law_15 12 rfl rfl)
theorem dL_law_506 : decode cL_law 506 = .ok (.iconst 0, 1) := dk_3 (dk_at dksL_law_15 15 rfl rfl)
theorem dL_law_507 : decode cL_law 507 = .ok (.ireturn, 1) := dk_172 (dk_at dksL_law_15 16 rfl rfl)
theorem dL_law_508 : decode cL_law 508 = .ok (.aload_n 1, 1) := dk_43 (dk_at dksL_law_15 17 rfl rfl)
theorem dL_law_509 : decode cL_law 509 = .ok (.aload_n 0, 1) := dk_42 (dk_at dksL_law_15 18 rfl rfl)
theorem dL_law_510 : decode cL_law 510 = .ok (.iload_n 3, 1) := dk_29 (dk_at dksL_law_15 19 rfl rfl)
theorem dL_law_511 : decode cL_law 511 = .ok (.iconst 1, 1) := dk_4 (dk_at dksL_law_15 20 rfl rfl)
theorem dL_law_512 : decode cL_law 512 = .ok (.iadd, 1) := dk_96 (dk_at dksL_law_15 21 rfl rfl)
theorem dL_law_513 : decode cL_law 513 = .ok (.iaload, 1) := dk_46 (dk_at dksL_law_15 22 rfl rfl)
theorem dL_law_514 : decode cL_law 514 = .ok (.invokevirtual 56, 3) := dk_182 0 56 (dk_at dksL_law_16 0 rfl rfl)
theorem dL_law_517 : decode cL_law 517 = .ok (.aload_n 2, 1) := dk_44 (dk_at dksL_law_16 3 rfl rfl)
theorem dL_law_518 : decode cL_law 518 = .ok (.aload_n 0, 1) := dk_42 (dk_at dksL_law_16 4 rfl rfl)
theorem dL_law_519 : decode cL_law 519 = .ok (.iload_n 3, 1) := dk_29 (dk_at dksL_law_16 5 rfl rfl)
theorem dL_law_520 : decode cL_law 520 = .ok (.iconst 1, 1) := dk_4 (dk_at dksL_law_16 6 rfl rfl)
theorem dL_law_521 : decode cL_law 521 = .ok (.iadd, 1) := dk_96 (dk_at dksL_law_16 7 rfl rfl)
theorem dL_law_522 : decode cL_law 522 = .ok (.iaload, 1) := dk_46 (dk_at dksL_law_16 8 rfl rfl)
theorem dL_law_523 : decode cL_law 523 = .ok (.invokevirtual 59, 3) := dk_182 0 59 (dk_at dksL_law_16 9 rfl rfl)
theorem dL_law_526 : decode cL_law 526 = .ok (.if_icmp .eq 1004, 3) := dk_159 3 236 (dk_at dksL_law_16 12 rfl rfl)
theorem dL_law_529 : decode cL_law 529 = .ok (.iconst 0, 1) := dk_3 (dk_at dksL_law_16 15 rfl rfl)
theorem dL_law_530 : decode cL_law 530 = .ok (.ireturn, 1) := dk_172 (dk_at dksL_law_16 16 rfl rfl)
theorem dL_law_531 : decode cL_law 531 = .ok (.aload_n 1, 1) := dk_43 (dk_at dksL_law_16 17 rfl rfl)
theorem dL_law_532 : decode cL_law 532 = .ok (.aload_n 0, 1) := dk_42 (dk_at dksL_law_16 18 rfl rfl)
theorem dL_law_533 : decode cL_law 533 = .ok (.iload_n 3, 1) := dk_29 (dk_at dksL_law_16 19 rfl rfl)
theorem dL_law_534 : decode cL_law 534 = .ok (.iconst 1, 1) := dk_4 (dk_at dksL_law_16 20 rfl rfl)
theorem dL_law_535 : decode cL_law 535 = .ok (.iadd, 1) := dk_96 (dk_at dksL_law_16 21 rfl rfl)
theorem dL_law_536 : decode cL_law 536 = .ok (.iaload, 1) := dk_46 (dk_at dksL_law_16 22 rfl rfl)
theorem dL_law_537 : decode cL_law 537 = .ok (.aload_n 0, 1) := dk_42 (dk_at dksL_law_16 23 rfl rfl)
theorem dL_law_538 : decode cL_law 538 = .ok (.iload_n 3, 1) := dk_29 (dk_at dksL_law_17 0 rfl rfl)
theorem dL_law_539 : decode cL_law 539 = .ok (.iconst 2, 1) := dk_5 (dk_at dksL_law_17 1 rfl rfl)
theorem dL_law_540 : decode cL_law 540 = .ok (.iadd, 1) := dk_96 (dk_at dksL_law_17 2 rfl rfl)
theorem dL_law_541 : decode cL_law 541 = .ok (.iaload, 1) := dk_46 (dk_at dksL_law_17 3 rfl rfl)
theorem dL_law_542 : decode cL_law 542 = .ok (.invokevirtual 60, 3) := dk_182 0 60 (dk_at dksL_law_17 4 rfl rfl)
theorem dL_law_545 : decode cL_law 545 = .ok (.aload_n 2, 1) := dk_44 (dk_at dksL_law_17 7 rfl rfl)
theorem dL_law_546 : decode cL_law 546 = .ok (.aload_n 0, 1) := dk_42 (dk_at dksL_law_17 8 rfl rfl)
theorem dL_law_547 : decode cL_law 547 = .ok (.iload_n 3, 1) := dk_29 (dk_at dksL_law_17 9 rfl rfl)
theorem dL_law_548 : decode cL_law 548 = .ok (.iconst 1, 1) := dk_4 (dk_at dksL_law_17 10 rfl rfl)
theorem dL_law_549 : decode cL_law 549 = .ok (.iadd, 1) := dk_96 (dk_at dksL_law_17 11 rfl rfl)
theorem dL_law_550 : decode cL_law 550 = .ok (.iaload, 1) := dk_46 (dk_at dksL_law_17 12 rfl rfl)
theorem dL_law_551 : decode cL_law 551 = .ok (.aload_n 0, 1) := dk_42 (dk_at dksL_law_17 13 rfl rfl)
theorem dL_law_552 : decode cL_law 552 = .ok (.iload_n 3, 1) := dk_29 (dk_at dksL_law_17 14 rfl rfl)
theorem dL_law_553 : decode cL_law 553 = .ok (.iconst 2, 1) := dk_5 (dk_at dksL_law_17 15 rfl rfl)
theorem dL_law_554 : decode cL_law 554 = .ok (.iadd, 1) := dk_96 (dk_at dksL_law_17 16 rfl rfl)
theorem dL_law_555 : decode cL_law 555 = .ok (.iaload, 1) := dk_46 (dk_at dksL_law_17 17 rfl rfl)
theorem dL_law_556 : decode cL_law 556 = .ok (.invokevirtual 63, 3) := dk_182 0 63 (dk_at dksL_law_17 18 rfl rfl)
theorem dL_law_559 : decode cL_law 559 = .ok (.if_icmp .eq 971, 3) := dk_159 3 203 (dk_at dksL_law_17 21 rfl rfl)
theorem dL_law_562 : decode cL_law 562 = .ok (.iconst 0, 1) := dk_3 (dk_at dksL_law_18 0 rfl rfl)
theorem dL_law_563 : decode cL_law 563 = .ok (.ireturn, 1) := dk_172 (dk_at dksL_law_18 1 rfl rfl)
theorem dL_law_564 : decode cL_law 564 = .ok (.aload_n 1, 1) := dk_43 (dk_at dksL_law_18 2 rfl rfl)
theorem dL_law_565 : decode cL_law 565 = .ok (.aload_n 0, 1) := dk_42 (dk_at dksL_law_18 3 rfl rfl)
theorem dL_law_566 : decode cL_law 566 = .ok (.iload_n 3, 1) := dk_29 (dk_at dksL_law_18 4 rfl rfl)
theorem dL_law_567 : decode cL_law 567 = .ok (.iconst 1, 1) := dk_4 (dk_at dksL_law_18 5 rfl rfl)
theorem dL_law_568 : decode cL_law 568 = .ok (.iadd, 1) := dk_96 (dk_at dksL_law_18 6 rfl rfl)
theorem dL_law_569 : decode cL_law 569 = .ok (.iaload, 1) := dk_46 (dk_at dksL_law_18 7 rfl rfl)
theorem dL_law_570 : decode cL_law 570 = .ok (.invokevirtual 64, 3) := dk_182 0 64 (dk_at dksL_law_18 8 rfl rfl)
theorem dL_law_573 : decode cL_law 573 = .ok (.aload_n 2, 1) := dk_44 (dk_at dksL_law_18 11 rfl rfl)
theorem dL_law_574 : decode cL_law 574 = .ok (.aload_n 0, 1) := dk_42 (dk_at dksL_law_18 12 rfl rfl)
theorem dL_law_575 : decode cL_law 575 = .ok (.iload_n 3, 1) := dk_29 (dk_at dksL_law_18 13 rfl rfl)
theorem dL_law_576 : decode cL_law 576 = .ok (.iconst 1, 1) := dk_4 (dk_at dksL_law_18 14 rfl rfl)
theorem dL_law_577 : decode cL_law 577 = .ok (.iadd, 1) := dk_96 (dk_at dksL_law_18 15 rfl rfl)
theorem dL_law_578 : decode cL_law 578 = .ok (.iaload, 1) := dk_46 (dk_at dksL_law_18 16 rfl rfl)
theorem dL_law_579 : decode cL_law 579 = .ok (.invokevirtual 67, 3) := dk_182 0 67 (dk_at dksL_law_18 17 rfl rfl)
theorem dL_law_582 : decode cL_law 582 = .ok (.if_icmp .eq 948, 3) := dk_159 3 180 (dk_at dksL_law_18 20 rfl rfl)
theorem dL_law_585 : decode cL_law 585 = .ok (.iconst 0, 1) := dk_3 (dk_at dksL_law_18 23 rfl rfl)
theorem dL_law_586 : decode cL_law 586 = .ok (.ireturn, 1) := dk_172 (dk_at dksL_law_19 0 rfl rfl)
theorem dL_law_587 : decode cL_law 587 = .ok (.aload_n 1, 1) := dk_43 (dk_at dksL_law_19 1 rfl rfl)
theorem dL_law_588 : decode cL_law 588 = .ok (.aload_n 0, 1) := dk_42 (dk_at dksL_law_19 2 rfl rfl)
theorem dL_law_589 : decode cL_law 589 = .ok (.iload_n 3, 1) := dk_29 (dk_at dksL_law_19 3 rfl rfl)
theorem dL_law_590 : decode cL_law 590 = .ok (.iconst 1, 1) := dk_4 (dk_at dksL_law_19 4 rfl rfl)
theorem dL_law_591 : decode cL_law 591 = .ok (.iadd, 1) := dk_96 (dk_at dksL_law_19 5 rfl rfl)
theorem dL_law_592 : decode cL_law 592 = .ok (.iaload, 1) := dk_46 (dk_at dksL_law_19 6 rfl rfl)
theorem dL_law_593 : decode cL_law 593 = .ok (.aload_n 0, 1) := dk_42 (dk_at dksL_law_19 7 rfl rfl)
theorem dL_law_594 : decode cL_law 594 = .ok (.iload_n 3, 1) := dk_29 (dk_at dksL_law_19 8 rfl rfl)
theorem dL_law_595 : decode cL_law 595 = .ok (.iconst 2, 1) := dk_5 (dk_at dksL_law_19 9 rfl rfl)
theorem dL_law_596 : decode cL_law 596 = .ok (.iadd, 1) := dk_96 (dk_at dksL_law_19 10 rfl rfl)
theorem dL_law_597 : decode cL_law 597 = .ok (.iaload, 1) := dk_46 (dk_at dksL_law_19 11 rfl rfl)
theorem dL_law_598 : decode cL_law 598 = .ok (.invokevirtual 68, 3) := dk_182 0 68 (dk_at dksL_law_19 12 rfl rfl)
theorem dL_law_601 : decode cL_law 601 = .ok (.aload_n 2, 1) := dk_44 (dk_at dksL_law_19 15 rfl rfl)
theorem dL_law_602 : decode cL_law 602 = .ok (.aload_n 0, 1) := dk_42 (dk_at dksL_law_19 16 rfl rfl)
theorem dL_law_603 : decode cL_law 603 = .ok (.iload_n 3, 1) := dk_29 (dk_at dksL_law_19 17 rfl rfl)
theorem dL_law_604 : decode cL_law 604 = .ok (.iconst 1, 1) := dk_4 (dk_at dksL_law_19 18 rfl rfl)
theorem dL_law_605 : decode cL_law 605 = .ok (.iadd, 1) := dk_96 (dk_at dksL_law_19 19 rfl rfl)
theorem dL_law_606 : decode cL_law 606 = .ok (.iaload, 1) := dk_46 (dk_at dksL_law_19 20 rfl rfl)
theorem dL_law_607 : decode cL_law 607 = .ok (.aload_n 0, 1) := dk_42 (dk_at dksL_law_19 21 rfl rfl)
theorem dL_law_608 : decode cL_law 608 = .ok (.iload_n 3, 1) := dk_29 (dk_at dksL_law_19 22 rfl rfl)
theorem dL_law_609 : decode cL_law 609 = .ok (.iconst 2, 1) := dk_5 (dk_at dksL_law_19 23 rfl rfl)
theorem dL_law_610 : decode cL_law 610 = .ok (.iadd, 1) := dk_96 (dk_at dksL_law_20 0 rfl rfl)
theorem dL_law_611 : decode cL_law 611 = .ok (.iaload, 1) := dk_46 (dk_at dksL_law_20 1 rfl rfl)
theorem dL_law_612 : decode cL_law 612 = .ok (.invokevirtual 71, 3) := dk_182 0 71 (dk_at dksL_law_20 2 rfl rfl)
theorem dL_law_615 : decode cL_law 615 = .ok (.if_icmp .eq 915, 3) := dk_159 3 147 (dk_at dksL_law_20 5 rfl rfl)
theorem dL_law_618 : decode cL_law 618 = .ok (.iconst 0, 1) := dk_3 (dk_at dksL_law_20 8 rfl rfl)
theorem dL_law_619 : decode cL_law 619 = .ok (.ireturn, 1) := dk_172 (dk_at dksL_law_20 9 rfl rfl)
theorem dL_law_620 : decode cL_law 620 = .ok (.aload_n 1, 1) := dk_43 (dk_at dksL_law_20 10 rfl rfl)
theorem dL_law_621 : decode cL_law 621 = .ok (.aload_n 0, 1) := dk_42 (dk_at dksL_law_20 11 rfl rfl)
theorem dL_law_622 : decode cL_law 622 = .ok (.iload_n 3, 1) := dk_29 (dk_at dksL_law_20 12 rfl rfl)
theorem dL_law_623 : decode cL_law 623 = .ok (.iconst 1, 1) := dk_4 (dk_at dksL_law_20 13 rfl rfl)
theorem dL_law_624 : decode cL_law 624 = .ok (.iadd, 1) := dk_96 (dk_at dksL_law_20 14 rfl rfl)
theorem dL_law_625 : decode cL_law 625 = .ok (.iaload, 1) := dk_46 (dk_at dksL_law_20 15 rfl rfl)
theorem dL_law_626 : decode cL_law 626 = .ok (.aload_n 0, 1) := dk_42 (dk_at dksL_law_20 16 rfl rfl)
theorem dL_law_627 : decode cL_law 627 = .ok (.iload_n 3, 1) := dk_29 (dk_at dksL_law_20 17 rfl rfl)
theorem dL_law_628 : decode cL_law 628 = .ok (.iconst 2, 1) := dk_5 (dk_at dksL_law_20 18 rfl rfl)
theorem dL_law_629 : decode cL_law 629 = .ok (.iadd, 1) := dk_96 (dk_at dksL_law_20 19 rfl rfl)
theorem dL_law_630 : decode cL_law 630 = .ok (.iaload, 1) := dk_46 (dk_at dksL_law_20 20 rfl rfl)
theorem dL_law_631 : decode cL_law 631 = .ok (.invokevirtual 72, 3) := dk_182 0 72 (dk_at dksL_law_20 21 rfl rfl)
theorem dL_law_634 : decode cL_law 634 = .ok (.aload_n 2, 1) := dk_44 (dk_at dksL_law_21 0 rfl rfl)
theorem dL_law_635 : decode cL_law 635 = .ok (.aload_n 0, 1) := dk_42 (dk_at dksL_law_21 1 rfl rfl)
theorem dL_law_636 : decode cL_law 636 = .ok (.iload_n 3, 1) := dk_29 (dk_at dksL_law_21 2 rfl rfl)
theorem dL_law_637 : decode cL_law 637 = .ok (.iconst 1, 1) := dk_4 (dk_at dksL_law_21 3 rfl rfl)
theorem dL_law_638 : decode cL_law 638 = .ok (.iadd, 1) := dk_96 (dk_at dksL_law_21 4 rfl rfl)
theorem dL_law_639 : decode cL_law 639 = .ok (.iaload, 1) := dk_46 (dk_at dksL_law_21 5 rfl rfl)
theorem dL_law_640 : decode cL_law 640 = .ok (.aload_n 0, 1) := dk_42 (dk_at dksL_law_21 6 rfl rfl)
theorem dL_law_641 : decode cL_law 641 = .ok (.iload_n 3, 1) := dk_29 (dk_at dksL_law_21 7 rfl rfl)
theorem dL_law_642 : decode cL_law 642 = .ok (.iconst 2, 1) := dk_5 (dk_at dksL_law_21 8 rfl rfl)
theorem dL_law_643 : decode cL_law 643 = .ok (.iadd, 1) := dk_96 (dk_at dksL_law_21 9 rfl rfl)
theorem dL_law_644 : decode cL_law 644 = .ok (.iaload, 1) := dk_46 (dk_at dksL_law_21 10 rfl rfl)
theorem dL_law_645 : decode cL_law 645 = .ok (.invokevirtual 75, 3) := dk_182 0 75 (dk_at dksL_law_21 11 rfl rfl)
theorem dL_law_648 : decode cL_law 648 = .ok (.if_icmp .eq 882, 3) := dk_159 3 114 (dk_at dksL_law_21 14 rfl rfl)
theorem dL_law_651 : decode cL_law 651 = .ok (.iconst 0, 1) := dk_3 (dk_at dksL_law_21 17 rfl rfl)
theorem dL_law_652 : decode cL_law 652 = .ok (.ireturn, 1) := dk_172 (dk_at dksL_law_21 18 rfl rfl)
theorem dL_law_653 : decode cL_law 653 = .ok (.aload_n 1, 1) := dk_43 (dk_at dksL_law_21 19 rfl rfl)
theorem dL_law_654 : decode cL_law 654 = .ok (.aload_n 0, 1) := dk_42 (dk_at dksL_law_21 20 rfl rfl)
theorem dL_law_655 : decode cL_law 655 = .ok (.iload_n 3, 1) := dk_29 (dk_at dksL_law_21 21 rfl rfl)
theorem dL_law_656 : decode cL_law 656 = .ok (.iconst 1, 1) := dk_4 (dk_at dksL_law_21 22 rfl rfl)
theorem dL_law_657 : decode cL_law 657 = .ok (.iadd, 1) := dk_96 (dk_at dksL_law_21 23 rfl rfl)
theorem dL_law_658 : decode cL_law 658 = .ok (.iaload, 1) := dk_46 (dk_at dksL_law_22 0 rfl rfl)
theorem dL_law_659 : decode cL_law 659 = .ok (.aload_n 0, 1) := dk_42 (dk_at dksL_law_22 1 rfl rfl)
theorem dL_law_660 : decode cL_law 660 = .ok (.iload_n 3, 1) := dk_29 (dk_at dksL_law_22 2 rfl rfl)
theorem dL_law_661 : decode cL_law 661 = .ok (.iconst 2, 1) := dk_5 (dk_at dksL_law_22 3 rfl rfl)
theorem dL_law_662 : decode cL_law 662 = .ok (.iadd, 1) := dk_96 (dk_at dksL_law_22 4 rfl rfl)
theorem dL_law_663 : decode cL_law 663 = .ok (.iaload, 1) := dk_46 (dk_at dksL_law_22 5 rfl rfl)
theorem dL_law_664 : decode cL_law 664 = .ok (.aload_n 0, 1) := dk_42 (dk_at dksL_law_22 6 rfl rfl)
theorem dL_law_665 : decode cL_law 665 = .ok (.iload_n 3, 1) := dk_29 (dk_at dksL_law_22 7 rfl rfl)
theorem dL_law_666 : decode cL_law 666 = .ok (.iconst 3, 1) := dk_6 (dk_at dksL_law_22 8 rfl rfl)
theorem dL_law_667 : decode cL_law 667 = .ok (.iadd, 1) := dk_96 (dk_at dksL_law_22 9 rfl rfl)
theorem dL_law_668 : decode cL_law 668 = .ok (.iaload, 1) := dk_46 (dk_at dksL_law_22 10 rfl rfl)
theorem dL_law_669 : decode cL_law 669 = .ok (.invokevirtual 76, 3) := dk_182 0 76 (dk_at dksL_law_22 11 rfl rfl)
theorem dL_law_672 : decode cL_law 672 = .ok (.aload_n 2, 1) := dk_44 (dk_at dksL_law_22 14 rfl rfl)
theorem dL_law_673 : decode cL_law 673 = .ok (.aload_n 0, 1) := dk_42 (dk_at dksL_law_22 15 rfl rfl)
theorem dL_law_674 : decode cL_law 674 = .ok (.iload_n 3, 1) := dk_29 (dk_at dksL_law_22 16 rfl rfl)
theorem dL_law_675 : decode cL_law 675 = .ok (.iconst 1, 1) := dk_4 (dk_at dksL_law_22 17 rfl rfl)
theorem dL_law_676 : decode cL_law 676 = .ok (.iadd, 1) := dk_96 (dk_at dksL_law_22 18 rfl rfl)
theorem dL_law_677 : decode cL_law 677 = .ok (.iaload, 1) := dk_46 (dk_at dksL_law_22 19 rfl rfl)
theorem dL_law_678 : decode cL_law 678 = .ok (.aload_n 0, 1) := dk_42 (dk_at dksL_law_22 20 rfl rfl)
theorem dL_law_679 : decode cL_law 679 = .ok (.iload_n 3, 1) := dk_29 (dk_at dksL_law_22 21 rfl rfl)
theorem dL_law_680 : decode cL_law 680 = .ok (.iconst 2, 1) := dk_5 (dk_at dksL_law_22 22 rfl rfl)
theorem dL_law_681 : decode cL_law 681 = .ok (.iadd, 1) := dk_96 (dk_at dksL_law_22 23 rfl rfl)
theorem dL_law_682 : decode cL_law 682 = .ok (.iaload, 1) := dk_46 (dk_at dksL_law_23 0 rfl rfl)
theorem dL_law_683 : decode cL_law 683 = .ok (.aload_n 0, 1) := dk_42 (dk_at dksL_law_23 1 rfl rfl)
theorem dL_law_684 : decode cL_law 684 = .ok (.iload_n 3, 1) := dk_29 (dk_at dksL_law_23 2 rfl rfl)
theorem dL_law_685 : decode cL_law 685 = .ok (.iconst 3, 1) := dk_6 (dk_at dksL_law_23 3 rfl rfl)
theorem dL_law_686 : decode cL_law 686 = .ok (.iadd, 1) := dk_96 (dk_at dksL_law_23 4 rfl rfl)
theorem dL_law_687 : decode cL_law 687 = .ok (.iaload, 1) := dk_46 (dk_at dksL_law_23 5 rfl rfl)
theorem dL_law_688 : decode cL_law 688 = .ok (.invokevirtual 80, 3) := dk_182 0 80 (dk_at dksL_law_23 6 rfl rfl)
theorem dL_law_691 : decode cL_law 691 = .ok (.if_icmp .eq 839, 3) := dk_159 3 71 (dk_at dksL_law_23 9 rfl rfl)
theorem dL_law_694 : decode cL_law 694 = .ok (.iconst 0, 1) := dk_3 (dk_at dksL_law_23 12 rfl rfl)
theorem dL_law_695 : decode cL_law 695 = .ok (.ireturn, 1) := dk_172 (dk_at dksL_law_23 13 rfl rfl)
theorem dL_law_696 : decode cL_law 696 = .ok (.aload_n 1, 1) := dk_43 (dk_at dksL_law_23 14 rfl rfl)
theorem dL_law_697 : decode cL_law 697 = .ok (.aload_n 0, 1) := dk_42 (dk_at dksL_law_23 15 rfl rfl)
theorem dL_law_698 : decode cL_law 698 = .ok (.iload_n 3, 1) := dk_29 (dk_at dksL_law_23 16 rfl rfl)
theorem dL_law_699 : decode cL_law 699 = .ok (.iconst 1, 1) := dk_4 (dk_at dksL_law_23 17 rfl rfl)
theorem dL_law_700 : decode cL_law 700 = .ok (.iadd, 1) := dk_96 (dk_at dksL_law_23 18 rfl rfl)
theorem dL_law_701 : decode cL_law 701 = .ok (.iaload, 1) := dk_46 (dk_at dksL_law_23 19 rfl rfl)
theorem dL_law_702 : decode cL_law 702 = .ok (.invokevirtual 81, 3) := dk_182 0 81 (dk_at dksL_law_23 20 rfl rfl)
theorem dL_law_705 : decode cL_law 705 = .ok (.aload_n 2, 1) := dk_44 (dk_at dksL_law_23 23 rfl rfl)
theorem dL_law_706 : decode cL_law 706 = .ok (.aload_n 0, 1) := dk_42 (dk_at dksL_law_24 0 rfl rfl)
theorem dL_law_707 : decode cL_law 707 = .ok (.iload_n 3, 1) := dk_29 (dk_at dksL_law_24 1 rfl rfl)
theorem dL_law_708 : decode cL_law 708 = .ok (.iconst 1, 1) := dk_4 (dk_at dksL_law_24 2 rfl rfl)
theorem dL_law_709 : decode cL_law 709 = .ok (.iadd, 1) := dk_96 (dk_at dksL_law_24 3 rfl rfl)
theorem dL_law_710 : decode cL_law 710 = .ok (.iaload, 1) := dk_46 (dk_at dksL_law_24 4 rfl rfl)
theorem dL_law_711 : decode cL_law 711 = .ok (.invokevirtual 84, 3) := dk_182 0 84 (dk_at dksL_law_24 5 rfl rfl)
theorem dL_law_714 : decode cL_law 714 = .ok (.if_icmp .eq 816, 3) := dk_159 3 48 (dk_at dksL_law_24 8 rfl rfl)
theorem dL_law_717 : decode cL_law 717 = .ok (.iconst 0, 1) := dk_3 (dk_at dksL_law_24 11 rfl rfl)
theorem dL_law_718 : decode cL_law 718 = .ok (.ireturn, 1) := dk_172 (dk_at dksL_law_24 12 rfl rfl)
theorem dL_law_719 : decode cL_law 719 = .ok (.aload_n 1, 1) := dk_43 (dk_at dksL_law_24 13 rfl rfl)
theorem dL_law_720 : decode cL_law 720 = .ok (.invokevirtual 85, 3) := dk_182 0 85 (dk_at dksL_law_24 14 rfl rfl)
theorem dL_law_723 : decode cL_law 723 = .ok (.aload_n 2, 1) := dk_44 (dk_at dksL_law_24 17 rfl rfl)
theorem dL_law_724 : decode cL_law 724 = .ok (.invokevirtual 89, 3) := dk_182 0 89 (dk_at dksL_law_24 18 rfl rfl)
theorem dL_law_727 : decode cL_law 727 = .ok (.if_icmp .eq 803, 3) := dk_159 3 35 (dk_at dksL_law_24 21 rfl rfl)
theorem dL_law_730 : decode cL_law 730 = .ok (.iconst 0, 1) := dk_3 (dk_at dksL_law_25 0 rfl rfl)
theorem dL_law_731 : decode cL_law 731 = .ok (.ireturn, 1) := dk_172 (dk_at dksL_law_25 1 rfl rfl)
theorem dL_law_732 : decode cL_law 732 = .ok (.aload_n 1, 1) := dk_43 (dk_at dksL_law_25 2 rfl rfl)
theorem dL_law_733 : decode cL_law 733 = .ok (.aload_n 0, 1) := dk_42 (dk_at dksL_law_25 3 rfl rfl)
theorem dL_law_734 : decode cL_law 734 = .ok (.iload_n 3, 1) := dk_29 (dk_at dksL_law_25 4 rfl rfl)
theorem dL_law_735 : decode cL_law 735 = .ok (.iconst 1, 1) := dk_4 (dk_at dksL_law_25 5 rfl rfl)
theorem dL_law_736 : decode cL_law 736 = .ok (.iadd, 1) := dk_96 (dk_at dksL_law_25 6 rfl rfl)
theorem dL_law_737 : decode cL_law 737 = .ok (.iaload, 1) := dk_46 (dk_at dksL_law_25 7 rfl rfl)
theorem dL_law_738 : decode cL_law 738 = .ok (.aload_n 0, 1) := dk_42 (dk_at dksL_law_25 8 rfl rfl)
theorem dL_law_739 : decode cL_law 739 = .ok (.iload_n 3, 1) := dk_29 (dk_at dksL_law_25 9 rfl rfl)
theorem dL_law_740 : decode cL_law 740 = .ok (.iconst 2, 1) := dk_5 (dk_at dksL_law_25 10 rfl rfl)
theorem dL_law_741 : decode cL_law 741 = .ok (.iadd, 1) := dk_96 (dk_at dksL_law_25 11 rfl rfl)
theorem dL_law_742 : decode cL_law 742 = .ok (.iaload, 1) := dk_46 (dk_at dksL_law_25 12 rfl rfl)
theorem dL_law_743 : decode cL_law 743 = .ok (.invokevirtual 90, 3) := dk_182 0 90 (dk_at dksL_law_25 13 rfl rfl)
theorem dL_law_746 : decode cL_law 746 = .ok (.aload_n 2, 1) := dk_44 (dk_at dksL_law_25 16 rfl rfl)
theorem dL_law_747 : decode cL_law 747 = .ok (.aload_n 0, 1) := dk_42 (dk_at dksL_law_25 17 rfl rfl)
theorem dL_law_748 : decode cL_law 748 = .ok (.iload_n 3, 1) := dk_29 (dk_at dksL_law_25 18 rfl rfl)
theorem dL_law_749 : decode cL_law 749 = .ok (.iconst 1, 1) := dk_4 (dk_at dksL_law_25 19 rfl rfl)
theorem dL_law_750 : decode cL_law 750 = .ok (.iadd, 1) := dk_96 (dk_at dksL_law_25 20 rfl rfl)
theorem dL_law_751 : decode cL_law 751 = .ok (.iaload, 1) := dk_46 (dk_at dksL_law_25 21 rfl rfl)
theorem dL_law_752 : decode cL_law 752 = .ok (.aload_n 0, 1) := dk_42 (dk_at dksL_law_25 22 rfl rfl)
theorem dL_law_753 : decode cL_law 753 = .ok (.iload_n 3, 1) := dk_29 (dk_at dksL_law_25 23 rfl rfl)
theorem dL_law_754 : decode cL_law 754 = .ok (.iconst 2, 1) := dk_5 (dk_at dksL_law_26 0 rfl rfl)
theorem dL_law_755 : decode cL_law 755 = .ok (.iadd, 1) := dk_96 (dk_at dksL_law_26 1 rfl rfl)
theorem dL_law_756 : decode cL_law 756 = .ok (.iaload, 1) := dk_46 (dk_at dksL_law_26 2 rfl rfl)
theorem dL_law_757 : decode cL_law 757 = .ok (.invokevirtual 93, 3) := dk_182 0 93 (dk_at dksL_law_26 3 rfl rfl)
theorem dL_law_760 : decode cL_law 760 = .ok (.if_icmp .eq 770, 3) := dk_159 3 2 (dk_at dksL_law_26 6 rfl rfl)
theorem dL_law_763 : decode cL_law 763 = .ok (.iconst 0, 1) := dk_3 (dk_at dksL_law_26 9 rfl rfl)
theorem dL_law_764 : decode cL_law 764 = .ok (.ireturn, 1) := dk_172 (dk_at dksL_law_26 10 rfl rfl)
theorem dL_law_765 : decode cL_law 765 = .ok (.aload_n 1, 1) := dk_43 (dk_at dksL_law_26 11 rfl rfl)
theorem dL_law_766 : decode cL_law 766 = .ok (.aload_n 0, 1) := dk_42 (dk_at dksL_law_26 12 rfl rfl)
theorem dL_law_767 : decode cL_law 767 = .ok (.iload_n 3, 1) := dk_29 (dk_at dksL_law_26 13 rfl rfl)
theorem dL_law_768 : decode cL_law 768 = .ok (.iconst 1, 1) := dk_4 (dk_at dksL_law_26 14 rfl rfl)
theorem dL_law_769 : decode cL_law 769 = .ok (.iadd, 1) := dk_96 (dk_at dksL_law_26 15 rfl rfl)
theorem dL_law_770 : decode cL_law 770 = .ok (.iaload, 1) := dk_46 (dk_at dksL_law_26 16 rfl rfl)
theorem dL_law_771 : decode cL_law 771 = .ok (.aload_n 0, 1) := dk_42 (dk_at dksL_law_26 17 rfl rfl)
theorem dL_law_772 : decode cL_law 772 = .ok (.iload_n 3, 1) := dk_29 (dk_at dksL_law_26 18 rfl rfl)
theorem dL_law_773 : decode cL_law 773 = .ok (.iconst 2, 1) := dk_5 (dk_at dksL_law_26 19 rfl rfl)
theorem dL_law_774 : decode cL_law 774 = .ok (.iadd, 1) := dk_96 (dk_at dksL_law_26 20 rfl rfl)
theorem dL_law_775 : decode cL_law 775 = .ok (.iaload, 1) := dk_46 (dk_at dksL_law_26 21 rfl rfl)
theorem dL_law_776 : decode cL_law 776 = .ok (.invokevirtual 94, 3) := dk_182 0 94 (dk_at dksL_law_27 0 rfl rfl)
theorem dL_law_779 : decode cL_law 779 = .ok (.aload_n 2, 1) := dk_44 (dk_at dksL_law_27 3 rfl rfl)
theorem dL_law_780 : decode cL_law 780 = .ok (.aload_n 0, 1) := dk_42 (dk_at dksL_law_27 4 rfl rfl)
theorem dL_law_781 : decode cL_law 781 = .ok (.iload_n 3, 1) := dk_29 (dk_at dksL_law_27 5 rfl rfl)
theorem dL_law_782 : decode cL_law 782 = .ok (.iconst 1, 1) := dk_4 (dk_at dksL_law_27 6 rfl rfl)
theorem dL_law_783 : decode cL_law 783 = .ok (.iadd, 1) := dk_96 (dk_at dksL_law_27 7 rfl rfl)
theorem dL_law_784 : decode cL_law 784 = .ok (.iaload, 1) := dk_46 (dk_at dksL_law_27 8 rfl rfl)
theorem dL_law_785 : decode cL_law 785 = .ok (.aload_n 0, 1) := dk_42 (dk_at dksL_law_27 9 rfl rfl)
theorem dL_law_786 : decode cL_law 786 = .ok (.iload_n 3, 1) := dk_29 (dk_at dksL_law_27 10 rfl rfl)
theorem dL_law_787 : decode cL_law 787 = .ok (.iconst 2, 1) := dk_5 (dk_at dksL_law_27 11 rfl rfl)
theorem dL_law_788 : decode cL_law 788 = .ok (.iadd, 1) := dk_96 (dk_at dksL_law_27 12 rfl rfl)
theorem dL_law_789 : decode cL_law 789 = .ok (.iaload, 1) := dk_46 (dk_at dksL_law_27 13 rfl rfl)
theorem dL_law_790 : decode cL_law 790 = .ok (.invokevirtual 97, 3) := dk_182 0 97 (dk_at dksL_law_27 14 rfl rfl)
theorem dL_law_793 : decode cL_law 793 = .ok (.if_icmp .eq 737, 3) := dk_159 2 225 (dk_at dksL_law_27 17 rfl rfl)
theorem dL_law_796 : decode cL_law 796 = .ok (.iconst 0, 1) := dk_3 (dk_at dksL_law_27 20 rfl rfl)
theorem dL_law_797 : decode cL_law 797 = .ok (.ireturn, 1) := dk_172 (dk_at dksL_law_27 21 rfl rfl)
theorem dL_law_798 : decode cL_law 798 = .ok (.aload_n 1, 1) := dk_43 (dk_at dksL_law_27 22 rfl rfl)
theorem dL_law_799 : decode cL_law 799 = .ok (.invokevirtual 98, 3) := dk_182 0 98 (dk_at dksL_law_28 0 rfl rfl)
theorem dL_law_802 : decode cL_law 802 = .ok (.aload_n 2, 1) := dk_44 (dk_at dksL_law_28 3 rfl rfl)
theorem dL_law_803 : decode cL_law 803 = .ok (.invokevirtual 101, 3) := dk_182 0 101 (dk_at dksL_law_28 4 rfl rfl)
theorem dL_law_806 : decode cL_law 806 = .ok (.if_icmp .eq 724, 3) := dk_159 2 212 (dk_at dksL_law_28 7 rfl rfl)
theorem dL_law_809 : decode cL_law 809 = .ok (.iconst 0, 1) := dk_3 (dk_at dksL_law_28 10 rfl rfl)
theorem dL_law_810 : decode cL_law 810 = .ok (.ireturn, 1) := dk_172 (dk_at dksL_law_28 11 rfl rfl)
theorem dL_law_811 : decode cL_law 811 = .ok (.aload_n 1, 1) := dk_43 (dk_at dksL_law_28 12 rfl rfl)
theorem dL_law_812 : decode cL_law 812 = .ok (.aload_n 0, 1) := dk_42 (dk_at dksL_law_28 13 rfl rfl)
theorem dL_law_813 : decode cL_law 813 = .ok (.iload_n 3, 1) := dk_29 (dk_at dksL_law_28 14 rfl rfl)
theorem dL_law_814 : decode cL_law 814 = .ok (.iconst 1, 1) := dk_4 (dk_at dksL_law_28 15 rfl rfl)
theorem dL_law_815 : decode cL_law 815 = .ok (.iadd, 1) := dk_96 (dk_at dksL_law_28 16 rfl rfl)
theorem dL_law_816 : decode cL_law 816 = .ok (.iaload, 1) := dk_46 (dk_at dksL_law_28 17 rfl rfl)
theorem dL_law_817 : decode cL_law 817 = .ok (.invokevirtual 102, 3) := dk_182 0 102 (dk_at dksL_law_28 18 rfl rfl)
theorem dL_law_820 : decode cL_law 820 = .ok (.aload_n 2, 1) := dk_44 (dk_at dksL_law_28 21 rfl rfl)
theorem dL_law_821 : decode cL_law 821 = .ok (.aload_n 0, 1) := dk_42 (dk_at dksL_law_28 22 rfl rfl)
theorem dL_law_822 : decode cL_law 822 = .ok (.iload_n 3, 1) := dk_29 (dk_at dksL_law_28 23 rfl rfl)
theorem dL_law_823 : decode cL_law 823 = .ok (.iconst 1, 1) := dk_4 (dk_at dksL_law_29 0 rfl rfl)
theorem dL_law_824 : decode cL_law 824 = .ok (.iadd, 1) := dk_96 (dk_at dksL_law_29 1 rfl rfl)
theorem dL_law_825 : decode cL_law 825 = .ok (.iaload, 1) := dk_46 (dk_at dksL_law_29 2 rfl rfl)
theorem dL_law_826 : decode cL_law 826 = .ok (.invokevirtual 105, 3) := dk_182 0 105 (dk_at dksL_law_29 3 rfl rfl)
theorem dL_law_829 : decode cL_law 829 = .ok (.if_icmp .eq 701, 3) := dk_159 2 189 (dk_at dksL_law_29 6 rfl rfl)
theorem dL_law_832 : decode cL_law 832 = .ok (.iconst 0, 1) := dk_3 (dk_at dksL_law_29 9 rfl rfl)
theorem dL_law_833 : decode cL_law 833 = .ok (.ireturn, 1) := dk_172 (dk_at dksL_law_29 10 rfl rfl)
theorem dL_law_834 : decode cL_law 834 = .ok (.aload_n 1, 1) := dk_43 (dk_at dksL_law_29 11 rfl rfl)
theorem dL_law_835 : decode cL_law 835 = .ok (.aload_n 0, 1) := dk_42 (dk_at dksL_law_29 12 rfl rfl)
theorem dL_law_836 : decode cL_law 836 = .ok (.iload_n 3, 1) := dk_29 (dk_at dksL_law_29 13 rfl rfl)
theorem dL_law_837 : decode cL_law 837 = .ok (.iconst 1, 1) := dk_4 (dk_at dksL_law_29 14 rfl rfl)
theorem dL_law_838 : decode cL_law 838 = .ok (.iadd, 1) := dk_96 (dk_at dksL_law_29 15 rfl rfl)
theorem dL_law_839 : decode cL_law 839 = .ok (.iaload, 1) := dk_46 (dk_at dksL_law_29 16 rfl rfl)
theorem dL_law_840 : decode cL_law 840 = .ok (.aload_n 0, 1) := dk_42 (dk_at dksL_law_29 17 rfl rfl)
theorem dL_law_841 : decode cL_law 841 = .ok (.iload_n 3, 1) := dk_29 (dk_at dksL_law_29 18 rfl rfl)
theorem dL_law_842 : decode cL_law 842 = .ok (.iconst 2, 1) := dk_5 (dk_at dksL_law_29 19 rfl rfl)
theorem dL_law_843 : decode cL_law 843 = .ok (.iadd, 1) := dk_96 (dk_at dksL_law_29 20 rfl rfl)
theorem dL_law_844 : decode cL_law 844 = .ok (.iaload, 1) := dk_46 (dk_at dksL_law_29 21 rfl rfl)
theorem dL_law_845 : decode cL_law 845 = .ok (.invokevirtual 106, 3) := dk_182 0 106 (dk_at dksL_law_30 0 rfl rfl)
theorem dL_law_848 : decode cL_law 848 = .ok (.aload_n 2, 1) := dk_44 (dk_at dksL_law_30 3 rfl rfl)
theorem dL_law_849 : decode cL_law 849 = .ok (.aload_n 0, 1) := dk_42 (dk_at dksL_law_30 4 rfl rfl)
theorem dL_law_850 : decode cL_law 850 = .ok (.iload_n 3, 1) := dk_29 (dk_at dksL_law_30 5 rfl rfl)
theorem dL_law_851 : decode cL_law 851 = .ok (.iconst 1, 1) := dk_4 (dk_at dksL_law_30 6 rfl rfl)
theorem dL_law_852 : decode cL_law 852 = .ok (.iadd, 1) := dk_96 (dk_at dksL_law_30 7 rfl rfl)
theorem dL_law_853 : decode cL_law 853 = .ok (.iaload, 1) := dk_46 (dk_at dksL_law_30 8 rfl rfl)
theorem dL_law_854 : decode cL_law 854 = .ok (.aload_n 0, 1) := dk_42 (dk_at dksL_law_30 9 rfl rfl)
theorem dL_law_855 : decode cL_law 855 = .ok (.iload_n 3, 1) := dk_29 (dk_at dksL_law_30 10 rfl rfl)
theorem dL_law_856 : decode cL_law 856 = .ok (.iconst 2, 1) := dk_5 (dk_at dksL_law_30 11 rfl rfl)
theorem dL_law_857 : decode cL_law 857 = .ok (.iadd, 1) := dk_96 (dk_at dksL_law_30 12 rfl rfl)
theorem dL_law_858 : decode cL_law 858 = .ok (.iaload, 1) := dk_46 (dk_at dksL_law_30 13 rfl rfl)
theorem dL_law_859 : decode cL_law 859 = .ok (.invokevirtual 109, 3) := dk_182 0 109 (dk_at dksL_law_30 14 rfl rfl)
theorem dL_law_862 : decode cL_law 862 = .ok (.if_icmp .eq 668, 3) := dk_159 2 156 (dk_at dksL_law_30 17 rfl rfl)
theorem dL_law_865 : decode cL_law 865 = .ok (.iconst 0, 1) := dk_3 (dk_at dksL_law_30 20 rfl rfl)
theorem dL_law_866 : decode cL_law 866 = .ok (.ireturn, 1) := dk_172 (dk_at dksL_law_30 21 rfl rfl)
theorem dL_law_867 : decode cL_law 867 = .ok (.aload_n 1, 1) := dk_43 (dk_at dksL_law_30 22 rfl rfl)
theorem dL_law_868 : decode cL_law 868 = .ok (.aload_n 0, 1) := dk_42 (dk_at dksL_law_30 23 rfl rfl)
theorem dL_law_869 : decode cL_law 869 = .ok (.iload_n 3, 1) := dk_29 (dk_at dksL_law_31 0 rfl rfl)
theorem dL_law_870 : decode cL_law 870 = .ok (.iconst 1, 1) := dk_4 (dk_at dksL_law_31 1 rfl rfl)
theorem dL_law_871 : decode cL_law 871 = .ok (.iadd, 1) := dk_96 (dk_at dksL_law_31 2 rfl rfl)
theorem dL_law_872 : decode cL_law 872 = .ok (.iaload, 1) := dk_46 (dk_at dksL_law_31 3 rfl rfl)
theorem dL_law_873 : decode cL_law 873 = .ok (.aload_n 0, 1) := dk_42 (dk_at dksL_law_31 4 rfl rfl)
theorem dL_law_874 : decode cL_law 874 = .ok (.iload_n 3, 1) := dk_29 (dk_at dksL_law_31 5 rfl rfl)
theorem dL_law_875 : decode cL_law 875 = .ok (.iconst 2, 1) := dk_5 (dk_at dksL_law_31 6 rfl rfl)
theorem dL_law_876 : decode cL_law 876 = .ok (.iadd, 1) := dk_96 (dk_at dksL_law_31 7 rfl rfl)
theorem dL_law_877 : decode cL_law 877 = .ok (.iaload, 1) := dk_46 (dk_at dksL_law_31 8 rfl rfl)
theorem dL_law_878 : decode cL_law 878 = .ok (.aload_n 0, 1) := dk_42 (dk_at dksL_law_31 9 rfl rfl)
theorem dL_law_879 : decode cL_law 879 = .ok (.iload_n 3, 1) := dk_29 (dk_at dksL_law_31 10 rfl rfl)
theorem dL_law_880 : decode cL_law 880 = .ok (.iconst 3, 1) := dk_6 (dk_at dksL_law_31 11 rfl rfl)
theorem dL_law_881 : decode cL_law 881 = .ok (.iadd, 1) := dk_96 (dk_at dksL_law_31 12 rfl rfl)
theorem dL_law_882 : decode cL_law 882 = .ok (.iaload, 1) := dk_46 (dk_at dksL_law_31 13 rfl rfl)
theorem dL_law_883 : decode cL_law 883 = .ok (.invokevirtual 110, 3) := dk_182 0 110 (dk_at dksL_law_31 14 rfl rfl)
theorem dL_law_886 : decode cL_law 886 = .ok (.aload_n 2, 1) := dk_44 (dk_at dksL_law_31 17 rfl rfl)
theorem dL_law_887 : decode cL_law 887 = .ok (.aload_n 0, 1) := dk_42 (dk_at dksL_law_31 18 rfl rfl)
theorem dL_law_888 : decode cL_law 888 = .ok (.iload_n 3, 1) := dk_29 (dk_at dksL_law_31 19 rfl rfl)
theorem dL_law_889 : decode cL_law 889 = .ok (.iconst 1, 1) := dk_4 (dk_at dksL_law_31 20 rfl rfl)
theorem dL_law_890 : decode cL_law 890 = .ok (.iadd, 1) := dk_96 (dk_at dksL_law_31 21 rfl rfl)
theorem dL_law_891 : decode cL_law 891 = .ok (.iaload, 1) := dk_46 (dk_at dksL_law_31 22 rfl rfl)
theorem dL_law_892 : decode cL_law 892 = .ok (.aload_n 0, 1) := dk_42 (dk_at dksL_law_31 23 rfl rfl)
theorem dL_law_893 : decode cL_law 893 = .ok (.iload_n 3, 1) := dk_29 (dk_at dksL_law_32 0 rfl rfl)
theorem dL_law_894 : decode cL_law 894 = .ok (.iconst 2, 1) := dk_5 (dk_at dksL_law_32 1 rfl rfl)
theorem dL_law_895 : decode cL_law 895 = .ok (.iadd, 1) := dk_96 (dk_at dksL_law_32 2 rfl rfl)
theorem dL_law_896 : decode cL_law 896 = .ok (.iaload, 1) := dk_46 (dk_at dksL_law_32 3 rfl rfl)
theorem dL_law_897 : decode cL_law 897 = .ok (.aload_n 0, 1) := dk_42 (dk_at dksL_law_32 4 rfl rfl)
theorem dL_law_898 : decode cL_law 898 = .ok (.iload_n 3, 1) := dk_29 (dk_at dksL_law_32 5 rfl rfl)
theorem dL_law_899 : decode cL_law 899 = .ok (.iconst 3, 1) := dk_6 (dk_at dksL_law_32 6 rfl rfl)
theorem dL_law_900 : decode cL_law 900 = .ok (.iadd, 1) := dk_96 (dk_at dksL_law_32 7 rfl rfl)
theorem dL_law_901 : decode cL_law 901 = .ok (.iaload, 1) := dk_46 (dk_at dksL_law_32 8 rfl rfl)
theorem dL_law_902 : decode cL_law 902 = .ok (.invokevirtual 114, 3) := dk_182 0 114 (dk_at dksL_law_32 9 rfl rfl)
theorem dL_law_905 : decode cL_law 905 = .ok (.lcmp, 1) := dk_148 (dk_at dksL_law_32 12 rfl rfl)
theorem dL_law_906 : decode cL_law 906 = .ok (.ifCond .eq 624, 3) := dk_153 2 112 (dk_at dksL_law_32 13 rfl rfl)
theorem dL_law_909 : decode cL_law 909 = .ok (.iconst 0, 1) := dk_3 (dk_at dksL_law_32 16 rfl rfl)
theorem dL_law_910 : decode cL_law 910 = .ok (.ireturn, 1) := dk_172 (dk_at dksL_law_32 17 rfl rfl)
theorem dL_law_911 : decode cL_law 911 = .ok (.aload_n 1, 1) := dk_43 (dk_at dksL_law_32 18 rfl rfl)
theorem dL_law_912 : decode cL_law 912 = .ok (.aload_n 0, 1) := dk_42 (dk_at dksL_law_32 19 rfl rfl)
theorem dL_law_913 : decode cL_law 913 = .ok (.iload_n 3, 1) := dk_29 (dk_at dksL_law_32 20 rfl rfl)
theorem dL_law_914 : decode cL_law 914 = .ok (.iconst 1, 1) := dk_4 (dk_at dksL_law_32 21 rfl rfl)
theorem dL_law_915 : decode cL_law 915 = .ok (.iadd, 1) := dk_96 (dk_at dksL_law_32 22 rfl rfl)
theorem dL_law_916 : decode cL_law 916 = .ok (.iaload, 1) := dk_46 (dk_at dksL_law_32 23 rfl rfl)
theorem dL_law_917 : decode cL_law 917 = .ok (.aload_n 0, 1) := dk_42 (dk_at dksL_law_33 0 rfl rfl)
theorem dL_law_918 : decode cL_law 918 = .ok (.iload_n 3, 1) := dk_29 (dk_at dksL_law_33 1 rfl rfl)
theorem dL_law_919 : decode cL_law 919 = .ok (.iconst 2, 1) := dk_5 (dk_at dksL_law_33 2 rfl rfl)
theorem dL_law_920 : decode cL_law 920 = .ok (.iadd, 1) := dk_96 (dk_at dksL_law_33 3 rfl rfl)
theorem dL_law_921 : decode cL_law 921 = .ok (.iaload, 1) := dk_46 (dk_at dksL_law_33 4 rfl rfl)
theorem dL_law_922 : decode cL_law 922 = .ok (.aload_n 0, 1) := dk_42 (dk_at dksL_law_33 5 rfl rfl)
theorem dL_law_923 : decode cL_law 923 = .ok (.iload_n 3, 1) := dk_29 (dk_at dksL_law_33 6 rfl rfl)
theorem dL_law_924 : decode cL_law 924 = .ok (.iconst 3, 1) := dk_6 (dk_at dksL_law_33 7 rfl rfl)
theorem dL_law_925 : decode cL_law 925 = .ok (.iadd, 1) := dk_96 (dk_at dksL_law_33 8 rfl rfl)
theorem dL_law_926 : decode cL_law 926 = .ok (.iaload, 1) := dk_46 (dk_at dksL_law_33 9 rfl rfl)
theorem dL_law_927 : decode cL_law 927 = .ok (.aload_n 0, 1) := dk_42 (dk_at dksL_law_33 10 rfl rfl)
theorem dL_law_928 : decode cL_law 928 = .ok (.iload_n 3, 1) := dk_29 (dk_at dksL_law_33 11 rfl rfl)
theorem dL_law_929 : decode cL_law 929 = .ok (.iconst 4, 1) := dk_7 (dk_at dksL_law_33 12 rfl rfl)
theorem dL_law_930 : decode cL_law 930 = .ok (.iadd, 1) := dk_96 (dk_at dksL_law_33 13 rfl rfl)
theorem dL_law_931 : decode cL_law 931 = .ok (.iaload, 1) := dk_46 (dk_at dksL_law_33 14 rfl rfl)
theorem dL_law_932 : decode cL_law 932 = .ok (.invokevirtual 115, 3) := dk_182 0 115 (dk_at dksL_law_33 15 rfl rfl)
theorem dL_law_935 : decode cL_law 935 = .ok (.aload_n 2, 1) := dk_44 (dk_at dksL_law_33 18 rfl rfl)
theorem dL_law_936 : decode cL_law 936 = .ok (.aload_n 0, 1) := dk_42 (dk_at dksL_law_33 19 rfl rfl)
theorem dL_law_937 : decode cL_law 937 = .ok (.iload_n 3, 1) := dk_29 (dk_at dksL_law_33 20 rfl rfl)
theorem dL_law_938 : decode cL_law 938 = .ok (.iconst 1, 1) := dk_4 (dk_at dksL_law_33 21 rfl rfl)
theorem dL_law_939 : decode cL_law 939 = .ok (.iadd, 1) := dk_96 (dk_at dksL_law_33 22 rfl rfl)
theorem dL_law_940 : decode cL_law 940 = .ok (.iaload, 1) := dk_46 (dk_at dksL_law_33 23 rfl rfl)
theorem dL_law_941 : decode cL_law 941 = .ok (.aload_n 0, 1) := dk_42 (dk_at dksL_law_34 0 rfl rfl)
theorem dL_law_942 : decode cL_law 942 = .ok (.iload_n 3, 1) := dk_29 (dk_at dksL_law_34 1 rfl rfl)
theorem dL_law_943 : decode cL_law 943 = .ok (.iconst 2, 1) := dk_5 (dk_at dksL_law_34 2 rfl rfl)
theorem dL_law_944 : decode cL_law 944 = .ok (.iadd, 1) := dk_96 (dk_at dksL_law_34 3 rfl rfl)
theorem dL_law_945 : decode cL_law 945 = .ok (.iaload, 1) := dk_46 (dk_at dksL_law_34 4 rfl rfl)
theorem dL_law_946 : decode cL_law 946 = .ok (.aload_n 0, 1) := dk_42 (dk_at dksL_law_34 5 rfl rfl)
theorem dL_law_947 : decode cL_law 947 = .ok (.iload_n 3, 1) := dk_29 (dk_at dksL_law_34 6 rfl rfl)
theorem dL_law_948 : decode cL_law 948 = .ok (.iconst 3, 1) := dk_6 (dk_at dksL_law_34 7 rfl rfl)
theorem dL_law_949 : decode cL_law 949 = .ok (.iadd, 1) := dk_96 (dk_at dksL_law_34 8 rfl rfl)
theorem dL_law_950 : decode cL_law 950 = .ok (.iaload, 1) := dk_46 (dk_at dksL_law_34 9 rfl rfl)
theorem dL_law_951 : decode cL_law 951 = .ok (.aload_n 0, 1) := dk_42 (dk_at dksL_law_34 10 rfl rfl)
theorem dL_law_952 : decode cL_law 952 = .ok (.iload_n 3, 1) := dk_29 (dk_at dksL_law_34 11 rfl rfl)
theorem dL_law_953 : decode cL_law 953 = .ok (.iconst 4, 1) := dk_7 (dk_at dksL_law_34 12 rfl rfl)
theorem dL_law_954 : decode cL_law 954 = .ok (.iadd, 1) := dk_96 (dk_at dksL_law_34 13 rfl rfl)
theorem dL_law_955 : decode cL_law 955 = .ok (.iaload, 1) := dk_46 (dk_at dksL_law_34 14 rfl rfl)
theorem dL_law_956 : decode cL_law 956 = .ok (.invokevirtual 119, 3) := dk_182 0 119 (dk_at dksL_law_34 15 rfl rfl)
theorem dL_law_959 : decode cL_law 959 = .ok (.if_icmp .eq 571, 3) := dk_159 2 59 (dk_at dksL_law_34 18 rfl rfl)
theorem dL_law_962 : decode cL_law 962 = .ok (.iconst 0, 1) := dk_3 (dk_at dksL_law_34 21 rfl rfl)
theorem dL_law_963 : decode cL_law 963 = .ok (.ireturn, 1) := dk_172 (dk_at dksL_law_34 22 rfl rfl)
theorem dL_law_964 : decode cL_law 964 = .ok (.aload_n 1, 1) := dk_43 (dk_at dksL_law_34 23 rfl rfl)
theorem dL_law_965 : decode cL_law 965 = .ok (.aload_n 0, 1) := dk_42 (dk_at dksL_law_35 0 rfl rfl)
theorem dL_law_966 : decode cL_law 966 = .ok (.iload_n 3, 1) := dk_29 (dk_at dksL_law_35 1 rfl rfl)
theorem dL_law_967 : decode cL_law 967 = .ok (.iconst 1, 1) := dk_4 (dk_at dksL_law_35 2 rfl rfl)
theorem dL_law_968 : decode cL_law 968 = .ok (.iadd, 1) := dk_96 (dk_at dksL_law_35 3 rfl rfl)
theorem dL_law_969 : decode cL_law 969 = .ok (.iaload, 1) := dk_46 (dk_at dksL_law_35 4 rfl rfl)
theorem dL_law_970 : decode cL_law 970 = .ok (.aload_n 0, 1) := dk_42 (dk_at dksL_law_35 5 rfl rfl)
theorem dL_law_971 : decode cL_law 971 = .ok (.iload_n 3, 1) := dk_29 (dk_at dksL_law_35 6 rfl rfl)
theorem dL_law_972 : decode cL_law 972 = .ok (.iconst 2, 1) := dk_5 (dk_at dksL_law_35 7 rfl rfl)
theorem dL_law_973 : decode cL_law 973 = .ok (.iadd, 1) := dk_96 (dk_at dksL_law_35 8 rfl rfl)
theorem dL_law_974 : decode cL_law 974 = .ok (.iaload, 1) := dk_46 (dk_at dksL_law_35 9 rfl rfl)
theorem dL_law_975 : decode cL_law 975 = .ok (.aload_n 0, 1) := dk_42 (dk_at dksL_law_35 10 rfl rfl)
theorem dL_law_976 : decode cL_law 976 = .ok (.iload_n 3, 1) := dk_29 (dk_at dksL_law_35 11 rfl rfl)
theorem dL_law_977 : decode cL_law 977 = .ok (.iconst 3, 1) := dk_6 (dk_at dksL_law_35 12 rfl rfl)
theorem dL_law_978 : decode cL_law 978 = .ok (.iadd, 1) := dk_96 (dk_at dksL_law_35 13 rfl rfl)
theorem dL_law_979 : decode cL_law 979 = .ok (.iaload, 1) := dk_46 (dk_at dksL_law_35 14 rfl rfl)
theorem dL_law_980 : decode cL_law 980 = .ok (.invokevirtual 120, 3) := dk_182 0 120 (dk_at dksL_law_35 15 rfl rfl)
theorem dL_law_983 : decode cL_law 983 = .ok (.aload_n 2, 1) := dk_44 (dk_at dksL_law_35 18 rfl rfl)
theorem dL_law_984 : decode cL_law 984 = .ok (.aload_n 0, 1) := dk_42 (dk_at dksL_law_35 19 rfl rfl)
theorem dL_law_985 : decode cL_law 985 = .ok (.iload_n 3, 1) := dk_29 (dk_at dksL_law_35 20 rfl rfl)
theorem dL_law_986 : decode cL_law 986 = .ok (.iconst 1, 1) := dk_4 (dk_at dksL_law_35 21 rfl rfl)
theorem dL_law_987 : decode cL_law 987 = .ok (.iadd, 1) := dk_96 (dk_at dksL_law_35 22 rfl rfl)
theorem dL_law_988 : decode cL_law 988 = .ok (.iaload, 1) := dk_46 (dk_at dksL_law_35 23 rfl rfl)
theorem dL_law_989 : decode cL_law 989 = .ok (.aload_n 0, 1) := dk_42 (dk_at dksL_law_36 0 rfl rfl)
theorem dL_law_990 : decode cL_law 990 = .ok (.iload_n 3, 1) := dk_29 (dk_at dksL_law_36 1 rfl rfl)
theorem dL_law_991 : decode cL_law 991 = .ok (.iconst 2, 1) := dk_5 (dk_at dksL_law_36 2 rfl rfl)
theorem dL_law_992 : decode cL_law 992 = .ok (.iadd, 1) := dk_96 (dk_at dksL_law_36 3 rfl rfl)
theorem dL_law_993 : decode cL_law 993 = .ok (.iaload, 1) := dk_46 (dk_at dksL_law_36 4 rfl rfl)
theorem dL_law_994 : decode cL_law 994 = .ok (.aload_n 0, 1) := dk_42 (dk_at dksL_law_36 5 rfl rfl)
theorem dL_law_995 : decode cL_law 995 = .ok (.iload_n 3, 1) := dk_29 (dk_at dksL_law_36 6 rfl rfl)
theorem dL_law_996 : decode cL_law 996 = .ok (.iconst 3, 1) := dk_6 (dk_at dksL_law_36 7 rfl rfl)
theorem dL_law_997 : decode cL_law 997 = .ok (.iadd, 1) := dk_96 (dk_at dksL_law_36 8 rfl rfl)
theorem dL_law_998 : decode cL_law 998 = .ok (.iaload, 1) := dk_46 (dk_at dksL_law_36 9 rfl rfl)
theorem dL_law_999 : decode cL_law 999 = .ok (.invokevirtual 123, 3) := dk_182 0 123 (dk_at dksL_law_36 10 rfl rfl)
theorem dL_law_1002 : decode cL_law 1002 = .ok (.if_icmp .eq 528, 3) := dk_159 2 16 (dk_at dksL_law_36 13 rfl rfl)
theorem dL_law_1005 : decode cL_law 1005 = .ok (.iconst 0, 1) := dk_3 (dk_at dksL_law_36 16 rfl rfl)
theorem dL_law_1006 : decode cL_law 1006 = .ok (.ireturn, 1) := dk_172 (dk_at dksL_law_36 17 rfl rfl)
theorem dL_law_1007 : decode cL_law 1007 = .ok (.aload_n 1, 1) := dk_43 (dk_at dksL_law_36 18 rfl rfl)
theorem dL_law_1008 : decode cL_law 1008 = .ok (.aload_n 0, 1) := dk_42 (dk_at dksL_law_36 19 rfl rfl)
theorem dL_law_1009 : decode cL_law 1009 = .ok (.iload_n 3, 1) := dk_29 (dk_at dksL_law_36 20 rfl rfl)
theorem dL_law_1010 : decode cL_law 1010 = .ok (.iconst 1, 1) := dk_4 (dk_at dksL_law_36 21 rfl rfl)
theorem dL_law_1011 : decode cL_law 1011 = .ok (.iadd, 1) := dk_96 (dk_at dksL_law_36 22 rfl rfl)
theorem dL_law_1012 : decode cL_law 1012 = .ok (.iaload, 1) := dk_46 (dk_at dksL_law_36 23 rfl rfl)
theorem dL_law_1013 : decode cL_law 1013 = .ok (.aload_n 0, 1) := dk_42 (dk_at dksL_law_37 0 rfl rfl)
theorem dL_law_1014 : decode cL_law 1014 = .ok (.iload_n 3, 1) := dk_29 (dk_at dksL_law_37 1 rfl rfl)
theorem dL_law_1015 : decode cL_law 1015 = .ok (.iconst 2, 1) := dk_5 (dk_at dksL_law_37 2 rfl rfl)
theorem dL_law_1016 : decode cL_law 1016 = .ok (.iadd, 1) := dk_96 (dk_at dksL_law_37 3 rfl rfl)
theorem dL_law_1017 : decode cL_law 1017 = .ok (.iaload, 1) := dk_46 (dk_at dksL_law_37 4 rfl rfl)
theorem dL_law_1018 : decode cL_law 1018 = .ok (.aload_n 0, 1) := dk_42 (dk_at dksL_law_37 5 rfl rfl)
theorem dL_law_1019 : decode cL_law 1019 = .ok (.iload_n 3, 1) := dk_29 (dk_at dksL_law_37 6 rfl rfl)
theorem dL_law_1020 : decode cL_law 1020 = .ok (.iconst 3, 1) := dk_6 (dk_at dksL_law_37 7 rfl rfl)
theorem dL_law_1021 : decode cL_law 1021 = .ok (.iadd, 1) := dk_96 (dk_at dksL_law_37 8 rfl rfl)
theorem dL_law_1022 : decode cL_law 1022 = .ok (.iaload, 1) := dk_46 (dk_at dksL_law_37 9 rfl rfl)
theorem dL_law_1023 : decode cL_law 1023 = .ok (.aload_n 0, 1) := dk_42 (dk_at dksL_law_37 10 rfl rfl)
theorem dL_law_1024 : decode cL_law 1024 = .ok (.iload_n 3, 1) := dk_29 (dk_at dksL_law_37 11 rfl rfl)
theorem dL_law_1025 : decode cL_law 1025 = .ok (.iconst 4, 1) := dk_7 (dk_at dksL_law_37 12 rfl rfl)
theorem dL_law_1026 : decode cL_law 1026 = .ok (.iadd, 1) := dk_96 (dk_at dksL_law_37 13 rfl rfl)
theorem dL_law_1027 : decode cL_law 1027 = .ok (.iaload, 1) := dk_46 (dk_at dksL_law_37 14 rfl rfl)
theorem dL_law_1028 : decode cL_law 1028 = .ok (.invokevirtual 124, 3) := dk_182 0 124 (dk_at dksL_law_37 15 rfl rfl)
theorem dL_law_1031 : decode cL_law 1031 = .ok (.aload_n 2, 1) := dk_44 (dk_at dksL_law_37 18 rfl rfl)
theorem dL_law_1032 : decode cL_law 1032 = .ok (.aload_n 0, 1) := dk_42 (dk_at dksL_law_37 19 rfl rfl)
theorem dL_law_1033 : decode cL_law 1033 = .ok (.iload_n 3, 1) := dk_29 (dk_at dksL_law_37 20 rfl rfl)
theorem dL_law_1034 : decode cL_law 1034 = .ok (.iconst 1, 1) := dk_4 (dk_at dksL_law_37 21 rfl rfl)
theorem dL_law_1035 : decode cL_law 1035 = .ok (.iadd, 1) := dk_96 (dk_at dksL_law_37 22 rfl rfl)
theorem dL_law_1036 : decode cL_law 1036 = .ok (.iaload, 1) := dk_46 (dk_at dksL_law_37 23 rfl rfl)
theorem dL_law_1037 : decode cL_law 1037 = .ok (.aload_n 0, 1) := dk_42 (dk_at dksL_law_38 0 rfl rfl)
theorem dL_law_1038 : decode cL_law 1038 = .ok (.iload_n 3, 1) := dk_29 (dk_at dksL_law_38 1 rfl rfl)
theorem dL_law_1039 : decode cL_law 1039 = .ok (.iconst 2, 1) := dk_5 (dk_at dksL_law_38 2 rfl rfl)
theorem dL_law_1040 : decode cL_law 1040 = .ok (.iadd, 1) := dk_96 (dk_at dksL_law_38 3 rfl rfl)
theorem dL_law_1041 : decode cL_law 1041 = .ok (.iaload, 1) := dk_46 (dk_at dksL_law_38 4 rfl rfl)
theorem dL_law_1042 : decode cL_law 1042 = .ok (.aload_n 0, 1) := dk_42 (dk_at dksL_law_38 5 rfl rfl)
theorem dL_law_1043 : decode cL_law 1043 = .ok (.iload_n 3, 1) := dk_29 (dk_at dksL_law_38 6 rfl rfl)
theorem dL_law_1044 : decode cL_law 1044 = .ok (.iconst 3, 1) := dk_6 (dk_at dksL_law_38 7 rfl rfl)
theorem dL_law_1045 : decode cL_law 1045 = .ok (.iadd, 1) := dk_96 (dk_at dksL_law_38 8 rfl rfl)
theorem dL_law_1046 : decode cL_law 1046 = .ok (.iaload, 1) := dk_46 (dk_at dksL_law_38 9 rfl rfl)
theorem dL_law_1047 : decode cL_law 1047 = .ok (.aload_n 0, 1) := dk_42 (dk_at dksL_law_38 10 rfl rfl)
theorem dL_law_1048 : decode cL_law 1048 = .ok (.iload_n 3, 1) := dk_29 (dk_at dksL_law_38 11 rfl rfl)
theorem dL_law_1049 : decode cL_law 1049 = .ok (.iconst 4, 1) := dk_7 (dk_at dksL_law_38 12 rfl rfl)
theorem dL_law_1050 : decode cL_law 1050 = .ok (.iadd, 1) := dk_96 (dk_at dksL_law_38 13 rfl rfl)
theorem dL_law_1051 : decode cL_law 1051 = .ok (.iaload, 1) := dk_46 (dk_at dksL_law_38 14 rfl rfl)
theorem dL_law_1052 : decode cL_law 1052 = .ok (.invokevirtual 127, 3) := dk_182 0 127 (dk_at dksL_law_38 15 rfl rfl)
theorem dL_law_1055 : decode cL_law 1055 = .ok (.if_icmp .eq 475, 3) := dk_159 1 219 (dk_at dksL_law_38 18 rfl rfl)
theorem dL_law_1058 : decode cL_law 1058 = .ok (.iconst 0, 1) := dk_3 (dk_at dksL_law_38 21 rfl rfl)
theorem dL_law_1059 : decode cL_law 1059 = .ok (.ireturn, 1) := dk_172 (dk_at dksL_law_38 22 rfl rfl)
theorem dL_law_1060 : decode cL_law 1060 = .ok (.aload_n 1, 1) := dk_43 (dk_at dksL_law_38 23 rfl rfl)
theorem dL_law_1061 : decode cL_law 1061 = .ok (.aload_n 0, 1) := dk_42 (dk_at dksL_law_39 0 rfl rfl)
theorem dL_law_1062 : decode cL_law 1062 = .ok (.iload_n 3, 1) := dk_29 (dk_at dksL_law_39 1 rfl rfl)
theorem dL_law_1063 : decode cL_law 1063 = .ok (.iconst 1, 1) := dk_4 (dk_at dksL_law_39 2 rfl rfl)
theorem dL_law_1064 : decode cL_law 1064 = .ok (.iadd, 1) := dk_96 (dk_at dksL_law_39 3 rfl rfl)
theorem dL_law_1065 : decode cL_law 1065 = .ok (.iaload, 1) := dk_46 (dk_at dksL_law_39 4 rfl rfl)
theorem dL_law_1066 : decode cL_law 1066 = .ok (.aload_n 0, 1) := dk_42 (dk_at dksL_law_39 5 rfl rfl)
theorem dL_law_1067 : decode cL_law 1067 = .ok (.iload_n 3, 1) := dk_29 (dk_at dksL_law_39 6 rfl rfl)
theorem dL_law_1068 : decode cL_law 1068 = .ok (.iconst 2, 1) := dk_5 (dk_at dksL_law_39 7 rfl rfl)
theorem dL_law_1069 : decode cL_law 1069 = .ok (.iadd, 1) := dk_96 (dk_at dksL_law_39 8 rfl rfl)
theorem dL_law_1070 : decode cL_law 1070 = .ok (.iaload, 1) := dk_46 (dk_at dksL_law_39 9 rfl rfl)
theorem dL_law_1071 : decode cL_law 1071 = .ok (.aload_n 0, 1) := dk_42 (dk_at dksL_law_39 10 rfl rfl)
theorem dL_law_1072 : decode cL_law 1072 = .ok (.iload_n 3, 1) := dk_29 (dk_at dksL_law_39 11 rfl rfl)
theorem dL_law_1073 : decode cL_law 1073 = .ok (.iconst 3, 1) := dk_6 (dk_at dksL_law_39 12 rfl rfl)
theorem dL_law_1074 : decode cL_law 1074 = .ok (.iadd, 1) := dk_96 (dk_at dksL_law_39 13 rfl rfl)
theorem dL_law_1075 : decode cL_law 1075 = .ok (.iaload, 1) := dk_46 (dk_at dksL_law_39 14 rfl rfl)
theorem dL_law_1076 : decode cL_law 1076 = .ok (.invokevirtual 128, 3) := dk_182 0 128 (dk_at dksL_law_39 15 rfl rfl)
theorem dL_law_1079 : decode cL_law 1079 = .ok (.aload_n 2, 1) := dk_44 (dk_at dksL_law_39 18 rfl rfl)
theorem dL_law_1080 : decode cL_law 1080 = .ok (.aload_n 0, 1) := dk_42 (dk_at dksL_law_39 19 rfl rfl)
theorem dL_law_1081 : decode cL_law 1081 = .ok (.iload_n 3, 1) := dk_29 (dk_at dksL_law_39 20 rfl rfl)
theorem dL_law_1082 : decode cL_law 1082 = .ok (.iconst 1, 1) := dk_4 (dk_at dksL_law_39 21 rfl rfl)
theorem dL_law_1083 : decode cL_law 1083 = .ok (.iadd, 1) := dk_96 (dk_at dksL_law_39 22 rfl rfl)
theorem dL_law_1084 : decode cL_law 1084 = .ok (.iaload, 1) := dk_46 (dk_at dksL_law_39 23 rfl rfl)
theorem dL_law_1085 : decode cL_law 1085 = .ok (.aload_n 0, 1) := dk_42 (dk_at dksL_law_40 0 rfl rfl)
theorem dL_law_1086 : decode cL_law 1086 = .ok (.iload_n 3, 1) := dk_29 (dk_at dksL_law_40 1 rfl rfl)
theorem dL_law_1087 : decode cL_law 1087 = .ok (.iconst 2, 1) := dk_5 (dk_at dksL_law_40 2 rfl rfl)
theorem dL_law_1088 : decode cL_law 1088 = .ok (.iadd, 1) := dk_96 (dk_at dksL_law_40 3 rfl rfl)
theorem dL_law_1089 : decode cL_law 1089 = .ok (.iaload, 1) := dk_46 (dk_at dksL_law_40 4 rfl rfl)
theorem dL_law_1090 : decode cL_law 1090 = .ok (.aload_n 0, 1) := dk_42 (dk_at dksL_law_40 5 rfl rfl)
theorem dL_law_1091 : decode cL_law 1091 = .ok (.iload_n 3, 1) := dk_29 (dk_at dksL_law_40 6 rfl rfl)
theorem dL_law_1092 : decode cL_law 1092 = .ok (.iconst 3, 1) := dk_6 (dk_at dksL_law_40 7 rfl rfl)
theorem dL_law_1093 : decode cL_law 1093 = .ok (.iadd, 1) := dk_96 (dk_at dksL_law_40 8 rfl rfl)
theorem dL_law_1094 : decode cL_law 1094 = .ok (.iaload, 1) := dk_46 (dk_at dksL_law_40 9 rfl rfl)
theorem dL_law_1095 : decode cL_law 1095 = .ok (.invokevirtual 131, 3) := dk_182 0 131 (dk_at dksL_law_40 10 rfl rfl)
theorem dL_law_1098 : decode cL_law 1098 = .ok (.if_icmp .eq 432, 3) := dk_159 1 176 (dk_at dksL_law_40 13 rfl rfl)
theorem dL_law_1101 : decode cL_law 1101 = .ok (.iconst 0, 1) := dk_3 (dk_at dksL_law_40 16 rfl rfl)
theorem dL_law_1102 : decode cL_law 1102 = .ok (.ireturn, 1) := dk_172 (dk_at dksL_law_40 17 rfl rfl)
theorem dL_law_1103 : decode cL_law 1103 = .ok (.aload_n 1, 1) := dk_43 (dk_at dksL_law_40 18 rfl rfl)
theorem dL_law_1104 : decode cL_law 1104 = .ok (.aload_n 0, 1) := dk_42 (dk_at dksL_law_40 19 rfl rfl)
theorem dL_law_1105 : decode cL_law 1105 = .ok (.iload_n 3, 1) := dk_29 (dk_at dksL_law_40 20 rfl rfl)
theorem dL_law_1106 : decode cL_law 1106 = .ok (.iconst 1, 1) := dk_4 (dk_at dksL_law_40 21 rfl rfl)
theorem dL_law_1107 : decode cL_law 1107 = .ok (.iadd, 1) := dk_96 (dk_at dksL_law_40 22 rfl rfl)
theorem dL_law_1108 : decode cL_law 1108 = .ok (.iaload, 1) := dk_46 (dk_at dksL_law_40 23 rfl rfl)
theorem dL_law_1109 : decode cL_law 1109 = .ok (.aload_n 0, 1) := dk_42 (dk_at dksL_law_41 0 rfl rfl)
theorem dL_law_1110 : decode cL_law 1110 = .ok (.iload_n 3, 1) := dk_29 (dk_at dksL_law_41 1 rfl rfl)
theorem dL_law_1111 : decode cL_law 1111 = .ok (.iconst 2, 1) := dk_5 (dk_at dksL_law_41 2 rfl rfl)
theorem dL_law_1112 : decode cL_law 1112 = .ok (.iadd, 1) := dk_96 (dk_at dksL_law_41 3 rfl rfl)
theorem dL_law_1113 : decode cL_law 1113 = .ok (.iaload, 1) := dk_46 (dk_at dksL_law_41 4 rfl rfl)
theorem dL_law_1114 : decode cL_law 1114 = .ok (.invokevirtual 132, 3) := dk_182 0 132 (dk_at dksL_law_41 5 rfl rfl)
theorem dL_law_1117 : decode cL_law 1117 = .ok (.aload_n 2, 1) := dk_44 (dk_at dksL_law_41 8 rfl rfl)
theorem dL_law_1118 : decode cL_law 1118 = .ok (.aload_n 0, 1) := dk_42 (dk_at dksL_law_41 9 rfl rfl)
theorem dL_law_1119 : decode cL_law 1119 = .ok (.iload_n 3, 1) := dk_29 (dk_at dksL_law_41 10 rfl rfl)
theorem dL_law_1120 : decode cL_law 1120 = .ok (.iconst 1, 1) := dk_4 (dk_at dksL_law_41 11 rfl rfl)
theorem dL_law_1121 : decode cL_law 1121 = .ok (.iadd, 1) := dk_96 (dk_at dksL_law_41 12 rfl rfl)
theorem dL_law_1122 : decode cL_law 1122 = .ok (.iaload, 1) := dk_46 (dk_at dksL_law_41 13 rfl rfl)
theorem dL_law_1123 : decode cL_law 1123 = .ok (.aload_n 0, 1) := dk_42 (dk_at dksL_law_41 14 rfl rfl)
theorem dL_law_1124 : decode cL_law 1124 = .ok (.iload_n 3, 1) := dk_29 (dk_at dksL_law_41 15 rfl rfl)
theorem dL_law_1125 : decode cL_law 1125 = .ok (.iconst 2, 1) := dk_5 (dk_at dksL_law_41 16 rfl rfl)
theorem dL_law_1126 : decode cL_law 1126 = .ok (.iadd, 1) := dk_96 (dk_at dksL_law_41 17 rfl rfl)
theorem dL_law_1127 : decode cL_law 1127 = .ok (.iaload, 1) := dk_46 (dk_at dksL_law_41 18 rfl rfl)
theorem dL_law_1128 : decode cL_law 1128 = .ok (.invokevirtual 135, 3) := dk_182 0 135 (dk_at dksL_law_41 19 rfl rfl)
theorem dL_law_1131 : decode cL_law 1131 = .ok (.if_icmp .eq 399, 3) := dk_159 1 143 (dk_at dksL_law_42 0 rfl rfl)
theorem dL_law_1134 : decode cL_law 1134 = .ok (.iconst 0, 1) := dk_3 (dk_at dksL_law_42 3 rfl rfl)
theorem dL_law_1135 : decode cL_law 1135 = .ok (.ireturn, 1) := dk_172 (dk_at dksL_law_42 4 rfl rfl)
theorem dL_law_1136 : decode cL_law 1136 = .ok (.aload_n 1, 1) := dk_43 (dk_at dksL_law_42 5 rfl rfl)
theorem dL_law_1137 : decode cL_law 1137 = .ok (.aload_n 0, 1) := dk_42 (dk_at dksL_law_42 6 rfl rfl)
theorem dL_law_1138 : decode cL_law 1138 = .ok (.iload_n 3, 1) := dk_29 (dk_at dksL_law_42 7 rfl rfl)
theorem dL_law_1139 : decode cL_law 1139 = .ok (.iconst 1, 1) := dk_4 (dk_at dksL_law_42 8 rfl rfl)
theorem dL_law_1140 : decode cL_law 1140 = .ok (.iadd, 1) := dk_96 (dk_at dksL_law_42 9 rfl rfl)
theorem dL_law_1141 : decode cL_law 1141 = .ok (.iaload, 1) := dk_46 (dk_at dksL_law_42 10 rfl rfl)
theorem dL_law_1142 : decode cL_law 1142 = .ok (.aload_n 0, 1) := dk_42 (dk_at dksL_law_42 11 rfl rfl)
theorem dL_law_1143 : decode cL_law 1143 = .ok (.iload_n 3, 1) := dk_29 (dk_at dksL_law_42 12 rfl rfl)
theorem dL_law_1144 : decode cL_law 1144 = .ok (.iconst 2, 1) := dk_5 (dk_at dksL_law_42 13 rfl rfl)
theorem dL_law_1145 : decode cL_law 1145 = .ok (.iadd, 1) := dk_96 (dk_at dksL_law_42 14 rfl rfl)
theorem dL_law_1146 : decode cL_law 1146 = .ok (.iaload, 1) := dk_46 (dk_at dksL_law_42 15 rfl rfl)
theorem dL_law_1147 : decode cL_law 1147 = .ok (.invokevirtual 136, 3) := dk_182 0 136 (dk_at dksL_law_42 16 rfl rfl)
theorem dL_law_1150 : decode cL_law 1150 = .ok (.aload_n 2, 1) := dk_44 (dk_at dksL_law_42 19 rfl rfl)
theorem dL_law_1151 : decode cL_law 1151 = .ok (.aload_n 0, 1) := dk_42 (dk_at dksL_law_42 20 rfl rfl)
theorem dL_law_1152 : decode cL_law 1152 = .ok (.iload_n 3, 1) := dk_29 (dk_at dksL_law_42 21 rfl rfl)
theorem dL_law_1153 : decode cL_law 1153 = .ok (.iconst 1, 1) := dk_4 (dk_at dksL_law_42 22 rfl rfl)
theorem dL_law_1154 : decode cL_law 1154 = .ok (.iadd, 1) := dk_96 (dk_at dksL_law_42 23 rfl rfl)
theorem dL_law_1155 : decode cL_law 1155 = .ok (.iaload, 1) := dk_46 (dk_at dksL_law_43 0 rfl rfl)
theorem dL_law_1156 : decode cL_law 1156 = .ok (.aload_n 0, 1) := dk_42 (dk_at dksL_law_43 1 rfl rfl)
theorem dL_law_1157 : decode cL_law 1157 = .ok (.iload_n 3, 1) := dk_29 (dk_at dksL_law_43 2 rfl rfl)
theorem dL_law_1158 : decode cL_law 1158 = .ok (.iconst 2, 1) := dk_5 (dk_at dksL_law_43 3 rfl rfl)
theorem dL_law_1159 : decode cL_law 1159 = .ok (.iadd, 1) := dk_96 (dk_at dksL_law_43 4 rfl rfl)
theorem dL_law_1160 : decode cL_law 1160 = .ok (.iaload, 1) := dk_46 (dk_at dksL_law_43 5 rfl rfl)
theorem dL_law_1161 : decode cL_law 1161 = .ok (.invokevirtual 139, 3) := dk_182 0 139 (dk_at dksL_law_43 6 rfl rfl)
theorem dL_law_1164 : decode cL_law 1164 = .ok (.if_icmp .eq 366, 3) := dk_159 1 110 (dk_at dksL_law_43 9 rfl rfl)
theorem dL_law_1167 : decode cL_law 1167 = .ok (.iconst 0, 1) := dk_3 (dk_at dksL_law_43 12 rfl rfl)
theorem dL_law_1168 : decode cL_law 1168 = .ok (.ireturn, 1) := dk_172 (dk_at dksL_law_43 13 rfl rfl)
theorem dL_law_1169 : decode cL_law 1169 = .ok (.aload_n 1, 1) := dk_43 (dk_at dksL_law_43 14 rfl rfl)
theorem dL_law_1170 : decode cL_law 1170 = .ok (.aload_n 0, 1) := dk_42 (dk_at dksL_law_43 15 rfl rfl)
theorem dL_law_1171 : decode cL_law 1171 = .ok (.iload_n 3, 1) := dk_29 (dk_at dksL_law_43 16 rfl rfl)
theorem dL_law_1172 : decode cL_law 1172 = .ok (.iconst 1, 1) := dk_4 (dk_at dksL_law_43 17 rfl rfl)
theorem dL_law_1173 : decode cL_law 1173 = .ok (.iadd, 1) := dk_96 (dk_at dksL_law_43 18 rfl rfl)
theorem dL_law_1174 : decode cL_law 1174 = .ok (.iaload, 1) := dk_46 (dk_at dksL_law_43 19 rfl rfl)
theorem dL_law_1175 : decode cL_law 1175 = .ok (.aload_n 0, 1) := dk_42 (dk_at dksL_law_43 20 rfl rfl)
theorem dL_law_1176 : decode cL_law 1176 = .ok (.iload_n 3, 1) := dk_29 (dk_at dksL_law_43 21 rfl rfl)
theorem dL_law_1177 : decode cL_law 1177 = .ok (.iconst 2, 1) := dk_5 (dk_at dksL_law_43 22 rfl rfl)
theorem dL_law_1178 : decode cL_law 1178 = .ok (.iadd, 1) := dk_96 (dk_at dksL_law_43 23 rfl rfl)
theorem dL_law_1179 : decode cL_law 1179 = .ok (.iaload, 1) := dk_46 (dk_at dksL_law_44 0 rfl rfl)
theorem dL_law_1180 : decode cL_law 1180 = .ok (.invokevirtual 140, 3) := dk_182 0 140 (dk_at dksL_law_44 1 rfl rfl)
theorem dL_law_1183 : decode cL_law 1183 = .ok (.aload_n 2, 1) := dk_44 (dk_at dksL_law_44 4 rfl rfl)
theorem dL_law_1184 : decode cL_law 1184 = .ok (.aload_n 0, 1) := dk_42 (dk_at dksL_law_44 5 rfl rfl)
theorem dL_law_1185 : decode cL_law 1185 = .ok (.iload_n 3, 1) := dk_29 (dk_at dksL_law_44 6 rfl rfl)
theorem dL_law_1186 : decode cL_law 1186 = .ok (.iconst 1, 1) := dk_4 (dk_at dksL_law_44 7 rfl rfl)
theorem dL_law_1187 : decode cL_law 1187 = .ok (.iadd, 1) := dk_96 (dk_at dksL_law_44 8 rfl rfl)
theorem dL_law_1188 : decode cL_law 1188 = .ok (.iaload, 1) := dk_46 (dk_at dksL_law_44 9 rfl rfl)
theorem dL_law_1189 : decode cL_law 1189 = .ok (.aload_n 0, 1) := dk_42 (dk_at dksL_law_44 10 rfl rfl)
theorem dL_law_1190 : decode cL_law 1190 = .ok (.iload_n 3, 1) := dk_29 (dk_at dksL_law_44 11 rfl rfl)
theorem dL_law_1191 : decode cL_law 1191 = .ok (.iconst 2, 1) := dk_5 (dk_at dksL_law_44 12 rfl rfl)
theorem dL_law_1192 : decode cL_law 1192 = .ok (.iadd, 1) := dk_96 (dk_at dksL_law_44 13 rfl rfl)
theorem dL_law_1193 : decode cL_law 1193 = .ok (.iaload, 1) := dk_46 (dk_at dksL_law_44 14 rfl rfl)
theorem dL_law_1194 : decode cL_law 1194 = .ok (.invokevirtual 143, 3) := dk_182 0 143 (dk_at dksL_law_44 15 rfl rfl)
theorem dL_law_1197 : decode cL_law 1197 = .ok (.if_icmp .eq 333, 3) := dk_159 1 77 (dk_at dksL_law_44 18 rfl rfl)
theorem dL_law_1200 : decode cL_law 1200 = .ok (.iconst 0, 1) := dk_3 (dk_at dksL_law_44 21 rfl rfl)
theorem dL_law_1201 : decode cL_law 1201 = .ok (.ireturn, 1) := dk_172 (dk_at dksL_law_44 22 rfl rfl)
theorem dL_law_1202 : decode cL_law 1202 = .ok (.aload_n 1, 1) := dk_43 (dk_at dksL_law_44 23 rfl rfl)
theorem dL_law_1203 : decode cL_law 1203 = .ok (.aload_n 0, 1) := dk_42 (dk_at dksL_law_45 0 rfl rfl)
theorem dL_law_1204 : decode cL_law 1204 = .ok (.iload_n 3, 1) := dk_29 (dk_at dksL_law_45 1 rfl rfl)
theorem dL_law_1205 : decode cL_law 1205 = .ok (.iconst 1, 1) := dk_4 (dk_at dksL_law_45 2 rfl rfl)
theorem dL_law_1206 : decode cL_law 1206 = .ok (.iadd, 1) := dk_96 (dk_at dksL_law_45 3 rfl rfl)
theorem dL_law_1207 : decode cL_law 1207 = .ok (.iaload, 1) := dk_46 (dk_at dksL_law_45 4 rfl rfl)
theorem dL_law_1208 : decode cL_law 1208 = .ok (.invokevirtual 144, 3) := dk_182 0 144 (dk_at dksL_law_45 5 rfl rfl)
theorem dL_law_1211 : decode cL_law 1211 = .ok (.aload_n 2, 1) := dk_44 (dk_at dksL_law_45 8 rfl rfl)
theorem dL_law_1212 : decode cL_law 1212 = .ok (.aload_n 0, 1) := dk_42 (dk_at dksL_law_45 9 rfl rfl)
theorem dL_law_1213 : decode cL_law 1213 = .ok (.iload_n 3, 1) := dk_29 (dk_at dksL_law_45 10 rfl rfl)
theorem dL_law_1214 : decode cL_law 1214 = .ok (.iconst 1, 1) := dk_4 (dk_at dksL_law_45 11 rfl rfl)
theorem dL_law_1215 : decode cL_law 1215 = .ok (.iadd, 1) := dk_96 (dk_at dksL_law_45 12 rfl rfl)
theorem dL_law_1216 : decode cL_law 1216 = .ok (.iaload, 1) := dk_46 (dk_at dksL_law_45 13 rfl rfl)
theorem dL_law_1217 : decode cL_law 1217 = .ok (.invokevirtual 147, 3) := dk_182 0 147 (dk_at dksL_law_45 14 rfl rfl)
theorem dL_law_1220 : decode cL_law 1220 = .ok (.if_icmp .eq 310, 3) := dk_159 1 54 (dk_at dksL_law_45 17 rfl rfl)
theorem dL_law_1223 : decode cL_law 1223 = .ok (.iconst 0, 1) := dk_3 (dk_at dksL_law_45 20 rfl rfl)
theorem dL_law_1224 : decode cL_law 1224 = .ok (.ireturn, 1) := dk_172 (dk_at dksL_law_45 21 rfl rfl)
theorem dL_law_1225 : decode cL_law 1225 = .ok (.aload_n 1, 1) := dk_43 (dk_at dksL_law_45 22 rfl rfl)
theorem dL_law_1226 : decode cL_law 1226 = .ok (.aload_n 0, 1) := dk_42 (dk_at dksL_law_45 23 rfl rfl)
theorem dL_law_1227 : decode cL_law 1227 = .ok (.iload_n 3, 1) := dk_29 (dk_at dksL_law_46 0 rfl rfl)
theorem dL_law_1228 : decode cL_law 1228 = .ok (.iconst 1, 1) := dk_4 (dk_at dksL_law_46 1 rfl rfl)
theorem dL_law_1229 : decode cL_law 1229 = .ok (.iadd, 1) := dk_96 (dk_at dksL_law_46 2 rfl rfl)
theorem dL_law_1230 : decode cL_law 1230 = .ok (.iaload, 1) := dk_46 (dk_at dksL_law_46 3 rfl rfl)
theorem dL_law_1231 : decode cL_law 1231 = .ok (.aload_n 0, 1) := dk_42 (dk_at dksL_law_46 4 rfl rfl)
theorem dL_law_1232 : decode cL_law 1232 = .ok (.iload_n 3, 1) := dk_29 (dk_at dksL_law_46 5 rfl rfl)
theorem dL_law_1233 : decode cL_law 1233 = .ok (.iconst 2, 1) := dk_5 (dk_at dksL_law_46 6 rfl rfl)
theorem dL_law_1234 : decode cL_law 1234 = .ok (.iadd, 1) := dk_96 (dk_at dksL_law_46 7 rfl rfl)
theorem dL_law_1235 : decode cL_law 1235 = .ok (.iaload, 1) := dk_46 (dk_at dksL_law_46 8 rfl rfl)
theorem dL_law_1236 : decode cL_law 1236 = .ok (.aload_n 0, 1) := dk_42 (dk_at dksL_law_46 9 rfl rfl)
theorem dL_law_1237 : decode cL_law 1237 = .ok (.iload_n 3, 1) := dk_29 (dk_at dksL_law_46 10 rfl rfl)
theorem dL_law_1238 : decode cL_law 1238 = .ok (.iconst 3, 1) := dk_6 (dk_at dksL_law_46 11 rfl rfl)
theorem dL_law_1239 : decode cL_law 1239 = .ok (.iadd, 1) := dk_96 (dk_at dksL_law_46 12 rfl rfl)
theorem dL_law_1240 : decode cL_law 1240 = .ok (.iaload, 1) := dk_46 (dk_at dksL_law_46 13 rfl rfl)
theorem dL_law_1241 : decode cL_law 1241 = .ok (.invokevirtual 148, 3) := dk_182 0 148 (dk_at dksL_law_46 14 rfl rfl)
theorem dL_law_1244 : decode cL_law 1244 = .ok (.aload_n 2, 1) := dk_44 (dk_at dksL_law_46 17 rfl rfl)
theorem dL_law_1245 : decode cL_law 1245 = .ok (.aload_n 0, 1) := dk_42 (dk_at dksL_law_46 18 rfl rfl)
theorem dL_law_1246 : decode cL_law 1246 = .ok (.iload_n 3, 1) := dk_29 (dk_at dksL_law_46 19 rfl rfl)
theorem dL_law_1247 : decode cL_law 1247 = .ok (.iconst 1, 1) := dk_4 (dk_at dksL_law_46 20 rfl rfl)
theorem dL_law_1248 : decode cL_law 1248 = .ok (.iadd, 1) := dk_96 (dk_at dksL_law_46 21 rfl rfl)
theorem dL_law_1249 : decode cL_law 1249 = .ok (.iaload, 1) := dk_46 (dk_at dksL_law_46 22 rfl rfl)
theorem dL_law_1250 : decode cL_law 1250 = .ok (.aload_n 0, 1) := dk_42 (dk_at dksL_law_46 23 rfl rfl)
theorem dL_law_1251 : decode cL_law 1251 = .ok (.iload_n 3, 1) := dk_29 (dk_at dksL_law_47 0 rfl rfl)
theorem dL_law_1252 : decode cL_law 1252 = .ok (.iconst 2, 1) := dk_5 (dk_at dksL_law_47 1 rfl rfl)
theorem dL_law_1253 : decode cL_law 1253 = .ok (.iadd, 1) := dk_96 (dk_at dksL_law_47 2 rfl rfl)
theorem dL_law_1254 : decode cL_law 1254 = .ok (.iaload, 1) := dk_46 (dk_at dksL_law_47 3 rfl rfl)
theorem dL_law_1255 : decode cL_law 1255 = .ok (.aload_n 0, 1) := dk_42 (dk_at dksL_law_47 4 rfl rfl)
theorem dL_law_1256 : decode cL_law 1256 = .ok (.iload_n 3, 1) := dk_29 (dk_at dksL_law_47 5 rfl rfl)
theorem dL_law_1257 : decode cL_law 1257 = .ok (.iconst 3, 1) := dk_6 (dk_at dksL_law_47 6 rfl rfl)
theorem dL_law_1258 : decode cL_law 1258 = .ok (.iadd, 1) := dk_96 (dk_at dksL_law_47 7 rfl rfl)
theorem dL_law_1259 : decode cL_law 1259 = .ok (.iaload, 1) := dk_46 (dk_at dksL_law_47 8 rfl rfl)
theorem dL_law_1260 : decode cL_law 1260 = .ok (.invokevirtual 151, 3) := dk_182 0 151 (dk_at dksL_law_47 9 rfl rfl)
theorem dL_law_1263 : decode cL_law 1263 = .ok (.if_icmp .eq 267, 3) := dk_159 1 11 (dk_at dksL_law_47 12 rfl rfl)
theorem dL_law_1266 : decode cL_law 1266 = .ok (.iconst 0, 1) := dk_3 (dk_at dksL_law_47 15 rfl rfl)
theorem dL_law_1267 : decode cL_law 1267 = .ok (.ireturn, 1) := dk_172 (dk_at dksL_law_47 16 rfl rfl)
theorem dL_law_1268 : decode cL_law 1268 = .ok (.aload_n 1, 1) := dk_43 (dk_at dksL_law_47 17 rfl rfl)
theorem dL_law_1269 : decode cL_law 1269 = .ok (.aload_n 0, 1) := dk_42 (dk_at dksL_law_47 18 rfl rfl)
theorem dL_law_1270 : decode cL_law 1270 = .ok (.iload_n 3, 1) := dk_29 (dk_at dksL_law_47 19 rfl rfl)
theorem dL_law_1271 : decode cL_law 1271 = .ok (.iconst 1, 1) := dk_4 (dk_at dksL_law_47 20 rfl rfl)
theorem dL_law_1272 : decode cL_law 1272 = .ok (.iadd, 1) := dk_96 (dk_at dksL_law_47 21 rfl rfl)
theorem dL_law_1273 : decode cL_law 1273 = .ok (.iaload, 1) := dk_46 (dk_at dksL_law_47 22 rfl rfl)
theorem dL_law_1274 : decode cL_law 1274 = .ok (.aload_n 0, 1) := dk_42 (dk_at dksL_law_47 23 rfl rfl)
theorem dL_law_1275 : decode cL_law 1275 = .ok (.iload_n 3, 1) := dk_29 (dk_at dksL_law_48 0 rfl rfl)
theorem dL_law_1276 : decode cL_law 1276 = .ok (.iconst 2, 1) := dk_5 (dk_at dksL_law_48 1 rfl rfl)
theorem dL_law_1277 : decode cL_law 1277 = .ok (.iadd, 1) := dk_96 (dk_at dksL_law_48 2 rfl rfl)
theorem dL_law_1278 : decode cL_law 1278 = .ok (.iaload, 1) := dk_46 (dk_at dksL_law_48 3 rfl rfl)
theorem dL_law_1279 : decode cL_law 1279 = .ok (.invokevirtual 152, 3) := dk_182 0 152 (dk_at dksL_law_48 4 rfl rfl)
theorem dL_law_1282 : decode cL_law 1282 = .ok (.aload_n 2, 1) := dk_44 (dk_at dksL_law_48 7 rfl rfl)
theorem dL_law_1283 : decode cL_law 1283 = .ok (.aload_n 0, 1) := dk_42 (dk_at dksL_law_48 8 rfl rfl)
theorem dL_law_1284 : decode cL_law 1284 = .ok (.iload_n 3, 1) := dk_29 (dk_at dksL_law_48 9 rfl rfl)
theorem dL_law_1285 : decode cL_law 1285 = .ok (.iconst 1, 1) := dk_4 (dk_at dksL_law_48 10 rfl rfl)
theorem dL_law_1286 : decode cL_law 1286 = .ok (.iadd, 1) := dk_96 (dk_at dksL_law_48 11 rfl rfl)
theorem dL_law_1287 : decode cL_law 1287 = .ok (.iaload, 1) := dk_46 (dk_at dksL_law_48 12 rfl rfl)
theorem dL_law_1288 : decode cL_law 1288 = .ok (.aload_n 0, 1) := dk_42 (dk_at dksL_law_48 13 rfl rfl)
theorem dL_law_1289 : decode cL_law 1289 = .ok (.iload_n 3, 1) := dk_29 (dk_at dksL_law_48 14 rfl rfl)
theorem dL_law_1290 : decode cL_law 1290 = .ok (.iconst 2, 1) := dk_5 (dk_at dksL_law_48 15 rfl rfl)
theorem dL_law_1291 : decode cL_law 1291 = .ok (.iadd, 1) := dk_96 (dk_at dksL_law_48 16 rfl rfl)
theorem dL_law_1292 : decode cL_law 1292 = .ok (.iaload, 1) := dk_46 (dk_at dksL_law_48 17 rfl rfl)
theorem dL_law_1293 : decode cL_law 1293 = .ok (.invokevirtual 155, 3) := dk_182 0 155 (dk_at dksL_law_48 18 rfl rfl)
theorem dL_law_1296 : decode cL_law 1296 = .ok (.if_icmp .eq 234, 3) := dk_159 0 234 (dk_at dksL_law_48 21 rfl rfl)
theorem dL_law_1299 : decode cL_law 1299 = .ok (.iconst 0, 1) := dk_3 (dk_at dksL_law_49 0 rfl rfl)
theorem dL_law_1300 : decode cL_law 1300 = .ok (.ireturn, 1) := dk_172 (dk_at dksL_law_49 1 rfl rfl)
theorem dL_law_1301 : decode cL_law 1301 = .ok (.aload_n 1, 1) := dk_43 (dk_at dksL_law_49 2 rfl rfl)
theorem dL_law_1302 : decode cL_law 1302 = .ok (.aload_n 0, 1) := dk_42 (dk_at dksL_law_49 3 rfl rfl)
theorem dL_law_1303 : decode cL_law 1303 = .ok (.iload_n 3, 1) := dk_29 (dk_at dksL_law_49 4 rfl rfl)
theorem dL_law_1304 : decode cL_law 1304 = .ok (.iconst 1, 1) := dk_4 (dk_at dksL_law_49 5 rfl rfl)
theorem dL_law_1305 : decode cL_law 1305 = .ok (.iadd, 1) := dk_96 (dk_at dksL_law_49 6 rfl rfl)
theorem dL_law_1306 : decode cL_law 1306 = .ok (.iaload, 1) := dk_46 (dk_at dksL_law_49 7 rfl rfl)
theorem dL_law_1307 : decode cL_law 1307 = .ok (.aload_n 0, 1) := dk_42 (dk_at dksL_law_49 8 rfl rfl)
theorem dL_law_1308 : decode cL_law 1308 = .ok (.iload_n 3, 1) := dk_29 (dk_at dksL_law_49 9 rfl rfl)
theorem dL_law_1309 : decode cL_law 1309 = .ok (.iconst 2, 1) := dk_5 (dk_at dksL_law_49 10 rfl rfl)
theorem dL_law_1310 : decode cL_law 1310 = .ok (.iadd, 1) := dk_96 (dk_at dksL_law_49 11 rfl rfl)
theorem dL_law_1311 : decode cL_law 1311 = .ok (.iaload, 1) := dk_46 (dk_at dksL_law_49 12 rfl rfl)
theorem dL_law_1312 : decode cL_law 1312 = .ok (.aload_n 0, 1) := dk_42 (dk_at dksL_law_49 13 rfl rfl)
theorem dL_law_1313 : decode cL_law 1313 = .ok (.iload_n 3, 1) := dk_29 (dk_at dksL_law_49 14 rfl rfl)
theorem dL_law_1314 : decode cL_law 1314 = .ok (.iconst 3, 1) := dk_6 (dk_at dksL_law_49 15 rfl rfl)
theorem dL_law_1315 : decode cL_law 1315 = .ok (.iadd, 1) := dk_96 (dk_at dksL_law_49 16 rfl rfl)
theorem dL_law_1316 : decode cL_law 1316 = .ok (.iaload, 1) := dk_46 (dk_at dksL_law_49 17 rfl rfl)
theorem dL_law_1317 : decode cL_law 1317 = .ok (.invokevirtual 156, 3) := dk_182 0 156 (dk_at dksL_law_49 18 rfl rfl)
theorem dL_law_1320 : decode cL_law 1320 = .ok (.aload_n 2, 1) := dk_44 (dk_at dksL_law_49 21 rfl rfl)
theorem dL_law_1321 : decode cL_law 1321 = .ok (.aload_n 0, 1) := dk_42 (dk_at dksL_law_49 22 rfl rfl)
theorem dL_law_1322 : decode cL_law 1322 = .ok (.iload_n 3, 1) := dk_29 (dk_at dksL_law_49 23 rfl rfl)
theorem dL_law_1323 : decode cL_law 1323 = .ok (.iconst 1, 1) := dk_4 (dk_at dksL_law_50 0 rfl rfl)
theorem dL_law_1324 : decode cL_law 1324 = .ok (.iadd, 1) := dk_96 (dk_at dksL_law_50 1 rfl rfl)
theorem dL_law_1325 : decode cL_law 1325 = .ok (.iaload, 1) := dk_46 (dk_at dksL_law_50 2 rfl rfl)
theorem dL_law_1326 : decode cL_law 1326 = .ok (.aload_n 0, 1) := dk_42 (dk_at dksL_law_50 3 rfl rfl)
theorem dL_law_1327 : decode cL_law 1327 = .ok (.iload_n 3, 1) := dk_29 (dk_at dksL_law_50 4 rfl rfl)
theorem dL_law_1328 : decode cL_law 1328 = .ok (.iconst 2, 1) := dk_5 (dk_at dksL_law_50 5 rfl rfl)
theorem dL_law_1329 : decode cL_law 1329 = .ok (.iadd, 1) := dk_96 (dk_at dksL_law_50 6 rfl rfl)
theorem dL_law_1330 : decode cL_law 1330 = .ok (.iaload, 1) := dk_46 (dk_at dksL_law_50 7 rfl rfl)
theorem dL_law_1331 : decode cL_law 1331 = .ok (.aload_n 0, 1) := dk_42 (dk_at dksL_law_50 8 rfl rfl)
theorem dL_law_1332 : decode cL_law 1332 = .ok (.iload_n 3, 1) := dk_29 (dk_at dksL_law_50 9 rfl rfl)
theorem dL_law_1333 : decode cL_law 1333 = .ok (.iconst 3, 1) := dk_6 (dk_at dksL_law_50 10 rfl rfl)
theorem dL_law_1334 : decode cL_law 1334 = .ok (.iadd, 1) := dk_96 (dk_at dksL_law_50 11 rfl rfl)
theorem dL_law_1335 : decode cL_law 1335 = .ok (.iaload, 1) := dk_46 (dk_at dksL_law_50 12 rfl rfl)
theorem dL_law_1336 : decode cL_law 1336 = .ok (.invokevirtual 159, 3) := dk_182 0 159 (dk_at dksL_law_50 13 rfl rfl)
theorem dL_law_1339 : decode cL_law 1339 = .ok (.if_icmp .eq 191, 3) := dk_159 0 191 (dk_at dksL_law_50 16 rfl rfl)
theorem dL_law_1342 : decode cL_law 1342 = .ok (.iconst 0, 1) := dk_3 (dk_at dksL_law_50 19 rfl rfl)
theorem dL_law_1343 : decode cL_law 1343 = .ok (.ireturn, 1) := dk_172 (dk_at dksL_law_50 20 rfl rfl)
theorem dL_law_1344 : decode cL_law 1344 = .ok (.aload_n 1, 1) := dk_43 (dk_at dksL_law_50 21 rfl rfl)
theorem dL_law_1345 : decode cL_law 1345 = .ok (.aload_n 0, 1) := dk_42 (dk_at dksL_law_50 22 rfl rfl)
theorem dL_law_1346 : decode cL_law 1346 = .ok (.iload_n 3, 1) := dk_29 (dk_at dksL_law_50 23 rfl rfl)
theorem dL_law_1347 : decode cL_law 1347 = .ok (.iconst 1, 1) := dk_4 (dk_at dksL_law_51 0 rfl rfl)
theorem dL_law_1348 : decode cL_law 1348 = .ok (.iadd, 1) := dk_96 (dk_at dksL_law_51 1 rfl rfl)
theorem dL_law_1349 : decode cL_law 1349 = .ok (.iaload, 1) := dk_46 (dk_at dksL_law_51 2 rfl rfl)
theorem dL_law_1350 : decode cL_law 1350 = .ok (.aload_n 0, 1) := dk_42 (dk_at dksL_law_51 3 rfl rfl)
theorem dL_law_1351 : decode cL_law 1351 = .ok (.iload_n 3, 1) := dk_29 (dk_at dksL_law_51 4 rfl rfl)
theorem dL_law_1352 : decode cL_law 1352 = .ok (.iconst 2, 1) := dk_5 (dk_at dksL_law_51 5 rfl rfl)
theorem dL_law_1353 : decode cL_law 1353 = .ok (.iadd, 1) := dk_96 (dk_at dksL_law_51 6 rfl rfl)
theorem dL_law_1354 : decode cL_law 1354 = .ok (.iaload, 1) := dk_46 (dk_at dksL_law_51 7 rfl rfl)
theorem dL_law_1355 : decode cL_law 1355 = .ok (.aload_n 0, 1) := dk_42 (dk_at dksL_law_51 8 rfl rfl)
theorem dL_law_1356 : decode cL_law 1356 = .ok (.iload_n 3, 1) := dk_29 (dk_at dksL_law_51 9 rfl rfl)
theorem dL_law_1357 : decode cL_law 1357 = .ok (.iconst 3, 1) := dk_6 (dk_at dksL_law_51 10 rfl rfl)
theorem dL_law_1358 : decode cL_law 1358 = .ok (.iadd, 1) := dk_96 (dk_at dksL_law_51 11 rfl rfl)
theorem dL_law_1359 : decode cL_law 1359 = .ok (.iaload, 1) := dk_46 (dk_at dksL_law_51 12 rfl rfl)
theorem dL_law_1360 : decode cL_law 1360 = .ok (.i2l, 1) := dk_133 (dk_at dksL_law_51 13 rfl rfl)
theorem dL_law_1361 : decode cL_law 1361 = .ok (.bipush 32, 2) := dk_16 32 (dk_at dksL_law_51 14 rfl rfl)
theorem dL_law_1363 : decode cL_law 1363 = .ok (.lshl, 1) := dk_121 (dk_at dksL_law_51 16 rfl rfl)
theorem dL_law_1364 : decode cL_law 1364 = .ok (.aload_n 0, 1) := dk_42 (dk_at dksL_law_51 17 rfl rfl)
theorem dL_law_1365 : decode cL_law 1365 = .ok (.iload_n 3, 1) := dk_29 (dk_at dksL_law_51 18 rfl rfl)
theorem dL_law_1366 : decode cL_law 1366 = .ok (.iconst 4, 1) := dk_7 (dk_at dksL_law_51 19 rfl rfl)
theorem dL_law_1367 : decode cL_law 1367 = .ok (.iadd, 1) := dk_96 (dk_at dksL_law_51 20 rfl rfl)
theorem dL_law_1368 : decode cL_law 1368 = .ok (.iaload, 1) := dk_46 (dk_at dksL_law_51 21 rfl rfl)
theorem dL_law_1369 : decode cL_law 1369 = .ok (.i2l, 1) := dk_133 (dk_at dksL_law_51 22 rfl rfl)
theorem dL_law_1370 : decode cL_law 1370 = .ok (.ldc2_w 160, 3) := dk_20 0 160 (dk_at dksL_law_52 0 rfl rfl)
theorem dL_law_1373 : decode cL_law 1373 = .ok (.land, 1) := dk_127 (dk_at dksL_law_52 3 rfl rfl)
theorem dL_law_1374 : decode cL_law 1374 = .ok (.lor, 1) := dk_129 (dk_at dksL_law_52 4 rfl rfl)
theorem dL_law_1375 : decode cL_law 1375 = .ok (.invokevirtual 162, 3) := dk_182 0 162 (dk_at dksL_law_52 5 rfl rfl)
theorem dL_law_1378 : decode cL_law 1378 = .ok (.aload_n 2, 1) := dk_44 (dk_at dksL_law_52 8 rfl rfl)
theorem dL_law_1379 : decode cL_law 1379 = .ok (.aload_n 0, 1) := dk_42 (dk_at dksL_law_52 9 rfl rfl)
theorem dL_law_1380 : decode cL_law 1380 = .ok (.iload_n 3, 1) := dk_29 (dk_at dksL_law_52 10 rfl rfl)
theorem dL_law_1381 : decode cL_law 1381 = .ok (.iconst 1, 1) := dk_4 (dk_at dksL_law_52 11 rfl rfl)
theorem dL_law_1382 : decode cL_law 1382 = .ok (.iadd, 1) := dk_96 (dk_at dksL_law_52 12 rfl rfl)
theorem dL_law_1383 : decode cL_law 1383 = .ok (.iaload, 1) := dk_46 (dk_at dksL_law_52 13 rfl rfl)
theorem dL_law_1384 : decode cL_law 1384 = .ok (.aload_n 0, 1) := dk_42 (dk_at dksL_law_52 14 rfl rfl)
theorem dL_law_1385 : decode cL_law 1385 = .ok (.iload_n 3, 1) := dk_29 (dk_at dksL_law_52 15 rfl rfl)
theorem dL_law_1386 : decode cL_law 1386 = .ok (.iconst 2, 1) := dk_5 (dk_at dksL_law_52 16 rfl rfl)
theorem dL_law_1387 : decode cL_law 1387 = .ok (.iadd, 1) := dk_96 (dk_at dksL_law_52 17 rfl rfl)
theorem dL_law_1388 : decode cL_law 1388 = .ok (.iaload, 1) := dk_46 (dk_at dksL_law_52 18 rfl rfl)
theorem dL_law_1389 : decode cL_law 1389 = .ok (.aload_n 0, 1) := dk_42 (dk_at dksL_law_52 19 rfl rfl)
theorem dL_law_1390 : decode cL_law 1390 = .ok (.iload_n 3, 1) := dk_29 (dk_at dksL_law_52 20 rfl rfl)
theorem dL_law_1391 : decode cL_law 1391 = .ok (.iconst 3, 1) := dk_6 (dk_at dksL_law_52 21 rfl rfl)
theorem dL_law_1392 : decode cL_law 1392 = .ok (.iadd, 1) := dk_96 (dk_at dksL_law_52 22 rfl rfl)
theorem dL_law_1393 : decode cL_law 1393 = .ok (.iaload, 1) := dk_46 (dk_at dksL_law_52 23 rfl rfl)
theorem dL_law_1394 : decode cL_law 1394 = .ok (.i2l, 1) := dk_133 (dk_at dksL_law_53 0 rfl rfl)
theorem dL_law_1395 : decode cL_law 1395 = .ok (.bipush 32, 2) := dk_16 32 (dk_at dksL_law_53 1 rfl rfl)
theorem dL_law_1397 : decode cL_law 1397 = .ok (.lshl, 1) := dk_121 (dk_at dksL_law_53 3 rfl rfl)
theorem dL_law_1398 : decode cL_law 1398 = .ok (.aload_n 0, 1) := dk_42 (dk_at dksL_law_53 4 rfl rfl)
theorem dL_law_1399 : decode cL_law 1399 = .ok (.iload_n 3, 1) := dk_29 (dk_at dksL_law_53 5 rfl rfl)
theorem dL_law_1400 : decode cL_law 1400 = .ok (.iconst 4, 1) := dk_7 (dk_at dksL_law_53 6 rfl rfl)
theorem dL_law_1401 : decode cL_law 1401 = .ok (.iadd, 1) := dk_96 (dk_at dksL_law_53 7 rfl rfl)
theorem dL_law_1402 : decode cL_law 1402 = .ok (.iaload, 1) := dk_46 (dk_at dksL_law_53 8 rfl rfl)
theorem dL_law_1403 : decode cL_law 1403 = .ok (.i2l, 1) := dk_133 (dk_at dksL_law_53 9 rfl rfl)
theorem dL_law_1404 : decode cL_law 1404 = .ok (.ldc2_w 160, 3) := dk_20 0 160 (dk_at dksL_law_53 10 rfl rfl)
theorem dL_law_1407 : decode cL_law 1407 = .ok (.land, 1) := dk_127 (dk_at dksL_law_53 13 rfl rfl)
theorem dL_law_1408 : decode cL_law 1408 = .ok (.lor, 1) := dk_129 (dk_at dksL_law_53 14 rfl rfl)
theorem dL_law_1409 : decode cL_law 1409 = .ok (.invokevirtual 166, 3) := dk_182 0 166 (dk_at dksL_law_53 15 rfl rfl)
theorem dL_law_1412 : decode cL_law 1412 = .ok (.lcmp, 1) := dk_148 (dk_at dksL_law_53 18 rfl rfl)
theorem dL_law_1413 : decode cL_law 1413 = .ok (.ifCond .eq 117, 3) := dk_153 0 117 (dk_at dksL_law_53 19 rfl rfl)
theorem dL_law_1416 : decode cL_law 1416 = .ok (.iconst 0, 1) := dk_3 (dk_at dksL_law_53 22 rfl rfl)
theorem dL_law_1417 : decode cL_law 1417 = .ok (.ireturn, 1) := dk_172 (dk_at dksL_law_53 23 rfl rfl)
theorem dL_law_1418 : decode cL_law 1418 = .ok (.aload_n 1, 1) := dk_43 (dk_at dksL_law_54 0 rfl rfl)
theorem dL_law_1419 : decode cL_law 1419 = .ok (.aload_n 0, 1) := dk_42 (dk_at dksL_law_54 1 rfl rfl)
theorem dL_law_1420 : decode cL_law 1420 = .ok (.iload_n 3, 1) := dk_29 (dk_at dksL_law_54 2 rfl rfl)
theorem dL_law_1421 : decode cL_law 1421 = .ok (.iconst 1, 1) := dk_4 (dk_at dksL_law_54 3 rfl rfl)
theorem dL_law_1422 : decode cL_law 1422 = .ok (.iadd, 1) := dk_96 (dk_at dksL_law_54 4 rfl rfl)
theorem dL_law_1423 : decode cL_law 1423 = .ok (.iaload, 1) := dk_46 (dk_at dksL_law_54 5 rfl rfl)
theorem dL_law_1424 : decode cL_law 1424 = .ok (.aload_n 0, 1) := dk_42 (dk_at dksL_law_54 6 rfl rfl)
theorem dL_law_1425 : decode cL_law 1425 = .ok (.iload_n 3, 1) := dk_29 (dk_at dksL_law_54 7 rfl rfl)
theorem dL_law_1426 : decode cL_law 1426 = .ok (.iconst 2, 1) := dk_5 (dk_at dksL_law_54 8 rfl rfl)
theorem dL_law_1427 : decode cL_law 1427 = .ok (.iadd, 1) := dk_96 (dk_at dksL_law_54 9 rfl rfl)
theorem dL_law_1428 : decode cL_law 1428 = .ok (.iaload, 1) := dk_46 (dk_at dksL_law_54 10 rfl rfl)
theorem dL_law_1429 : decode cL_law 1429 = .ok (.aload_n 0, 1) := dk_42 (dk_at dksL_law_54 11 rfl rfl)
theorem dL_law_1430 : decode cL_law 1430 = .ok (.iload_n 3, 1) := dk_29 (dk_at dksL_law_54 12 rfl rfl)
theorem dL_law_1431 : decode cL_law 1431 = .ok (.iconst 3, 1) := dk_6 (dk_at dksL_law_54 13 rfl rfl)
theorem dL_law_1432 : decode cL_law 1432 = .ok (.iadd, 1) := dk_96 (dk_at dksL_law_54 14 rfl rfl)
theorem dL_law_1433 : decode cL_law 1433 = .ok (.iaload, 1) := dk_46 (dk_at dksL_law_54 15 rfl rfl)
theorem dL_law_1434 : decode cL_law 1434 = .ok (.invokevirtual 167, 3) := dk_182 0 167 (dk_at dksL_law_54 16 rfl rfl)
theorem dL_law_1437 : decode cL_law 1437 = .ok (.aload_n 2, 1) := dk_44 (dk_at dksL_law_54 19 rfl rfl)
theorem dL_law_1438 : decode cL_law 1438 = .ok (.aload_n 0, 1) := dk_42 (dk_at dksL_law_54 20 rfl rfl)
theorem dL_law_1439 : decode cL_law 1439 = .ok (.iload_n 3, 1) := dk_29 (dk_at dksL_law_54 21 rfl rfl)
theorem dL_law_1440 : decode cL_law 1440 = .ok (.iconst 1, 1) := dk_4 (dk_at dksL_law_54 22 rfl rfl)
theorem dL_law_1441 : decode cL_law 1441 = .ok (.iadd, 1) := dk_96 (dk_at dksL_law_54 23 rfl rfl)
theorem dL_law_1442 : decode cL_law 1442 = .ok (.iaload, 1) := dk_46 (dk_at dksL_law_55 0 rfl rfl)
theorem dL_law_1443 : decode cL_law 1443 = .ok (.aload_n 0, 1) := dk_42 (dk_at dksL_law_55 1 rfl rfl)
theorem dL_law_1444 : decode cL_law 1444 = .ok (.iload_n 3, 1) := dk_29 (dk_at dksL_law_55 2 rfl rfl)
theorem dL_law_1445 : decode cL_law 1445 = .ok (.iconst 2, 1) := dk_5 (dk_at dksL_law_55 3 rfl rfl)
theorem dL_law_1446 : decode cL_law 1446 = .ok (.iadd, 1) := dk_96 (dk_at dksL_law_55 4 rfl rfl)
theorem dL_law_1447 : decode cL_law 1447 = .ok (.iaload, 1) := dk_46 (dk_at dksL_law_55 5 rfl rfl)
theorem dL_law_1448 : decode cL_law 1448 = .ok (.aload_n 0, 1) := dk_42 (dk_at dksL_law_55 6 rfl rfl)
theorem dL_law_1449 : decode cL_law 1449 = .ok (.iload_n 3, 1) := dk_29 (dk_at dksL_law_55 7 rfl rfl)
theorem dL_law_1450 : decode cL_law 1450 = .ok (.iconst 3, 1) := dk_6 (dk_at dksL_law_55 8 rfl rfl)
theorem dL_law_1451 : decode cL_law 1451 = .ok (.iadd, 1) := dk_96 (dk_at dksL_law_55 9 rfl rfl)
theorem dL_law_1452 : decode cL_law 1452 = .ok (.iaload, 1) := dk_46 (dk_at dksL_law_55 10 rfl rfl)
theorem dL_law_1453 : decode cL_law 1453 = .ok (.invokevirtual 170, 3) := dk_182 0 170 (dk_at dksL_law_55 11 rfl rfl)
theorem dL_law_1456 : decode cL_law 1456 = .ok (.if_icmp .eq 74, 3) := dk_159 0 74 (dk_at dksL_law_55 14 rfl rfl)
theorem dL_law_1459 : decode cL_law 1459 = .ok (.iconst 0, 1) := dk_3 (dk_at dksL_law_55 17 rfl rfl)
theorem dL_law_1460 : decode cL_law 1460 = .ok (.ireturn, 1) := dk_172 (dk_at dksL_law_55 18 rfl rfl)
theorem dL_law_1461 : decode cL_law 1461 = .ok (.aload_n 1, 1) := dk_43 (dk_at dksL_law_55 19 rfl rfl)
theorem dL_law_1462 : decode cL_law 1462 = .ok (.aload_n 0, 1) := dk_42 (dk_at dksL_law_55 20 rfl rfl)
theorem dL_law_1463 : decode cL_law 1463 = .ok (.iload_n 3, 1) := dk_29 (dk_at dksL_law_55 21 rfl rfl)
theorem dL_law_1464 : decode cL_law 1464 = .ok (.iconst 1, 1) := dk_4 (dk_at dksL_law_55 22 rfl rfl)
theorem dL_law_1465 : decode cL_law 1465 = .ok (.iadd, 1) := dk_96 (dk_at dksL_law_55 23 rfl rfl)
theorem dL_law_1466 : decode cL_law 1466 = .ok (.iaload, 1) := dk_46 (dk_at dksL_law_56 0 rfl rfl)
theorem dL_law_1467 : decode cL_law 1467 = .ok (.invokevirtual 171, 3) := dk_182 0 171 (dk_at dksL_law_56 1 rfl rfl)
theorem dL_law_1470 : decode cL_law 1470 = .ok (.aload_n 2, 1) := dk_44 (dk_at dksL_law_56 4 rfl rfl)
theorem dL_law_1471 : decode cL_law 1471 = .ok (.aload_n 0, 1) := dk_42 (dk_at dksL_law_56 5 rfl rfl)
theorem dL_law_1472 : decode cL_law 1472 = .ok (.iload_n 3, 1) := dk_29 (dk_at dksL_law_56 6 rfl rfl)
theorem dL_law_1473 : decode cL_law 1473 = .ok (.iconst 1, 1) := dk_4 (dk_at dksL_law_56 7 rfl rfl)
theorem dL_law_1474 : decode cL_law 1474 = .ok (.iadd, 1) := dk_96 (dk_at dksL_law_56 8 rfl rfl)
theorem dL_law_1475 : decode cL_law 1475 = .ok (.iaload, 1) := dk_46 (dk_at dksL_law_56 9 rfl rfl)
theorem dL_law_1476 : decode cL_law 1476 = .ok (.invokevirtual 174, 3) := dk_182 0 174 (dk_at dksL_law_56 10 rfl rfl)
theorem dL_law_1479 : decode cL_law 1479 = .ok (.if_icmp .eq 51, 3) := dk_159 0 51 (dk_at dksL_law_56 13 rfl rfl)
theorem dL_law_1482 : decode cL_law 1482 = .ok (.iconst 0, 1) := dk_3 (dk_at dksL_law_56 16 rfl rfl)
theorem dL_law_1483 : decode cL_law 1483 = .ok (.ireturn, 1) := dk_172 (dk_at dksL_law_56 17 rfl rfl)
theorem dL_law_1484 : decode cL_law 1484 = .ok (.aload_n 1, 1) := dk_43 (dk_at dksL_law_56 18 rfl rfl)
theorem dL_law_1485 : decode cL_law 1485 = .ok (.aload_n 0, 1) := dk_42 (dk_at dksL_law_56 19 rfl rfl)
theorem dL_law_1486 : decode cL_law 1486 = .ok (.iload_n 3, 1) := dk_29 (dk_at dksL_law_56 20 rfl rfl)
theorem dL_law_1487 : decode cL_law 1487 = .ok (.iconst 1, 1) := dk_4 (dk_at dksL_law_56 21 rfl rfl)
theorem dL_law_1488 : decode cL_law 1488 = .ok (.iadd, 1) := dk_96 (dk_at dksL_law_56 22 rfl rfl)
theorem dL_law_1489 : decode cL_law 1489 = .ok (.iaload, 1) := dk_46 (dk_at dksL_law_56 23 rfl rfl)
theorem dL_law_1490 : decode cL_law 1490 = .ok (.invokevirtual 175, 3) := dk_182 0 175 (dk_at dksL_law_57 0 rfl rfl)
theorem dL_law_1493 : decode cL_law 1493 = .ok (.aload_n 2, 1) := dk_44 (dk_at dksL_law_57 3 rfl rfl)
theorem dL_law_1494 : decode cL_law 1494 = .ok (.aload_n 0, 1) := dk_42 (dk_at dksL_law_57 4 rfl rfl)
theorem dL_law_1495 : decode cL_law 1495 = .ok (.iload_n 3, 1) := dk_29 (dk_at dksL_law_57 5 rfl rfl)
theorem dL_law_1496 : decode cL_law 1496 = .ok (.iconst 1, 1) := dk_4 (dk_at dksL_law_57 6 rfl rfl)
theorem dL_law_1497 : decode cL_law 1497 = .ok (.iadd, 1) := dk_96 (dk_at dksL_law_57 7 rfl rfl)
theorem dL_law_1498 : decode cL_law 1498 = .ok (.iaload, 1) := dk_46 (dk_at dksL_law_57 8 rfl rfl)
theorem dL_law_1499 : decode cL_law 1499 = .ok (.invokevirtual 178, 3) := dk_182 0 178 (dk_at dksL_law_57 9 rfl rfl)
theorem dL_law_1502 : decode cL_law 1502 = .ok (.if_icmp .eq 28, 3) := dk_159 0 28 (dk_at dksL_law_57 12 rfl rfl)
theorem dL_law_1505 : decode cL_law 1505 = .ok (.iconst 0, 1) := dk_3 (dk_at dksL_law_57 15 rfl rfl)
theorem dL_law_1506 : decode cL_law 1506 = .ok (.ireturn, 1) := dk_172 (dk_at dksL_law_57 16 rfl rfl)
theorem dL_law_1507 : decode cL_law 1507 = .ok (.aload_n 1, 1) := dk_43 (dk_at dksL_law_57 17 rfl rfl)
theorem dL_law_1508 : decode cL_law 1508 = .ok (.aload_n 0, 1) := dk_42 (dk_at dksL_law_57 18 rfl rfl)
theorem dL_law_1509 : decode cL_law 1509 = .ok (.iload_n 3, 1) := dk_29 (dk_at dksL_law_57 19 rfl rfl)
theorem dL_law_1510 : decode cL_law 1510 = .ok (.iconst 1, 1) := dk_4 (dk_at dksL_law_57 20 rfl rfl)
theorem dL_law_1511 : decode cL_law 1511 = .ok (.iadd, 1) := dk_96 (dk_at dksL_law_57 21 rfl rfl)
theorem dL_law_1512 : decode cL_law 1512 = .ok (.iaload, 1) := dk_46 (dk_at dksL_law_57 22 rfl rfl)
theorem dL_law_1513 : decode cL_law 1513 = .ok (.invokevirtual 179, 3) := dk_182 0 179 (dk_at dksL_law_58 0 rfl rfl)
theorem dL_law_1516 : decode cL_law 1516 = .ok (.aload_n 2, 1) := dk_44 (dk_at dksL_law_58 3 rfl rfl)
theorem dL_law_1517 : decode cL_law 1517 = .ok (.aload_n 0, 1) := dk_42 (dk_at dksL_law_58 4 rfl rfl)
theorem dL_law_1518 : decode cL_law 1518 = .ok (.iload_n 3, 1) := dk_29 (dk_at dksL_law_58 5 rfl rfl)
theorem dL_law_1519 : decode cL_law 1519 = .ok (.iconst 1, 1) := dk_4 (dk_at dksL_law_58 6 rfl rfl)
theorem dL_law_1520 : decode cL_law 1520 = .ok (.iadd, 1) := dk_96 (dk_at dksL_law_58 7 rfl rfl)
theorem dL_law_1521 : decode cL_law 1521 = .ok (.iaload, 1) := dk_46 (dk_at dksL_law_58 8 rfl rfl)
theorem dL_law_1522 : decode cL_law 1522 = .ok (.invokevirtual 182, 3) := dk_182 0 182 (dk_at dksL_law_58 9 rfl rfl)
theorem dL_law_1525 : decode cL_law 1525 = .ok (.if_icmp .eq 5, 3) := dk_159 0 5 (dk_at dksL_law_58 12 rfl rfl)
theorem dL_law_1528 : decode cL_law 1528 = .ok (.iconst 0, 1) := dk_3 (dk_at dksL_law_58 15 rfl rfl)
theorem dL_law_1529 : decode cL_law 1529 = .ok (.ireturn, 1) := dk_172 (dk_at dksL_law_58 16 rfl rfl)
theorem dL_law_1530 : decode cL_law 1530 = .ok (.iinc 3 6, 3) := dk_132 3 6 (dk_at dksL_law_58 17 rfl rfl)
theorem dL_law_1533 : decode cL_law 1533 = .ok (.goto (-1515), 3) := dk_167 250 21 (dk_at dksL_law_58 20 rfl rfl)
theorem dL_law_1536 : decode cL_law 1536 = .ok (.iconst 1, 1) := dk_4 (dk_at dksL_law_58 23 rfl rfl)
theorem dL_law_1537 : decode cL_law 1537 = .ok (.ireturn, 1) := dk_172 (dk_at dksL_law_59 0 rfl rfl)
theorem q133 : (Jvm.Cond.initialized "BackRescueLaw") ∈ lw_all := lw_g (lw_at lw_m1 0 rfl) rfl
set_option maxRecDepth 100000
theorem q163 : (Jvm.Cond.classLink "BackRescueLaw" (7 : Nat) "BackRescue") ∈ lw_all := lw_g (lw_at lw_m1 30 rfl) rfl
theorem q165 : (Jvm.Cond.methodLink "BackRescueLaw" (9 : Nat) ({ cls := "BackRescue", name := "<init>", desc := "()V" } : Jvm.MethodName)) ∈ lw_all := lw_g (lw_at lw_m1 32 rfl) rfl
theorem q372 : (Jvm.Cond.methodLink "BackRescueLaw" (13 : Nat) ({ cls := "BackRescue", name := "feed", desc := "(IIIII)I" } : Jvm.MethodName)) ∈ lw_all := lw_g (lw_at lw_m1 239 rfl) rfl
theorem q380 : (Jvm.Cond.methodLink "BackRescueLaw" (18 : Nat) ({ cls := "BackRescue", name := "cave", desc := "(I)I" } : Jvm.MethodName)) ∈ lw_all := lw_g (lw_at lw_m2 7 rfl) rfl
theorem q782 : (Jvm.Cond.methodLink "BackRescueLaw" (23 : Nat) ({ cls := "BackRescue", name := "fault", desc := "(I)I" } : Jvm.MethodName)) ∈ lw_all := lw_g (lw_at lw_m3 169 rfl) rfl
theorem q786 : (Jvm.Cond.methodLink "BackRescueLaw" (27 : Nat) ({ cls := "BackRescue", name := "passage", desc := "(II)I" } : Jvm.MethodName)) ∈ lw_all := lw_g (lw_at lw_m3 173 rfl) rfl
theorem q800 : (Jvm.Cond.methodLink "BackRescueLaw" (32 : Nat) ({ cls := "BackRescue", name := "why", desc := "(I)I" } : Jvm.MethodName)) ∈ lw_all := lw_g (lw_at lw_m3 187 rfl) rfl
theorem q885 : (Jvm.Cond.methodLink "BackRescueLaw" (36 : Nat) ({ cls := "BackRescue", name := "by", desc := "(II)I" } : Jvm.MethodName)) ∈ lw_all := lw_g (lw_at lw_m4 32 rfl) rfl
theorem q901 : (Jvm.Cond.methodLink "BackRescueLaw" (40 : Nat) ({ cls := "BackRescue", name := "go", desc := "(I)I" } : Jvm.MethodName)) ∈ lw_all := lw_g (lw_at lw_m4 48 rfl) rfl
theorem q919 : (Jvm.Cond.methodLink "BackRescueLaw" (44 : Nat) ({ cls := "BackRescue", name := "rope", desc := "(I)I" } : Jvm.MethodName)) ∈ lw_all := lw_g (lw_at lw_m4 66 rfl) rfl
theorem q928 : (Jvm.Cond.methodLink "BackRescueLaw" (48 : Nat) ({ cls := "BackRescue", name := "put", desc := "(II)I" } : Jvm.MethodName)) ∈ lw_all := lw_g (lw_at lw_m4 75 rfl) rfl
theorem q938 : (Jvm.Cond.methodLink "BackRescueLaw" (52 : Nat) ({ cls := "BackRescue", name := "slack", desc := "(I)I" } : Jvm.MethodName)) ∈ lw_all := lw_g (lw_at lw_m4 85 rfl) rfl
theorem q943 : (Jvm.Cond.methodLink "BackRescueLaw" (56 : Nat) ({ cls := "BackRescue", name := "undo", desc := "(I)I" } : Jvm.MethodName)) ∈ lw_all := lw_g (lw_at lw_m4 90 rfl) rfl
theorem q947 : (Jvm.Cond.methodLink "BackRescueLaw" (60 : Nat) ({ cls := "BackRescue", name := "judge", desc := "(II)I" } : Jvm.MethodName)) ∈ lw_all := lw_g (lw_at lw_m4 94 rfl) rfl
theorem q988 : (Jvm.Cond.methodLink "BackRescueLaw" (64 : Nat) ({ cls := "BackRescue", name := "perform", desc := "(I)I" } : Jvm.MethodName)) ∈ lw_all := lw_g (lw_at lw_m4 135 rfl) rfl
theorem q992 : (Jvm.Cond.methodLink "BackRescueLaw" (68 : Nat) ({ cls := "BackRescue", name := "day", desc := "(II)I" } : Jvm.MethodName)) ∈ lw_all := lw_g (lw_at lw_m4 139 rfl) rfl
theorem q1006 : (Jvm.Cond.methodLink "BackRescueLaw" (72 : Nat) ({ cls := "BackRescue", name := "soonest", desc := "(II)I" } : Jvm.MethodName)) ∈ lw_all := lw_g (lw_at lw_m4 153 rfl) rfl
theorem q1041 : (Jvm.Cond.methodLink "BackRescueLaw" (76 : Nat) ({ cls := "BackRescue", name := "way", desc := "(III)I" } : Jvm.MethodName)) ∈ lw_all := lw_g (lw_at lw_m4 188 rfl) rfl
theorem q1049 : (Jvm.Cond.methodLink "BackRescueLaw" (81 : Nat) ({ cls := "BackRescue", name := "least", desc := "(I)I" } : Jvm.MethodName)) ∈ lw_all := lw_g (lw_at lw_m4 196 rfl) rfl
theorem q1053 : (Jvm.Cond.methodLink "BackRescueLaw" (85 : Nat) ({ cls := "BackRescue", name := "stands", desc := "()I" } : Jvm.MethodName)) ∈ lw_all := lw_g (lw_at lw_m4 200 rfl) rfl
theorem q1062 : (Jvm.Cond.methodLink "BackRescueLaw" (90 : Nat) ({ cls := "BackRescue", name := "before", desc := "(II)I" } : Jvm.MethodName)) ∈ lw_all := lw_g (lw_at lw_m4 209 rfl) rfl
theorem q1078 : (Jvm.Cond.methodLink "BackRescueLaw" (94 : Nat) ({ cls := "BackRescue", name := "ahead", desc := "(II)I" } : Jvm.MethodName)) ∈ lw_all := lw_g (lw_at lw_m4 225 rfl) rfl
theorem q1082 : (Jvm.Cond.methodLink "BackRescueLaw" (98 : Nat) ({ cls := "BackRescue", name := "orphans", desc := "()I" } : Jvm.MethodName)) ∈ lw_all := lw_g (lw_at lw_m4 229 rfl) rfl
theorem q1090 : (Jvm.Cond.methodLink "BackRescueLaw" (102 : Nat) ({ cls := "BackRescue", name := "orphan", desc := "(I)I" } : Jvm.MethodName)) ∈ lw_all := lw_g (lw_at lw_m4 237 rfl) rfl
theorem q1094 : (Jvm.Cond.methodLink "BackRescueLaw" (106 : Nat) ({ cls := "BackRescue", name := "ring", desc := "(II)I" } : Jvm.MethodName)) ∈ lw_all := lw_g (lw_at lw_m5 1 rfl) rfl
theorem q1098 : (Jvm.Cond.methodLink "BackRescueLaw" (110 : Nat) ({ cls := "BackRescue", name := "found", desc := "(III)J" } : Jvm.MethodName)) ∈ lw_all := lw_g (lw_at lw_m5 5 rfl) rfl
theorem q1111 : (Jvm.Cond.methodLink "BackRescueLaw" (115 : Nat) ({ cls := "BackRescue", name := "foundBy", desc := "(IIII)I" } : Jvm.MethodName)) ∈ lw_all := lw_g (lw_at lw_m5 18 rfl) rfl
theorem q1115 : (Jvm.Cond.methodLink "BackRescueLaw" (120 : Nat) ({ cls := "BackRescue", name := "surely", desc := "(III)I" } : Jvm.MethodName)) ∈ lw_all := lw_g (lw_at lw_m5 22 rfl) rfl
theorem q1119 : (Jvm.Cond.methodLink "BackRescueLaw" (124 : Nat) ({ cls := "BackRescue", name := "both", desc := "(IIII)I" } : Jvm.MethodName)) ∈ lw_all := lw_g (lw_at lw_m5 26 rfl) rfl
theorem q1123 : (Jvm.Cond.methodLink "BackRescueLaw" (128 : Nat) ({ cls := "BackRescue", name := "ropes", desc := "(III)I" } : Jvm.MethodName)) ∈ lw_all := lw_g (lw_at lw_m5 30 rfl) rfl
theorem q1140 : (Jvm.Cond.methodLink "BackRescueLaw" (132 : Nat) ({ cls := "BackRescue", name := "watch", desc := "(II)I" } : Jvm.MethodName)) ∈ lw_all := lw_g (lw_at lw_m5 47 rfl) rfl
theorem q1148 : (Jvm.Cond.methodLink "BackRescueLaw" (136 : Nat) ({ cls := "BackRescue", name := "slacks", desc := "(II)I" } : Jvm.MethodName)) ∈ lw_all := lw_g (lw_at lw_m5 55 rfl) rfl
theorem q1161 : (Jvm.Cond.methodLink "BackRescueLaw" (140 : Nat) ({ cls := "BackRescue", name := "attempt", desc := "(II)I" } : Jvm.MethodName)) ∈ lw_all := lw_g (lw_at lw_m5 68 rfl) rfl
theorem q1170 : (Jvm.Cond.methodLink "BackRescueLaw" (144 : Nat) ({ cls := "BackRescue", name := "withstands", desc := "(I)I" } : Jvm.MethodName)) ∈ lw_all := lw_g (lw_at lw_m5 77 rfl) rfl
theorem q1189 : (Jvm.Cond.methodLink "BackRescueLaw" (148 : Nat) ({ cls := "BackRescue", name := "chance", desc := "(III)I" } : Jvm.MethodName)) ∈ lw_all := lw_g (lw_at lw_m5 96 rfl) rfl
theorem q1215 : (Jvm.Cond.methodLink "BackRescueLaw" (152 : Nat) ({ cls := "BackRescue", name := "best", desc := "(II)I" } : Jvm.MethodName)) ∈ lw_all := lw_g (lw_at lw_m5 122 rfl) rfl
theorem q1219 : (Jvm.Cond.methodLink "BackRescueLaw" (156 : Nat) ({ cls := "BackRescue", name := "numbers", desc := "(III)I" } : Jvm.MethodName)) ∈ lw_all := lw_g (lw_at lw_m5 126 rfl) rfl
theorem q1311 : (Jvm.Cond.methodLink "BackRescueLaw" (162 : Nat) ({ cls := "BackRescue", name := "write", desc := "(IIJ)J" } : Jvm.MethodName)) ∈ lw_all := lw_g (lw_at lw_m5 218 rfl) rfl
theorem q1366 : (Jvm.Cond.methodLink "BackRescueLaw" (167 : Nat) ({ cls := "BackRescue", name := "lists", desc := "(III)I" } : Jvm.MethodName)) ∈ lw_all := lw_g (lw_at lw_m6 33 rfl) rfl
theorem q1370 : (Jvm.Cond.methodLink "BackRescueLaw" (171 : Nat) ({ cls := "BackRescue", name := "image", desc := "(I)I" } : Jvm.MethodName)) ∈ lw_all := lw_g (lw_at lw_m6 37 rfl) rfl
theorem q1374 : (Jvm.Cond.methodLink "BackRescueLaw" (175 : Nat) ({ cls := "BackRescue", name := "restore", desc := "(I)I" } : Jvm.MethodName)) ∈ lw_all := lw_g (lw_at lw_m6 41 rfl) rfl
theorem q1378 : (Jvm.Cond.methodLink "BackRescueLaw" (179 : Nat) ({ cls := "BackRescue", name := "count", desc := "(I)I" } : Jvm.MethodName)) ∈ lw_all := lw_g (lw_at lw_m6 45 rfl) rfl
theorem q1382 : (Jvm.Cond.classLink "BackRescueLaw" (10 : Nat) "BackRescueModel") ∈ lw_all := lw_g (lw_at lw_m6 49 rfl) rfl
theorem q1384 : (Jvm.Cond.methodLink "BackRescueLaw" (12 : Nat) ({ cls := "BackRescueModel", name := "<init>", desc := "()V" } : Jvm.MethodName)) ∈ lw_all := lw_g (lw_at lw_m6 51 rfl) rfl
theorem q1491 : (Jvm.Cond.methodLink "BackRescueLaw" (17 : Nat) ({ cls := "BackRescueModel", name := "feed", desc := "(IIIII)I" } : Jvm.MethodName)) ∈ lw_all := lw_g (lw_at lw_m6 158 rfl) rfl
theorem q1495 : (Jvm.Cond.methodLink "BackRescueLaw" (22 : Nat) ({ cls := "BackRescueModel", name := "cave", desc := "(I)I" } : Jvm.MethodName)) ∈ lw_all := lw_g (lw_at lw_m6 162 rfl) rfl
theorem q1604 : (Jvm.Cond.methodLink "BackRescueLaw" (26 : Nat) ({ cls := "BackRescueModel", name := "fault", desc := "(I)I" } : Jvm.MethodName)) ∈ lw_all := lw_g (lw_at lw_m7 31 rfl) rfl
theorem q1608 : (Jvm.Cond.methodLink "BackRescueLaw" (31 : Nat) ({ cls := "BackRescueModel", name := "passage", desc := "(II)I" } : Jvm.MethodName)) ∈ lw_all := lw_g (lw_at lw_m7 35 rfl) rfl
theorem q1616 : (Jvm.Cond.methodLink "BackRescueLaw" (35 : Nat) ({ cls := "BackRescueModel", name := "why", desc := "(I)I" } : Jvm.MethodName)) ∈ lw_all := lw_g (lw_at lw_m7 43 rfl) rfl
theorem q1644 : (Jvm.Cond.methodLink "BackRescueLaw" (39 : Nat) ({ cls := "BackRescueModel", name := "by", desc := "(II)I" } : Jvm.MethodName)) ∈ lw_all := lw_g (lw_at lw_m7 71 rfl) rfl
theorem q1659 : (Jvm.Cond.methodLink "BackRescueLaw" (43 : Nat) ({ cls := "BackRescueModel", name := "go", desc := "(I)I" } : Jvm.MethodName)) ∈ lw_all := lw_g (lw_at lw_m7 86 rfl) rfl
theorem q1679 : (Jvm.Cond.methodLink "BackRescueLaw" (47 : Nat) ({ cls := "BackRescueModel", name := "rope", desc := "(I)I" } : Jvm.MethodName)) ∈ lw_all := lw_g (lw_at lw_m7 106 rfl) rfl
theorem q1683 : (Jvm.Cond.methodLink "BackRescueLaw" (51 : Nat) ({ cls := "BackRescueModel", name := "put", desc := "(II)I" } : Jvm.MethodName)) ∈ lw_all := lw_g (lw_at lw_m7 110 rfl) rfl
theorem q1695 : (Jvm.Cond.methodLink "BackRescueLaw" (55 : Nat) ({ cls := "BackRescueModel", name := "slack", desc := "(I)I" } : Jvm.MethodName)) ∈ lw_all := lw_g (lw_at lw_m7 122 rfl) rfl
theorem q1700 : (Jvm.Cond.methodLink "BackRescueLaw" (59 : Nat) ({ cls := "BackRescueModel", name := "undo", desc := "(I)I" } : Jvm.MethodName)) ∈ lw_all := lw_g (lw_at lw_m7 127 rfl) rfl
theorem q1705 : (Jvm.Cond.methodLink "BackRescueLaw" (63 : Nat) ({ cls := "BackRescueModel", name := "judge", desc := "(II)I" } : Jvm.MethodName)) ∈ lw_all := lw_g (lw_at lw_m7 132 rfl) rfl
theorem q1735 : (Jvm.Cond.methodLink "BackRescueLaw" (67 : Nat) ({ cls := "BackRescueModel", name := "perform", desc := "(I)I" } : Jvm.MethodName)) ∈ lw_all := lw_g (lw_at lw_m7 162 rfl) rfl
theorem q1739 : (Jvm.Cond.methodLink "BackRescueLaw" (71 : Nat) ({ cls := "BackRescueModel", name := "day", desc := "(II)I" } : Jvm.MethodName)) ∈ lw_all := lw_g (lw_at lw_m7 166 rfl) rfl
theorem q1753 : (Jvm.Cond.methodLink "BackRescueLaw" (75 : Nat) ({ cls := "BackRescueModel", name := "soonest", desc := "(II)I" } : Jvm.MethodName)) ∈ lw_all := lw_g (lw_at lw_m7 180 rfl) rfl
theorem q1783 : (Jvm.Cond.methodLink "BackRescueLaw" (80 : Nat) ({ cls := "BackRescueModel", name := "way", desc := "(III)I" } : Jvm.MethodName)) ∈ lw_all := lw_g (lw_at lw_m7 210 rfl) rfl
theorem q1791 : (Jvm.Cond.methodLink "BackRescueLaw" (84 : Nat) ({ cls := "BackRescueModel", name := "least", desc := "(I)I" } : Jvm.MethodName)) ∈ lw_all := lw_g (lw_at lw_m7 218 rfl) rfl
theorem q1795 : (Jvm.Cond.methodLink "BackRescueLaw" (89 : Nat) ({ cls := "BackRescueModel", name := "stands", desc := "()I" } : Jvm.MethodName)) ∈ lw_all := lw_g (lw_at lw_m7 222 rfl) rfl
theorem q1807 : (Jvm.Cond.methodLink "BackRescueLaw" (93 : Nat) ({ cls := "BackRescueModel", name := "before", desc := "(II)I" } : Jvm.MethodName)) ∈ lw_all := lw_g (lw_at lw_m7 234 rfl) rfl
theorem q1819 : (Jvm.Cond.methodLink "BackRescueLaw" (97 : Nat) ({ cls := "BackRescueModel", name := "ahead", desc := "(II)I" } : Jvm.MethodName)) ∈ lw_all := lw_g (lw_at lw_m8 6 rfl) rfl
theorem q1823 : (Jvm.Cond.methodLink "BackRescueLaw" (101 : Nat) ({ cls := "BackRescueModel", name := "orphans", desc := "()I" } : Jvm.MethodName)) ∈ lw_all := lw_g (lw_at lw_m8 10 rfl) rfl
theorem q1831 : (Jvm.Cond.methodLink "BackRescueLaw" (105 : Nat) ({ cls := "BackRescueModel", name := "orphan", desc := "(I)I" } : Jvm.MethodName)) ∈ lw_all := lw_g (lw_at lw_m8 18 rfl) rfl
theorem q1835 : (Jvm.Cond.methodLink "BackRescueLaw" (109 : Nat) ({ cls := "BackRescueModel", name := "ring", desc := "(II)I" } : Jvm.MethodName)) ∈ lw_all := lw_g (lw_at lw_m8 22 rfl) rfl
theorem q1839 : (Jvm.Cond.methodLink "BackRescueLaw" (114 : Nat) ({ cls := "BackRescueModel", name := "found", desc := "(III)J" } : Jvm.MethodName)) ∈ lw_all := lw_g (lw_at lw_m8 26 rfl) rfl
theorem q1851 : (Jvm.Cond.methodLink "BackRescueLaw" (119 : Nat) ({ cls := "BackRescueModel", name := "foundBy", desc := "(IIII)I" } : Jvm.MethodName)) ∈ lw_all := lw_g (lw_at lw_m8 38 rfl) rfl
theorem q1855 : (Jvm.Cond.methodLink "BackRescueLaw" (123 : Nat) ({ cls := "BackRescueModel", name := "surely", desc := "(III)I" } : Jvm.MethodName)) ∈ lw_all := lw_g (lw_at lw_m8 42 rfl) rfl
theorem q1859 : (Jvm.Cond.methodLink "BackRescueLaw" (127 : Nat) ({ cls := "BackRescueModel", name := "both", desc := "(IIII)I" } : Jvm.MethodName)) ∈ lw_all := lw_g (lw_at lw_m8 46 rfl) rfl
theorem q1871 : (Jvm.Cond.methodLink "BackRescueLaw" (131 : Nat) ({ cls := "BackRescueModel", name := "ropes", desc := "(III)I" } : Jvm.MethodName)) ∈ lw_all := lw_g (lw_at lw_m8 58 rfl) rfl
theorem q1878 : (Jvm.Cond.methodLink "BackRescueLaw" (135 : Nat) ({ cls := "BackRescueModel", name := "watch", desc := "(II)I" } : Jvm.MethodName)) ∈ lw_all := lw_g (lw_at lw_m8 65 rfl) rfl
theorem q1886 : (Jvm.Cond.methodLink "BackRescueLaw" (139 : Nat) ({ cls := "BackRescueModel", name := "slacks", desc := "(II)I" } : Jvm.MethodName)) ∈ lw_all := lw_g (lw_at lw_m8 73 rfl) rfl
theorem q1898 : (Jvm.Cond.methodLink "BackRescueLaw" (143 : Nat) ({ cls := "BackRescueModel", name := "attempt", desc := "(II)I" } : Jvm.MethodName)) ∈ lw_all := lw_g (lw_at lw_m8 85 rfl) rfl
theorem q1906 : (Jvm.Cond.methodLink "BackRescueLaw" (147 : Nat) ({ cls := "BackRescueModel", name := "withstands", desc := "(I)I" } : Jvm.MethodName)) ∈ lw_all := lw_g (lw_at lw_m8 93 rfl) rfl
theorem q1921 : (Jvm.Cond.methodLink "BackRescueLaw" (151 : Nat) ({ cls := "BackRescueModel", name := "chance", desc := "(III)I" } : Jvm.MethodName)) ∈ lw_all := lw_g (lw_at lw_m8 108 rfl) rfl
theorem q1940 : (Jvm.Cond.methodLink "BackRescueLaw" (155 : Nat) ({ cls := "BackRescueModel", name := "best", desc := "(II)I" } : Jvm.MethodName)) ∈ lw_all := lw_g (lw_at lw_m8 127 rfl) rfl
theorem q1944 : (Jvm.Cond.methodLink "BackRescueLaw" (159 : Nat) ({ cls := "BackRescueModel", name := "numbers", desc := "(III)I" } : Jvm.MethodName)) ∈ lw_all := lw_g (lw_at lw_m8 131 rfl) rfl
theorem q1948 : (Jvm.Cond.methodLink "BackRescueLaw" (166 : Nat) ({ cls := "BackRescueModel", name := "write", desc := "(IIJ)J" } : Jvm.MethodName)) ∈ lw_all := lw_g (lw_at lw_m8 135 rfl) rfl
theorem q1956 : (Jvm.Cond.methodLink "BackRescueLaw" (170 : Nat) ({ cls := "BackRescueModel", name := "lists", desc := "(III)I" } : Jvm.MethodName)) ∈ lw_all := lw_g (lw_at lw_m8 143 rfl) rfl
theorem q1960 : (Jvm.Cond.methodLink "BackRescueLaw" (174 : Nat) ({ cls := "BackRescueModel", name := "image", desc := "(I)I" } : Jvm.MethodName)) ∈ lw_all := lw_g (lw_at lw_m8 147 rfl) rfl
theorem q1964 : (Jvm.Cond.methodLink "BackRescueLaw" (178 : Nat) ({ cls := "BackRescueModel", name := "restore", desc := "(I)I" } : Jvm.MethodName)) ∈ lw_all := lw_g (lw_at lw_m8 151 rfl) rfl
theorem q1968 : (Jvm.Cond.methodLink "BackRescueLaw" (182 : Nat) ({ cls := "BackRescueModel", name := "count", desc := "(I)I" } : Jvm.MethodName)) ∈ lw_all := lw_g (lw_at lw_m8 155 rfl) rfl
theorem q1972 : (Jvm.Cond.constantLong "BackRescueLaw" (160 : Nat) (4294967295 : Int64)) ∈ lw_all := lw_g (lw_at lw_m8 159 rfl) rfl
theorem q246 : (Jvm.Cond.arrayClass Jvm.ClassFile.FieldType.int) ∈ lw_all := lw_g (lw_at lw_m1 113 rfl) rfl
set_option maxRecDepth 100000
theorem q273 : (Jvm.Cond.arrayOver (Jvm.ClassFile.FieldType.object "BackRescue$State")) ∈ lw_tbl := lw_at lw_m1 140 rfl
theorem q275 : (Jvm.Cond.arrayOver (Jvm.ClassFile.FieldType.object "BackRescue$Numbers")) ∈ lw_tbl := lw_at lw_m1 142 rfl
theorem q286 : (Jvm.Cond.arrayClass Jvm.ClassFile.FieldType.byte) ∈ lw_all := lw_g (lw_at lw_m1 153 rfl) rfl
theorem q287 : (Jvm.Cond.arrayClass Jvm.ClassFile.FieldType.boolean) ∈ lw_all := lw_g (lw_at lw_m1 154 rfl) rfl
theorem q288 : (Jvm.Cond.arrayClass Jvm.ClassFile.FieldType.long) ∈ lw_all := lw_g (lw_at lw_m1 155 rfl) rfl
theorem q289 : (Jvm.Cond.arrayOver (Jvm.ClassFile.FieldType.object "BackRescue$Cave")) ∈ lw_tbl := lw_at lw_m1 156 rfl
theorem q1310 : (Jvm.Cond.arrayClass Jvm.ClassFile.FieldType.short) ∈ lw_all := lw_g (lw_at lw_m5 217 rfl) rfl
