/-! the law's own entry -/
set_option maxRecDepth 100000
abbrev cL_law : ByteArray := code
def dkwL_law_58 : List UInt8 := [29, 4, 96, 46, 182, 0, 198, 159, 0, 5, 3, 172, 132, 3, 6, 167, 250, 7, 4, 172]
abbrev dktL_law_58 : List UInt8 := dkwL_law_58 ++ []
def dkwL_law_57 : List UInt8 := [42, 29, 4, 96, 46, 182, 0, 194, 159, 0, 28, 3, 172, 43, 42, 29, 4, 96, 46, 182, 0, 195, 44, 42]
abbrev dktL_law_57 : List UInt8 := dkwL_law_57 ++ dktL_law_58
def dkwL_law_56 : List UInt8 := [172, 43, 182, 0, 187, 44, 182, 0, 190, 159, 0, 51, 3, 172, 43, 42, 29, 4, 96, 46, 182, 0, 191, 44]
abbrev dktL_law_56 : List UInt8 := dkwL_law_56 ++ dktL_law_57
def dkwL_law_55 : List UInt8 := [182, 0, 179, 44, 182, 0, 182, 159, 0, 77, 3, 172, 43, 182, 0, 183, 44, 182, 0, 186, 159, 0, 64, 3]
abbrev dktL_law_55 : List UInt8 := dkwL_law_55 ++ dktL_law_56
def dkwL_law_54 : List UInt8 := [42, 29, 4, 96, 46, 182, 0, 175, 44, 42, 29, 4, 96, 46, 182, 0, 178, 159, 0, 90, 3, 172, 43]
abbrev dktL_law_54 : List UInt8 := dkwL_law_54 ++ dktL_law_55
def dkwL_law_53 : List UInt8 := [43, 42, 29, 4, 96, 46, 182, 0, 171, 44, 42, 29, 4, 96, 46, 182, 0, 174, 159, 0, 113, 3, 172, 43]
abbrev dktL_law_53 : List UInt8 := dkwL_law_53 ++ dktL_law_54
def dkwL_law_52 : List UInt8 := [46, 42, 29, 6, 96, 46, 42, 29, 7, 96, 46, 42, 29, 8, 96, 46, 182, 0, 170, 159, 0, 136, 3, 172]
abbrev dktL_law_52 : List UInt8 := dkwL_law_52 ++ dktL_law_53
def dkwL_law_51 : List UInt8 := [46, 42, 29, 7, 96, 46, 42, 29, 8, 96, 46, 182, 0, 166, 44, 42, 29, 4, 96, 46, 42, 29, 5, 96]
abbrev dktL_law_51 : List UInt8 := dkwL_law_51 ++ dktL_law_52
def dkwL_law_50 : List UInt8 := [46, 182, 0, 165, 159, 0, 199, 3, 172, 43, 42, 29, 4, 96, 46, 42, 29, 5, 96, 46, 42, 29, 6, 96]
abbrev dktL_law_50 : List UInt8 := dkwL_law_50 ++ dktL_law_51
def dkwL_law_49 : List UInt8 := [46, 42, 29, 6, 96, 46, 182, 0, 162, 44, 42, 29, 4, 96, 46, 42, 29, 5, 96, 46, 42, 29, 6, 96]
abbrev dktL_law_49 : List UInt8 := dkwL_law_49 ++ dktL_law_50
def dkwL_law_48 : List UInt8 := [46, 42, 29, 6, 96, 46, 182, 0, 161, 159, 0, 242, 3, 172, 43, 42, 29, 4, 96, 46, 42, 29, 5, 96]
abbrev dktL_law_48 : List UInt8 := dkwL_law_48 ++ dktL_law_49
def dkwL_law_47 : List UInt8 := [46, 42, 29, 5, 96, 46, 42, 29, 6, 96, 46, 182, 0, 158, 44, 42, 29, 4, 96, 46, 42, 29, 5, 96]
abbrev dktL_law_47 : List UInt8 := dkwL_law_47 ++ dktL_law_48
def dkwL_law_46 : List UInt8 := [44, 42, 29, 4, 96, 46, 42, 29, 5, 96, 46, 182, 0, 157, 159, 1, 29, 3, 172, 43, 42, 29, 4, 96]
abbrev dktL_law_46 : List UInt8 := dkwL_law_46 ++ dktL_law_47
def dkwL_law_45 : List UInt8 := [96, 46, 182, 0, 153, 159, 1, 62, 3, 172, 43, 42, 29, 4, 96, 46, 42, 29, 5, 96, 46, 182, 0, 154]
abbrev dktL_law_45 : List UInt8 := dkwL_law_45 ++ dktL_law_46
def dkwL_law_44 : List UInt8 := [172, 43, 42, 29, 4, 96, 46, 42, 29, 5, 96, 46, 182, 0, 150, 44, 42, 29, 4, 96, 46, 42, 29, 5]
abbrev dktL_law_44 : List UInt8 := dkwL_law_44 ++ dktL_law_45
def dkwL_law_43 : List UInt8 := [182, 0, 142, 44, 182, 0, 145, 159, 1, 108, 3, 172, 43, 182, 0, 146, 44, 182, 0, 149, 159, 1, 95, 3]
abbrev dktL_law_43 : List UInt8 := dkwL_law_43 ++ dktL_law_44
def dkwL_law_42 : List UInt8 := [182, 0, 138, 44, 42, 29, 4, 96, 46, 42, 29, 5, 96, 46, 182, 0, 141, 159, 1, 121, 3, 172, 43]
abbrev dktL_law_42 : List UInt8 := dkwL_law_42 ++ dktL_law_43
def dkwL_law_41 : List UInt8 := [29, 4, 96, 46, 182, 0, 137, 159, 1, 154, 3, 172, 43, 42, 29, 4, 96, 46, 42, 29, 5, 96, 46]
abbrev dktL_law_41 : List UInt8 := dkwL_law_41 ++ dktL_law_42
def dkwL_law_40 : List UInt8 := [29, 6, 96, 46, 182, 0, 133, 148, 153, 1, 177, 3, 172, 43, 42, 29, 4, 96, 46, 182, 0, 134, 44, 42]
abbrev dktL_law_40 : List UInt8 := dkwL_law_40 ++ dktL_law_41
def dkwL_law_39 : List UInt8 := [29, 5, 96, 46, 42, 29, 6, 96, 46, 182, 0, 129, 44, 42, 29, 4, 96, 46, 42, 29, 5, 96, 46, 42]
abbrev dktL_law_39 : List UInt8 := dkwL_law_39 ++ dktL_law_40
def dkwL_law_38 : List UInt8 := [182, 0, 125, 44, 42, 29, 4, 96, 46, 182, 0, 128, 159, 1, 221, 3, 172, 43, 42, 29, 4, 96, 46, 42]
abbrev dktL_law_38 : List UInt8 := dkwL_law_38 ++ dktL_law_39
def dkwL_law_37 : List UInt8 := [29, 4, 96, 46, 42, 29, 5, 96, 46, 182, 0, 124, 159, 1, 244, 3, 172, 43, 42, 29, 4, 96, 46]
abbrev dktL_law_37 : List UInt8 := dkwL_law_37 ++ dktL_law_38
def dkwL_law_36 : List UInt8 := [182, 0, 120, 159, 2, 21, 3, 172, 43, 42, 29, 4, 96, 46, 42, 29, 5, 96, 46, 182, 0, 121, 44, 42]
abbrev dktL_law_36 : List UInt8 := dkwL_law_36 ++ dktL_law_37
def dkwL_law_35 : List UInt8 := [29, 4, 96, 46, 42, 29, 5, 96, 46, 182, 0, 117, 44, 42, 29, 4, 96, 46, 42, 29, 5, 96, 46]
abbrev dktL_law_35 : List UInt8 := dkwL_law_35 ++ dktL_law_36
def dkwL_law_34 : List UInt8 := [182, 0, 113, 44, 42, 29, 4, 96, 46, 42, 29, 5, 96, 46, 182, 0, 116, 159, 2, 54, 3, 172, 43, 42]
abbrev dktL_law_34 : List UInt8 := dkwL_law_34 ++ dktL_law_35
def dkwL_law_33 : List UInt8 := [29, 4, 96, 46, 182, 0, 112, 159, 2, 87, 3, 172, 43, 42, 29, 4, 96, 46, 42, 29, 5, 96, 46]
abbrev dktL_law_33 : List UInt8 := dkwL_law_33 ++ dktL_law_34
def dkwL_law_32 : List UInt8 := [43, 182, 0, 105, 44, 182, 0, 108, 159, 2, 110, 3, 172, 43, 42, 29, 4, 96, 46, 182, 0, 109, 44, 42]
abbrev dktL_law_32 : List UInt8 := dkwL_law_32 ++ dktL_law_33
def dkwL_law_31 : List UInt8 := [44, 42, 29, 4, 96, 46, 42, 29, 5, 96, 46, 42, 29, 6, 96, 46, 182, 0, 104, 159, 2, 123, 3, 172]
abbrev dktL_law_31 : List UInt8 := dkwL_law_31 ++ dktL_law_32
def dkwL_law_30 : List UInt8 := [159, 2, 166, 3, 172, 43, 42, 29, 4, 96, 46, 42, 29, 5, 96, 46, 42, 29, 6, 96, 46, 182, 0, 101]
abbrev dktL_law_30 : List UInt8 := dkwL_law_30 ++ dktL_law_31
def dkwL_law_29 : List UInt8 := [46, 42, 29, 5, 96, 46, 182, 0, 97, 44, 42, 29, 4, 96, 46, 42, 29, 5, 96, 46, 182, 0, 100]
abbrev dktL_law_29 : List UInt8 := dkwL_law_29 ++ dktL_law_30
def dkwL_law_28 : List UInt8 := [44, 42, 29, 4, 96, 46, 42, 29, 5, 96, 46, 182, 0, 96, 159, 2, 199, 3, 172, 43, 42, 29, 4, 96]
abbrev dktL_law_28 : List UInt8 := dkwL_law_28 ++ dktL_law_29
def dkwL_law_27 : List UInt8 := [96, 46, 182, 0, 92, 159, 2, 232, 3, 172, 43, 42, 29, 4, 96, 46, 42, 29, 5, 96, 46, 182, 0, 93]
abbrev dktL_law_27 : List UInt8 := dkwL_law_27 ++ dktL_law_28
def dkwL_law_26 : List UInt8 := [4, 96, 46, 182, 0, 88, 159, 2, 255, 3, 172, 43, 42, 29, 4, 96, 46, 182, 0, 89, 44, 42, 29, 4]
abbrev dktL_law_26 : List UInt8 := dkwL_law_26 ++ dktL_law_27
def dkwL_law_25 : List UInt8 := [182, 0, 80, 44, 182, 0, 84, 159, 3, 22, 3, 172, 43, 42, 29, 4, 96, 46, 182, 0, 85, 44, 42, 29]
abbrev dktL_law_25 : List UInt8 := dkwL_law_25 ++ dktL_law_26
def dkwL_law_24 : List UInt8 := [182, 0, 76, 44, 42, 29, 4, 96, 46, 42, 29, 5, 96, 46, 182, 0, 79, 159, 3, 35, 3, 172, 43]
abbrev dktL_law_24 : List UInt8 := dkwL_law_24 ++ dktL_law_25
def dkwL_law_23 : List UInt8 := [4, 96, 46, 182, 0, 75, 159, 3, 68, 3, 172, 43, 42, 29, 4, 96, 46, 42, 29, 5, 96, 46]
abbrev dktL_law_23 : List UInt8 := dkwL_law_23 ++ dktL_law_24
def dkwL_law_22 : List UInt8 := [29, 6, 96, 46, 182, 0, 71, 159, 3, 91, 3, 172, 43, 42, 29, 4, 96, 46, 182, 0, 72, 44, 42, 29]
abbrev dktL_law_22 : List UInt8 := dkwL_law_22 ++ dktL_law_23
def dkwL_law_21 : List UInt8 := [29, 5, 96, 46, 42, 29, 6, 96, 46, 182, 0, 68, 44, 42, 29, 4, 96, 46, 42, 29, 5, 96, 46, 42]
abbrev dktL_law_21 : List UInt8 := dkwL_law_21 ++ dktL_law_22
def dkwL_law_20 : List UInt8 := [182, 0, 64, 44, 42, 29, 4, 96, 46, 182, 0, 67, 159, 3, 134, 3, 172, 43, 42, 29, 4, 96, 46, 42]
abbrev dktL_law_20 : List UInt8 := dkwL_law_20 ++ dktL_law_21
def dkwL_law_19 : List UInt8 := [182, 0, 60, 44, 42, 29, 4, 96, 46, 182, 0, 63, 159, 3, 157, 3, 172, 43, 42, 29, 4, 96, 46]
abbrev dktL_law_19 : List UInt8 := dkwL_law_19 ++ dktL_law_20
def dkwL_law_18 : List UInt8 := [29, 4, 96, 46, 42, 29, 5, 96, 46, 182, 0, 59, 159, 3, 180, 3, 172, 43, 42, 29, 4, 96, 46]
abbrev dktL_law_18 : List UInt8 := dkwL_law_18 ++ dktL_law_19
def dkwL_law_17 : List UInt8 := [182, 0, 55, 159, 3, 213, 3, 172, 43, 42, 29, 4, 96, 46, 42, 29, 5, 96, 46, 182, 0, 56, 44, 42]
abbrev dktL_law_17 : List UInt8 := dkwL_law_17 ++ dktL_law_18
def dkwL_law_16 : List UInt8 := [6, 96, 46, 182, 0, 52, 44, 42, 29, 4, 96, 46, 42, 29, 5, 96, 46, 42, 29, 6, 96, 46]
abbrev dktL_law_16 : List UInt8 := dkwL_law_16 ++ dktL_law_17
def dkwL_law_15 : List UInt8 := [5, 96, 46, 182, 0, 51, 159, 4, 0, 3, 172, 43, 42, 29, 4, 96, 46, 42, 29, 5, 96, 46, 42, 29]
abbrev dktL_law_15 : List UInt8 := dkwL_law_15 ++ dktL_law_16
def dkwL_law_14 : List UInt8 := [3, 172, 43, 42, 29, 4, 96, 46, 42, 29, 5, 96, 46, 182, 0, 48, 44, 42, 29, 4, 96, 46, 42, 29]
abbrev dktL_law_14 : List UInt8 := dkwL_law_14 ++ dktL_law_15
def dkwL_law_13 : List UInt8 := [29, 5, 96, 46, 182, 0, 44, 44, 42, 29, 4, 96, 46, 42, 29, 5, 96, 46, 182, 0, 47, 159, 4, 33]
abbrev dktL_law_13 : List UInt8 := dkwL_law_13 ++ dktL_law_14
def dkwL_law_12 : List UInt8 := [29, 4, 96, 46, 42, 29, 5, 96, 46, 182, 0, 43, 159, 4, 66, 3, 172, 43, 42, 29, 4, 96, 46, 42]
abbrev dktL_law_12 : List UInt8 := dkwL_law_12 ++ dktL_law_13
def dkwL_law_11 : List UInt8 := [182, 0, 39, 159, 4, 99, 3, 172, 43, 42, 29, 4, 96, 46, 42, 29, 5, 96, 46, 182, 0, 40, 44, 42]
abbrev dktL_law_11 : List UInt8 := dkwL_law_11 ++ dktL_law_12
def dkwL_law_10 : List UInt8 := [182, 0, 34, 159, 4, 122, 3, 172, 43, 42, 29, 4, 96, 46, 182, 0, 35, 44, 42, 29, 4, 96, 46]
abbrev dktL_law_10 : List UInt8 := dkwL_law_10 ++ dktL_law_11
def dkwL_law_9 : List UInt8 := [29, 4, 96, 46, 42, 29, 5, 96, 46, 182, 0, 31, 44, 42, 29, 4, 96, 46, 42, 29, 5, 96, 46]
abbrev dktL_law_9 : List UInt8 := dkwL_law_9 ++ dktL_law_10
def dkwL_law_8 : List UInt8 := [182, 0, 27, 44, 42, 29, 4, 96, 46, 42, 29, 5, 96, 46, 182, 0, 30, 159, 4, 155, 3, 172, 43, 42]
abbrev dktL_law_8 : List UInt8 := dkwL_law_8 ++ dktL_law_9
def dkwL_law_7 : List UInt8 := [42, 29, 6, 96, 46, 182, 0, 26, 159, 4, 188, 3, 172, 43, 42, 29, 4, 96, 46, 42, 29, 5, 96, 46]
abbrev dktL_law_7 : List UInt8 := dkwL_law_7 ++ dktL_law_8
def dkwL_law_6 : List UInt8 := [42, 29, 5, 96, 46, 42, 29, 6, 96, 46, 182, 0, 22, 44, 42, 29, 4, 96, 46, 42, 29, 5, 96, 46]
abbrev dktL_law_6 : List UInt8 := dkwL_law_6 ++ dktL_law_7
def dkwL_law_5 : List UInt8 := [42, 29, 4, 96, 46, 42, 29, 5, 96, 46, 182, 0, 21, 159, 4, 231, 3, 172, 43, 42, 29, 4, 96, 46]
abbrev dktL_law_5 : List UInt8 := dkwL_law_5 ++ dktL_law_6
def dkwL_law_4 : List UInt8 := [46, 182, 0, 17, 159, 5, 8, 3, 172, 43, 42, 29, 4, 96, 46, 42, 29, 5, 96, 46, 182, 0, 18, 44]
abbrev dktL_law_4 : List UInt8 := dkwL_law_4 ++ dktL_law_5
def dkwL_law_3 : List UInt8 := [43, 42, 29, 4, 96, 46, 42, 29, 5, 96, 46, 182, 0, 13, 44, 42, 29, 4, 96, 46, 42, 29, 5, 96]
abbrev dktL_law_3 : List UInt8 := dkwL_law_3 ++ dktL_law_4
def dkwL_law_2 : List UInt8 := [170, 0, 0, 0, 0, 5, 231, 0, 0, 0, 0, 0, 0, 0, 44, 0, 0, 0, 195, 0, 0, 0, 228, 0, 0, 1, 5, 0, 0, 1, 48, 0, 0, 1, 81, 0, 0, 1, 114, 0, 0, 1, 137, 0, 0, 1, 170, 0, 0, 1, 203, 0, 0, 1, 236, 0, 0, 2, 23, 0, 0, 2, 56, 0, 0, 2, 79, 0, 0, 2, 102, 0, 0, 2, 145, 0, 0, 2, 168, 0, 0, 2, 201, 0, 0, 2, 214, 0, 0, 2, 237, 0, 0, 3, 4, 0, 0, 3, 37, 0, 0, 3, 70, 0, 0, 3, 113, 0, 0, 3, 126, 0, 0, 3, 149, 0, 0, 3, 182, 0, 0, 3, 215, 0, 0, 3, 248, 0, 0, 4, 15, 0, 0, 4, 59, 0, 0, 4, 82, 0, 0, 4, 115, 0, 0, 4, 128, 0, 0, 4, 141, 0, 0, 4, 174, 0, 0, 4, 207, 0, 0, 4, 250, 0, 0, 5, 37, 0, 0, 5, 100, 0, 0, 5, 123, 0, 0, 5, 146, 0, 0, 5, 159, 0, 0, 5, 172, 0, 0, 5, 185, 0, 0, 5, 208]
abbrev dktL_law_2 : List UInt8 := dkwL_law_2 ++ dktL_law_3
def dkwL_law_1 : List UInt8 := [163, 5, 246, 42, 29, 46, 16, 63, 126]
abbrev dktL_law_1 : List UInt8 := dkwL_law_1 ++ dktL_law_2
def dkwL_law_0 : List UInt8 := [187, 0, 7, 89, 183, 0, 9, 76, 187, 0, 10, 89, 183, 0, 12, 77, 3, 62, 29, 42, 190, 16, 6, 100]
abbrev dktL_law_0 : List UInt8 := dkwL_law_0 ++ dktL_law_1
theorem dksL_law_0 : cL_law.data.toList.drop 0 = dktL_law_0 := by decide +kernel
theorem dksL_law_1 : cL_law.data.toList.drop 24 = dktL_law_1 := dk_seg dksL_law_0 24 rfl rfl
theorem dksL_law_2 : cL_law.data.toList.drop 33 = dktL_law_2 := dk_seg dksL_law_1 9 rfl rfl
theorem dksL_law_3 : cL_law.data.toList.drop 228 = dktL_law_3 := dk_seg dksL_law_2 195 rfl rfl
theorem dksL_law_4 : cL_law.data.toList.drop 252 = dktL_law_4 := dk_seg dksL_law_3 24 rfl rfl
theorem dksL_law_5 : cL_law.data.toList.drop 276 = dktL_law_5 := dk_seg dksL_law_4 24 rfl rfl
theorem dksL_law_6 : cL_law.data.toList.drop 300 = dktL_law_6 := dk_seg dksL_law_5 24 rfl rfl
theorem dksL_law_7 : cL_law.data.toList.drop 324 = dktL_law_7 := dk_seg dksL_law_6 24 rfl rfl
theorem dksL_law_8 : cL_law.data.toList.drop 348 = dktL_law_8 := dk_seg dksL_law_7 24 rfl rfl
theorem dksL_law_9 : cL_law.data.toList.drop 372 = dktL_law_9 := dk_seg dksL_law_8 24 rfl rfl
theorem dksL_law_10 : cL_law.data.toList.drop 395 = dktL_law_10 := dk_seg dksL_law_9 23 rfl rfl
theorem dksL_law_11 : cL_law.data.toList.drop 418 = dktL_law_11 := dk_seg dksL_law_10 23 rfl rfl
theorem dksL_law_12 : cL_law.data.toList.drop 442 = dktL_law_12 := dk_seg dksL_law_11 24 rfl rfl
theorem dksL_law_13 : cL_law.data.toList.drop 466 = dktL_law_13 := dk_seg dksL_law_12 24 rfl rfl
theorem dksL_law_14 : cL_law.data.toList.drop 490 = dktL_law_14 := dk_seg dksL_law_13 24 rfl rfl
theorem dksL_law_15 : cL_law.data.toList.drop 514 = dktL_law_15 := dk_seg dksL_law_14 24 rfl rfl
theorem dksL_law_16 : cL_law.data.toList.drop 538 = dktL_law_16 := dk_seg dksL_law_15 24 rfl rfl
theorem dksL_law_17 : cL_law.data.toList.drop 560 = dktL_law_17 := dk_seg dksL_law_16 22 rfl rfl
theorem dksL_law_18 : cL_law.data.toList.drop 584 = dktL_law_18 := dk_seg dksL_law_17 24 rfl rfl
theorem dksL_law_19 : cL_law.data.toList.drop 607 = dktL_law_19 := dk_seg dksL_law_18 23 rfl rfl
theorem dksL_law_20 : cL_law.data.toList.drop 630 = dktL_law_20 := dk_seg dksL_law_19 23 rfl rfl
theorem dksL_law_21 : cL_law.data.toList.drop 654 = dktL_law_21 := dk_seg dksL_law_20 24 rfl rfl
theorem dksL_law_22 : cL_law.data.toList.drop 678 = dktL_law_22 := dk_seg dksL_law_21 24 rfl rfl
theorem dksL_law_23 : cL_law.data.toList.drop 702 = dktL_law_23 := dk_seg dksL_law_22 24 rfl rfl
theorem dksL_law_24 : cL_law.data.toList.drop 724 = dktL_law_24 := dk_seg dksL_law_23 22 rfl rfl
theorem dksL_law_25 : cL_law.data.toList.drop 747 = dktL_law_25 := dk_seg dksL_law_24 23 rfl rfl
theorem dksL_law_26 : cL_law.data.toList.drop 771 = dktL_law_26 := dk_seg dksL_law_25 24 rfl rfl
theorem dksL_law_27 : cL_law.data.toList.drop 795 = dktL_law_27 := dk_seg dksL_law_26 24 rfl rfl
theorem dksL_law_28 : cL_law.data.toList.drop 819 = dktL_law_28 := dk_seg dksL_law_27 24 rfl rfl
theorem dksL_law_29 : cL_law.data.toList.drop 843 = dktL_law_29 := dk_seg dksL_law_28 24 rfl rfl
theorem dksL_law_30 : cL_law.data.toList.drop 866 = dktL_law_30 := dk_seg dksL_law_29 23 rfl rfl
theorem dksL_law_31 : cL_law.data.toList.drop 890 = dktL_law_31 := dk_seg dksL_law_30 24 rfl rfl
theorem dksL_law_32 : cL_law.data.toList.drop 914 = dktL_law_32 := dk_seg dksL_law_31 24 rfl rfl
theorem dksL_law_33 : cL_law.data.toList.drop 938 = dktL_law_33 := dk_seg dksL_law_32 24 rfl rfl
theorem dksL_law_34 : cL_law.data.toList.drop 961 = dktL_law_34 := dk_seg dksL_law_33 23 rfl rfl
theorem dksL_law_35 : cL_law.data.toList.drop 985 = dktL_law_35 := dk_seg dksL_law_34 24 rfl rfl
theorem dksL_law_36 : cL_law.data.toList.drop 1008 = dktL_law_36 := dk_seg dksL_law_35 23 rfl rfl
theorem dksL_law_37 : cL_law.data.toList.drop 1032 = dktL_law_37 := dk_seg dksL_law_36 24 rfl rfl
theorem dksL_law_38 : cL_law.data.toList.drop 1055 = dktL_law_38 := dk_seg dksL_law_37 23 rfl rfl
theorem dksL_law_39 : cL_law.data.toList.drop 1079 = dktL_law_39 := dk_seg dksL_law_38 24 rfl rfl
theorem dksL_law_40 : cL_law.data.toList.drop 1103 = dktL_law_40 := dk_seg dksL_law_39 24 rfl rfl
theorem dksL_law_41 : cL_law.data.toList.drop 1127 = dktL_law_41 := dk_seg dksL_law_40 24 rfl rfl
theorem dksL_law_42 : cL_law.data.toList.drop 1150 = dktL_law_42 := dk_seg dksL_law_41 23 rfl rfl
theorem dksL_law_43 : cL_law.data.toList.drop 1173 = dktL_law_43 := dk_seg dksL_law_42 23 rfl rfl
theorem dksL_law_44 : cL_law.data.toList.drop 1197 = dktL_law_44 := dk_seg dksL_law_43 24 rfl rfl
theorem dksL_law_45 : cL_law.data.toList.drop 1221 = dktL_law_45 := dk_seg dksL_law_44 24 rfl rfl
theorem dksL_law_46 : cL_law.data.toList.drop 1245 = dktL_law_46 := dk_seg dksL_law_45 24 rfl rfl
theorem dksL_law_47 : cL_law.data.toList.drop 1269 = dktL_law_47 := dk_seg dksL_law_46 24 rfl rfl
theorem dksL_law_48 : cL_law.data.toList.drop 1293 = dktL_law_48 := dk_seg dksL_law_47 24 rfl rfl
theorem dksL_law_49 : cL_law.data.toList.drop 1317 = dktL_law_49 := dk_seg dksL_law_48 24 rfl rfl
theorem dksL_law_50 : cL_law.data.toList.drop 1341 = dktL_law_50 := dk_seg dksL_law_49 24 rfl rfl
theorem dksL_law_51 : cL_law.data.toList.drop 1365 = dktL_law_51 := dk_seg dksL_law_50 24 rfl rfl
theorem dksL_law_52 : cL_law.data.toList.drop 1389 = dktL_law_52 := dk_seg dksL_law_51 24 rfl rfl
theorem dksL_law_53 : cL_law.data.toList.drop 1413 = dktL_law_53 := dk_seg dksL_law_52 24 rfl rfl
theorem dksL_law_54 : cL_law.data.toList.drop 1437 = dktL_law_54 := dk_seg dksL_law_53 24 rfl rfl
theorem dksL_law_55 : cL_law.data.toList.drop 1460 = dktL_law_55 := dk_seg dksL_law_54 23 rfl rfl
theorem dksL_law_56 : cL_law.data.toList.drop 1484 = dktL_law_56 := dk_seg dksL_law_55 24 rfl rfl
theorem dksL_law_57 : cL_law.data.toList.drop 1508 = dktL_law_57 := dk_seg dksL_law_56 24 rfl rfl
theorem dksL_law_58 : cL_law.data.toList.drop 1532 = dktL_law_58 := dk_seg dksL_law_57 24 rfl rfl
theorem dL_law_0 : decode cL_law 0 = .ok (.new 7, 3) := dk_187 0 7 (dk_at dksL_law_0 0 rfl rfl)
theorem dL_law_3 : decode cL_law 3 = .ok (.dup, 1) := dk_89 (dk_at dksL_law_0 3 rfl rfl)
theorem dL_law_4 : decode cL_law 4 = .ok (.invokespecial 9, 3) := dk_183 0 9 (dk_at dksL_law_0 4 rfl rfl)
theorem dL_law_7 : decode cL_law 7 = .ok (.astore_n 1, 1) := dk_76 (dk_at dksL_law_0 7 rfl rfl)
theorem dL_law_8 : decode cL_law 8 = .ok (.new 10, 3) := dk_187 0 10 (dk_at dksL_law_0 8 rfl rfl)
theorem dL_law_11 : decode cL_law 11 = .ok (.dup, 1) := dk_89 (dk_at dksL_law_0 11 rfl rfl)
theorem dL_law_12 : decode cL_law 12 = .ok (.invokespecial 12, 3) := dk_183 0 12 (dk_at dksL_law_0 12 rfl rfl)
theorem dL_law_15 : decode cL_law 15 = .ok (.astore_n 2, 1) := dk_77 (dk_at dksL_law_0 15 rfl rfl)
theorem dL_law_16 : decode cL_law 16 = .ok (.iconst 0, 1) := dk_3 (dk_at dksL_law_0 16 rfl rfl)
theorem dL_law_17 : decode cL_law 17 = .ok (.istore_n 3, 1) := dk_62 (dk_at dksL_law_0 17 rfl rfl)
theorem dL_law_18 : decode cL_law 18 = .ok (.iload_n 3, 1) := dk_29 (dk_at dksL_law_0 18 rfl rfl)
theorem dL_law_19 : decode cL_law 19 = .ok (.aload_n 0, 1) := dk_42 (dk_at dksL_law_0 19 rfl rfl)
theorem dL_law_20 : decode cL_law 20 = .ok (.arraylength, 1) := dk_190 (dk_at dksL_law_0 20 rfl rfl)
theorem dL_law_21 : decode cL_law 21 = .ok (.bipush 6, 2) := dk_16 6 (dk_at dksL_law_0 21 rfl rfl)
theorem dL_law_23 : decode cL_law 23 = .ok (.isub, 1) := dk_100 (dk_at dksL_law_0 23 rfl rfl)
theorem dL_law_24 : decode cL_law 24 = .ok (.if_icmp .gt 1526, 3) := dk_163 5 246 (dk_at dksL_law_1 0 rfl rfl)
theorem dL_law_27 : decode cL_law 27 = .ok (.aload_n 0, 1) := dk_42 (dk_at dksL_law_1 3 rfl rfl)
theorem dL_law_28 : decode cL_law 28 = .ok (.iload_n 3, 1) := dk_29 (dk_at dksL_law_1 4 rfl rfl)
theorem dL_law_29 : decode cL_law 29 = .ok (.iaload, 1) := dk_46 (dk_at dksL_law_1 5 rfl rfl)
theorem dL_law_30 : decode cL_law 30 = .ok (.bipush 63, 2) := dk_16 63 (dk_at dksL_law_1 6 rfl rfl)
theorem dL_law_32 : decode cL_law 32 = .ok (.iand, 1) := dk_126 (dk_at dksL_law_1 8 rfl rfl)
theorem dL_law_33 : decode cL_law 33 = .ok (.tableswitch 1511 0 44 #[195, 228, 261, 304, 337, 370, 393, 426, 459, 492, 535, 568, 591, 614, 657, 680, 713, 726, 749, 772, 805, 838, 881, 894, 917, 950, 983, 1016, 1039, 1083, 1106, 1139, 1152, 1165, 1198, 1231, 1274, 1317, 1380, 1403, 1426, 1439, 1452, 1465, 1488], 195) := by decide +kernel
theorem dL_law_228 : decode cL_law 228 = .ok (.aload_n 1, 1) := dk_43 (dk_at dksL_law_3 0 rfl rfl)
theorem dL_law_229 : decode cL_law 229 = .ok (.aload_n 0, 1) := dk_42 (dk_at dksL_law_3 1 rfl rfl)
theorem dL_law_230 : decode cL_law 230 = .ok (.iload_n 3, 1) := dk_29 (dk_at dksL_law_3 2 rfl rfl)
theorem dL_law_231 : decode cL_law 231 = .ok (.iconst 1, 1) := dk_4 (dk_at dksL_law_3 3 rfl rfl)
theorem dL_law_232 : decode cL_law 232 = .ok (.iadd, 1) := dk_96 (dk_at dksL_law_3 4 rfl rfl)
theorem dL_law_233 : decode cL_law 233 = .ok (.iaload, 1) := dk_46 (dk_at dksL_law_3 5 rfl rfl)
theorem dL_law_234 : decode cL_law 234 = .ok (.aload_n 0, 1) := dk_42 (dk_at dksL_law_3 6 rfl rfl)
theorem dL_law_235 : decode cL_law 235 = .ok (.iload_n 3, 1) := dk_29 (dk_at dksL_law_3 7 rfl rfl)
theorem dL_law_236 : decode cL_law 236 = .ok (.iconst 2, 1) := dk_5 (dk_at dksL_law_3 8 rfl rfl)
theorem dL_law_237 : decode cL_law 237 = .ok (.iadd, 1) := dk_96 (dk_at dksL_law_3 9 rfl rfl)
theorem dL_law_238 : decode cL_law 238 = .ok (.iaload, 1) := dk_46 (dk_at dksL_law_3 10 rfl rfl)
theorem dL_law_239 : decode cL_law 239 = .ok (.invokevirtual 13, 3) := dk_182 0 13 (dk_at dksL_law_3 11 rfl rfl)
theorem dL_law_242 : decode cL_law 242 = .ok (.aload_n 2, 1) := dk_44 (dk_at dksL_law_3 14 rfl rfl)
theorem dL_law_243 : decode cL_law 243 = .ok (.aload_n 0, 1) := dk_42 (dk_at dksL_law_3 15 rfl rfl)
theorem dL_law_244 : decode cL_law 244 = .ok (.iload_n 3, 1) := dk_29 (dk_at dksL_law_3 16 rfl rfl)
theorem dL_law_245 : decode cL_law 245 = .ok (.iconst 1, 1) := dk_4 (dk_at dksL_law_3 17 rfl rfl)
theorem dL_law_246 : decode cL_law 246 = .ok (.iadd, 1) := dk_96 (dk_at dksL_law_3 18 rfl rfl)
theorem dL_law_247 : decode cL_law 247 = .ok (.iaload, 1) := dk_46 (dk_at dksL_law_3 19 rfl rfl)
theorem dL_law_248 : decode cL_law 248 = .ok (.aload_n 0, 1) := dk_42 (dk_at dksL_law_3 20 rfl rfl)
theorem dL_law_249 : decode cL_law 249 = .ok (.iload_n 3, 1) := dk_29 (dk_at dksL_law_3 21 rfl rfl)
theorem dL_law_250 : decode cL_law 250 = .ok (.iconst 2, 1) := dk_5 (dk_at dksL_law_3 22 rfl rfl)
theorem dL_law_251 : decode cL_law 251 = .ok (.iadd, 1) := dk_96 (dk_at dksL_law_3 23 rfl rfl)
theorem dL_law_252 : decode cL_law 252 = .ok (.iaload, 1) := dk_46 (dk_at dksL_law_4 0 rfl rfl)
theorem dL_law_253 : decode cL_law 253 = .ok (.invokevirtual 17, 3) := dk_182 0 17 (dk_at dksL_law_4 1 rfl rfl)
theorem dL_law_256 : decode cL_law 256 = .ok (.if_icmp .eq 1288, 3) := dk_159 5 8 (dk_at dksL_law_4 4 rfl rfl)
theorem dL_law_259 : decode cL_law 259 = .ok (.iconst 0, 1) := dk_3 (dk_at dksL_law_4 7 rfl rfl)
theorem dL_law_260 : decode cL_law 260 = .ok (.ireturn, 1) := dk_172 (dk_at dksL_law_4 8 rfl rfl)
theorem dL_law_261 : decode cL_law 261 = .ok (.aload_n 1, 1) := dk_43 (dk_at dksL_law_4 9 rfl rfl)
theorem dL_law_262 : decode cL_law 262 = .ok (.aload_n 0, 1) := dk_42 (dk_at dksL_law_4 10 rfl rfl)
theorem dL_law_263 : decode cL_law 263 = .ok (.iload_n 3, 1) := dk_29 (dk_at dksL_law_4 11 rfl rfl)
theorem dL_law_264 : decode cL_law 264 = .ok (.iconst 1, 1) := dk_4 (dk_at dksL_law_4 12 rfl rfl)
theorem dL_law_265 : decode cL_law 265 = .ok (.iadd, 1) := dk_96 (dk_at dksL_law_4 13 rfl rfl)
theorem dL_law_266 : decode cL_law 266 = .ok (.iaload, 1) := dk_46 (dk_at dksL_law_4 14 rfl rfl)
theorem dL_law_267 : decode cL_law 267 = .ok (.aload_n 0, 1) := dk_42 (dk_at dksL_law_4 15 rfl rfl)
theorem dL_law_268 : decode cL_law 268 = .ok (.iload_n 3, 1) := dk_29 (dk_at dksL_law_4 16 rfl rfl)
theorem dL_law_269 : decode cL_law 269 = .ok (.iconst 2, 1) := dk_5 (dk_at dksL_law_4 17 rfl rfl)
theorem dL_law_270 : decode cL_law 270 = .ok (.iadd, 1) := dk_96 (dk_at dksL_law_4 18 rfl rfl)
theorem dL_law_271 : decode cL_law 271 = .ok (.iaload, 1) := dk_46 (dk_at dksL_law_4 19 rfl rfl)
theorem dL_law_272 : decode cL_law 272 = .ok (.invokevirtual 18, 3) := dk_182 0 18 (dk_at dksL_law_4 20 rfl rfl)
theorem dL_law_275 : decode cL_law 275 = .ok (.aload_n 2, 1) := dk_44 (dk_at dksL_law_4 23 rfl rfl)
theorem dL_law_276 : decode cL_law 276 = .ok (.aload_n 0, 1) := dk_42 (dk_at dksL_law_5 0 rfl rfl)
theorem dL_law_277 : decode cL_law 277 = .ok (.iload_n 3, 1) := dk_29 (dk_at dksL_law_5 1 rfl rfl)
theorem dL_law_278 : decode cL_law 278 = .ok (.iconst 1, 1) := dk_4 (dk_at dksL_law_5 2 rfl rfl)
theorem dL_law_279 : decode cL_law 279 = .ok (.iadd, 1) := dk_96 (dk_at dksL_law_5 3 rfl rfl)
theorem dL_law_280 : decode cL_law 280 = .ok (.iaload, 1) := dk_46 (dk_at dksL_law_5 4 rfl rfl)
theorem dL_law_281 : decode cL_law 281 = .ok (.aload_n 0, 1) := dk_42 (dk_at dksL_law_5 5 rfl rfl)
theorem dL_law_282 : decode cL_law 282 = .ok (.iload_n 3, 1) := dk_29 (dk_at dksL_law_5 6 rfl rfl)
theorem dL_law_283 : decode cL_law 283 = .ok (.iconst 2, 1) := dk_5 (dk_at dksL_law_5 7 rfl rfl)
theorem dL_law_284 : decode cL_law 284 = .ok (.iadd, 1) := dk_96 (dk_at dksL_law_5 8 rfl rfl)
theorem dL_law_285 : decode cL_law 285 = .ok (.iaload, 1) := dk_46 (dk_at dksL_law_5 9 rfl rfl)
theorem dL_law_286 : decode cL_law 286 = .ok (.invokevirtual 21, 3) := dk_182 0 21 (dk_at dksL_law_5 10 rfl rfl)
theorem dL_law_289 : decode cL_law 289 = .ok (.if_icmp .eq 1255, 3) := dk_159 4 231 (dk_at dksL_law_5 13 rfl rfl)
theorem dL_law_292 : decode cL_law 292 = .ok (.iconst 0, 1) := dk_3 (dk_at dksL_law_5 16 rfl rfl)
theorem dL_law_293 : decode cL_law 293 = .ok (.ireturn, 1) := dk_172 (dk_at dksL_law_5 17 rfl rfl)
theorem dL_law_294 : decode cL_law 294 = .ok (.aload_n 1, 1) := dk_43 (dk_at dksL_law_5 18 rfl rfl)
theorem dL_law_295 : decode cL_law 295 = .ok (.aload_n 0, 1) := dk_42 (dk_at dksL_law_5 19 rfl rfl)
theorem dL_law_296 : decode cL_law 296 = .ok (.iload_n 3, 1) := dk_29 (dk_at dksL_law_5 20 rfl rfl)
theorem dL_law_297 : decode cL_law 297 = .ok (.iconst 1, 1) := dk_4 (dk_at dksL_law_5 21 rfl rfl)
theorem dL_law_298 : decode cL_law 298 = .ok (.iadd, 1) := dk_96 (dk_at dksL_law_5 22 rfl rfl)
theorem dL_law_299 : decode cL_law 299 = .ok (.iaload, 1) := dk_46 (dk_at dksL_law_5 23 rfl rfl)
theorem dL_law_300 : decode cL_law 300 = .ok (.aload_n 0, 1) := dk_42 (dk_at dksL_law_6 0 rfl rfl)
theorem dL_law_301 : decode cL_law 301 = .ok (.iload_n 3, 1) := dk_29 (dk_at dksL_law_6 1 rfl rfl)
theorem dL_law_302 : decode cL_law 302 = .ok (.iconst 2, 1) := dk_5 (dk_at dksL_law_6 2 rfl rfl)
theorem dL_law_303 : decode cL_law 303 = .ok (.iadd, 1) := dk_96 (dk_at dksL_law_6 3 rfl rfl)
theorem dL_law_304 : decode cL_law 304 = .ok (.iaload, 1) := dk_46 (dk_at dksL_law_6 4 rfl rfl)
theorem dL_law_305 : decode cL_law 305 = .ok (.aload_n 0, 1) := dk_42 (dk_at dksL_law_6 5 rfl rfl)
theorem dL_law_306 : decode cL_law 306 = .ok (.iload_n 3, 1) := dk_29 (dk_at dksL_law_6 6 rfl rfl)
theorem dL_law_307 : decode cL_law 307 = .ok (.iconst 3, 1) := dk_6 (dk_at dksL_law_6 7 rfl rfl)
theorem dL_law_308 : decode cL_law 308 = .ok (.iadd, 1) := dk_96 (dk_at dksL_law_6 8 rfl rfl)
theorem dL_law_309 : decode cL_law 309 = .ok (.iaload, 1) := dk_46 (dk_at dksL_law_6 9 rfl rfl)
theorem dL_law_310 : decode cL_law 310 = .ok (.invokevirtual 22, 3) := dk_182 0 22 (dk_at dksL_law_6 10 rfl rfl)
theorem dL_law_313 : decode cL_law 313 = .ok (.aload_n 2, 1) := dk_44 (dk_at dksL_law_6 13 rfl rfl)
theorem dL_law_314 : decode cL_law 314 = .ok (.aload_n 0, 1) := dk_42 (dk_at dksL_law_6 14 rfl rfl)
theorem dL_law_315 : decode cL_law 315 = .ok (.iload_n 3, 1) := dk_29 (dk_at dksL_law_6 15 rfl rfl)
theorem dL_law_316 : decode cL_law 316 = .ok (.iconst 1, 1) := dk_4 (dk_at dksL_law_6 16 rfl rfl)
theorem dL_law_317 : decode cL_law 317 = .ok (.iadd, 1) := dk_96 (dk_at dksL_law_6 17 rfl rfl)
theorem dL_law_318 : decode cL_law 318 = .ok (.iaload, 1) := dk_46 (dk_at dksL_law_6 18 rfl rfl)
theorem dL_law_319 : decode cL_law 319 = .ok (.aload_n 0, 1) := dk_42 (dk_at dksL_law_6 19 rfl rfl)
theorem dL_law_320 : decode cL_law 320 = .ok (.iload_n 3, 1) := dk_29 (dk_at dksL_law_6 20 rfl rfl)
theorem dL_law_321 : decode cL_law 321 = .ok (.iconst 2, 1) := dk_5 (dk_at dksL_law_6 21 rfl rfl)
theorem dL_law_322 : decode cL_law 322 = .ok (.iadd, 1) := dk_96 (dk_at dksL_law_6 22 rfl rfl)
theorem dL_law_323 : decode cL_law 323 = .ok (.iaload, 1) := dk_46 (dk_at dksL_law_6 23 rfl rfl)
theorem dL_law_324 : decode cL_law 324 = .ok (.aload_n 0, 1) := dk_42 (dk_at dksL_law_7 0 rfl rfl)
theorem dL_law_325 : decode cL_law 325 = .ok (.iload_n 3, 1) := dk_29 (dk_at dksL_law_7 1 rfl rfl)
theorem dL_law_326 : decode cL_law 326 = .ok (.iconst 3, 1) := dk_6 (dk_at dksL_law_7 2 rfl rfl)
theorem dL_law_327 : decode cL_law 327 = .ok (.iadd, 1) := dk_96 (dk_at dksL_law_7 3 rfl rfl)
theorem dL_law_328 : decode cL_law 328 = .ok (.iaload, 1) := dk_46 (dk_at dksL_law_7 4 rfl rfl)
theorem dL_law_329 : decode cL_law 329 = .ok (.invokevirtual 26, 3) := dk_182 0 26 (dk_at dksL_law_7 5 rfl rfl)
theorem dL_law_332 : decode cL_law 332 = .ok (.if_icmp .eq 1212, 3) := dk_159 4 188 (dk_at dksL_law_7 8 rfl rfl)
theorem dL_law_335 : decode cL_law 335 = .ok (.iconst 0, 1) := dk_3 (dk_at dksL_law_7 11 rfl rfl)
theorem dL_law_336 : decode cL_law 336 = .ok (.ireturn, 1) := dk_172 (dk_at dksL_law_7 12 rfl rfl)
theorem dL_law_337 : decode cL_law 337 = .ok (.aload_n 1, 1) := dk_43 (dk_at dksL_law_7 13 rfl rfl)
theorem dL_law_338 : decode cL_law 338 = .ok (.aload_n 0, 1) := dk_42 (dk_at dksL_law_7 14 rfl rfl)
theorem dL_law_339 : decode cL_law 339 = .ok (.iload_n 3, 1) := dk_29 (dk_at dksL_law_7 15 rfl rfl)
theorem dL_law_340 : decode cL_law 340 = .ok (.iconst 1, 1) := dk_4 (dk_at dksL_law_7 16 rfl rfl)
theorem dL_law_341 : decode cL_law 341 = .ok (.iadd, 1) := dk_96 (dk_at dksL_law_7 17 rfl rfl)
theorem dL_law_342 : decode cL_law 342 = .ok (.iaload, 1) := dk_46 (dk_at dksL_law_7 18 rfl rfl)
theorem dL_law_343 : decode cL_law 343 = .ok (.aload_n 0, 1) := dk_42 (dk_at dksL_law_7 19 rfl rfl)
theorem dL_law_344 : decode cL_law 344 = .ok (.iload_n 3, 1) := dk_29 (dk_at dksL_law_7 20 rfl rfl)
theorem dL_law_345 : decode cL_law 345 = .ok (.iconst 2, 1) := dk_5 (dk_at dksL_law_7 21 rfl rfl)
theorem dL_law_346 : decode cL_law 346 = .ok (.iadd, 1) := dk_96 (dk_at dksL_law_7 22 rfl rfl)
theorem dL_law_347 : decode cL_law 347 = .ok (.iaload, 1) := dk_46 (dk_at dksL_law_7 23 rfl rfl)
theorem dL_law_348 : decode cL_law 348 = .ok (.invokevirtual 27, 3) := dk_182 0 27 (dk_at dksL_law_8 0 rfl rfl)
theorem dL_law_351 : decode cL_law 351 = .ok (.aload_n 2, 1) := dk_44 (dk_at dksL_law_8 3 rfl rfl)
theorem dL_law_352 : decode cL_law 352 = .ok (.aload_n 0, 1) := dk_42 (dk_at dksL_law_8 4 rfl rfl)
theorem dL_law_353 : decode cL_law 353 = .ok (.iload_n 3, 1) := dk_29 (dk_at dksL_law_8 5 rfl rfl)
theorem dL_law_354 : decode cL_law 354 = .ok (.iconst 1, 1) := dk_4 (dk_at dksL_law_8 6 rfl rfl)
theorem dL_law_355 : decode cL_law 355 = .ok (.iadd, 1) := dk_96 (dk_at dksL_law_8 7 rfl rfl)
theorem dL_law_356 : decode cL_law 356 = .ok (.iaload, 1) := dk_46 (dk_at dksL_law_8 8 rfl rfl)
theorem dL_law_357 : decode cL_law 357 = .ok (.aload_n 0, 1) := dk_42 (dk_at dksL_law_8 9 rfl rfl)
theorem dL_law_358 : decode cL_law 358 = .ok (.iload_n 3, 1) := dk_29 (dk_at dksL_law_8 10 rfl rfl)
theorem dL_law_359 : decode cL_law 359 = .ok (.iconst 2, 1) := dk_5 (dk_at dksL_law_8 11 rfl rfl)
theorem dL_law_360 : decode cL_law 360 = .ok (.iadd, 1) := dk_96 (dk_at dksL_law_8 12 rfl rfl)
theorem dL_law_361 : decode cL_law 361 = .ok (.iaload, 1) := dk_46 (dk_at dksL_law_8 13 rfl rfl)
theorem dL_law_362 : decode cL_law 362 = .ok (.invokevirtual 30, 3) := dk_182 0 30 (dk_at dksL_law_8 14 rfl rfl)
theorem dL_law_365 : decode cL_law 365 = .ok (.if_icmp .eq 1179, 3) := dk_159 4 155 (dk_at dksL_law_8 17 rfl rfl)
theorem dL_law_368 : decode cL_law 368 = .ok (.iconst 0, 1) := dk_3 (dk_at dksL_law_8 20 rfl rfl)
theorem dL_law_369 : decode cL_law 369 = .ok (.ireturn, 1) := dk_172 (dk_at dksL_law_8 21 rfl rfl)
theorem dL_law_370 : decode cL_law 370 = .ok (.aload_n 1, 1) := dk_43 (dk_at dksL_law_8 22 rfl rfl)
theorem dL_law_371 : decode cL_law 371 = .ok (.aload_n 0, 1) := dk_42 (dk_at dksL_law_8 23 rfl rfl)
theorem dL_law_372 : decode cL_law 372 = .ok (.iload_n 3, 1) := dk_29 (dk_at dksL_law_9 0 rfl rfl)
theorem dL_law_373 : decode cL_law 373 = .ok (.iconst 1, 1) := dk_4 (dk_at dksL_law_9 1 rfl rfl)
theorem dL_law_374 : decode cL_law 374 = .ok (.iadd, 1) := dk_96 (dk_at dksL_law_9 2 rfl rfl)
theorem dL_law_375 : decode cL_law 375 = .ok (.iaload, 1) := dk_46 (dk_at dksL_law_9 3 rfl rfl)
theorem dL_law_376 : decode cL_law 376 = .ok (.aload_n 0, 1) := dk_42 (dk_at dksL_law_9 4 rfl rfl)
theorem dL_law_377 : decode cL_law 377 = .ok (.iload_n 3, 1) := dk_29 (dk_at dksL_law_9 5 rfl rfl)
theorem dL_law_378 : decode cL_law 378 = .ok (.iconst 2, 1) := dk_5 (dk_at dksL_law_9 6 rfl rfl)
theorem dL_law_379 : decode cL_law 379 = .ok (.iadd, 1) := dk_96 (dk_at dksL_law_9 7 rfl rfl)
theorem dL_law_380 : decode cL_law 380 = .ok (.iaload, 1) := dk_46 (dk_at dksL_law_9 8 rfl rfl)
theorem dL_law_381 : decode cL_law 381 = .ok (.invokevirtual 31, 3) := dk_182 0 31 (dk_at dksL_law_9 9 rfl rfl)
theorem dL_law_384 : decode cL_law 384 = .ok (.aload_n 2, 1) := dk_44 (dk_at dksL_law_9 12 rfl rfl)
theorem dL_law_385 : decode cL_law 385 = .ok (.aload_n 0, 1) := dk_42 (dk_at dksL_law_9 13 rfl rfl)
theorem dL_law_386 : decode cL_law 386 = .ok (.iload_n 3, 1) := dk_29 (dk_at dksL_law_9 14 rfl rfl)
theorem dL_law_387 : decode cL_law 387 = .ok (.iconst 1, 1) := dk_4 (dk_at dksL_law_9 15 rfl rfl)
theorem dL_law_388 : decode cL_law 388 = .ok (.iadd, 1) := dk_96 (dk_at dksL_law_9 16 rfl rfl)
theorem dL_law_389 : decode cL_law 389 = .ok (.iaload, 1) := dk_46 (dk_at dksL_law_9 17 rfl rfl)
theorem dL_law_390 : decode cL_law 390 = .ok (.aload_n 0, 1) := dk_42 (dk_at dksL_law_9 18 rfl rfl)
theorem dL_law_391 : decode cL_law 391 = .ok (.iload_n 3, 1) := dk_29 (dk_at dksL_law_9 19 rfl rfl)
theorem dL_law_392 : decode cL_law 392 = .ok (.iconst 2, 1) := dk_5 (dk_at dksL_law_9 20 rfl rfl)
theorem dL_law_393 : decode cL_law 393 = .ok (.iadd, 1) := dk_96 (dk_at dksL_law_9 21 rfl rfl)
theorem dL_law_394 : decode cL_law 394 = .ok (.iaload, 1) := dk_46 (dk_at dksL_law_9 22 rfl rfl)
theorem dL_law_395 : decode cL_law 395 = .ok (.invokevirtual 34, 3) := dk_182 0 34 (dk_at dksL_law_10 0 rfl rfl)
theorem dL_law_398 : decode cL_law 398 = .ok (.if_icmp .eq 1146, 3) := dk_159 4 122 (dk_at dksL_law_10 3 rfl rfl)
theorem dL_law_401 : decode cL_law 401 = .ok (.iconst 0, 1) := dk_3 (dk_at dksL_law_10 6 rfl rfl)
theorem dL_law_402 : decode cL_law 402 = .ok (.ireturn, 1) := dk_172 (dk_at dksL_law_10 7 rfl rfl)
theorem dL_law_403 : decode cL_law 403 = .ok (.aload_n 1, 1) := dk_43 (dk_at dksL_law_10 8 rfl rfl)
theorem dL_law_404 : decode cL_law 404 = .ok (.aload_n 0, 1) := dk_42 (dk_at dksL_law_10 9 rfl rfl)
theorem dL_law_405 : decode cL_law 405 = .ok (.iload_n 3, 1) := dk_29 (dk_at dksL_law_10 10 rfl rfl)
theorem dL_law_406 : decode cL_law 406 = .ok (.iconst 1, 1) := dk_4 (dk_at dksL_law_10 11 rfl rfl)
theorem dL_law_407 : decode cL_law 407 = .ok (.iadd, 1) := dk_96 (dk_at dksL_law_10 12 rfl rfl)
theorem dL_law_408 : decode cL_law 408 = .ok (.iaload, 1) := dk_46 (dk_at dksL_law_10 13 rfl rfl)
theorem dL_law_409 : decode cL_law 409 = .ok (.invokevirtual 35, 3) := dk_182 0 35 (dk_at dksL_law_10 14 rfl rfl)
theorem dL_law_412 : decode cL_law 412 = .ok (.aload_n 2, 1) := dk_44 (dk_at dksL_law_10 17 rfl rfl)
theorem dL_law_413 : decode cL_law 413 = .ok (.aload_n 0, 1) := dk_42 (dk_at dksL_law_10 18 rfl rfl)
theorem dL_law_414 : decode cL_law 414 = .ok (.iload_n 3, 1) := dk_29 (dk_at dksL_law_10 19 rfl rfl)
theorem dL_law_415 : decode cL_law 415 = .ok (.iconst 1, 1) := dk_4 (dk_at dksL_law_10 20 rfl rfl)
theorem dL_law_416 : decode cL_law 416 = .ok (.iadd, 1) := dk_96 (dk_at dksL_law_10 21 rfl rfl)
theorem dL_law_417 : decode cL_law 417 = .ok (.iaload, 1) := dk_46 (dk_at dksL_law_10 22 rfl rfl)
theorem dL_law_418 : decode cL_law 418 = .ok (.invokevirtual 39, 3) := dk_182 0 39 (dk_at dksL_law_11 0 rfl rfl)
theorem dL_law_421 : decode cL_law 421 = .ok (.if_icmp .eq 1123, 3) := dk_159 4 99 (dk_at dksL_law_11 3 rfl rfl)
theorem dL_law_424 : decode cL_law 424 = .ok (.iconst 0, 1) := dk_3 (dk_at dksL_law_11 6 rfl rfl)
theorem dL_law_425 : decode cL_law 425 = .ok (.ireturn, 1) := dk_172 (dk_at dksL_law_11 7 rfl rfl)
theorem dL_law_426 : decode cL_law 426 = .ok (.aload_n 1, 1) := dk_43 (dk_at dksL_law_11 8 rfl rfl)
theorem dL_law_427 : decode cL_law 427 = .ok (.aload_n 0, 1) := dk_42 (dk_at dksL_law_11 9 rfl rfl)
theorem dL_law_428 : decode cL_law 428 = .ok (.iload_n 3, 1) := dk_29 (dk_at dksL_law_11 10 rfl rfl)
theorem dL_law_429 : decode cL_law 429 = .ok (.iconst 1, 1) := dk_4 (dk_at dksL_law_11 11 rfl rfl)
theorem dL_law_430 : decode cL_law 430 = .ok (.iadd, 1) := dk_96 (dk_at dksL_law_11 12 rfl rfl)
theorem dL_law_431 : decode cL_law 431 = .ok (.iaload, 1) := dk_46 (dk_at dksL_law_11 13 rfl rfl)
theorem dL_law_432 : decode cL_law 432 = .ok (.aload_n 0, 1) := dk_42 (dk_at dksL_law_11 14 rfl rfl)
theorem dL_law_433 : decode cL_law 433 = .ok (.iload_n 3, 1) := dk_29 (dk_at dksL_law_11 15 rfl rfl)
theorem dL_law_434 : decode cL_law 434 = .ok (.iconst 2, 1) := dk_5 (dk_at dksL_law_11 16 rfl rfl)
theorem dL_law_435 : decode cL_law 435 = .ok (.iadd, 1) := dk_96 (dk_at dksL_law_11 17 rfl rfl)
theorem dL_law_436 : decode cL_law 436 = .ok (.iaload, 1) := dk_46 (dk_at dksL_law_11 18 rfl rfl)
theorem dL_law_437 : decode cL_law 437 = .ok (.invokevirtual 40, 3) := dk_182 0 40 (dk_at dksL_law_11 19 rfl rfl)
theorem dL_law_440 : decode cL_law 440 = .ok (.aload_n 2, 1) := dk_44 (dk_at dksL_law_11 22 rfl rfl)
theorem dL_law_441 : decode cL_law 441 = .ok (.aload_n 0, 1) := dk_42 (dk_at dksL_law_11 23 rfl rfl)
theorem dL_law_442 : decode cL_law 442 = .ok (.iload_n 3, 1) := dk_29 (dk_at dksL_law_12 0 rfl rfl)
theorem dL_law_443 : decode cL_law 443 = .ok (.iconst 1, 1) := dk_4 (dk_at dksL_law_12 1 rfl rfl)
theorem dL_law_444 : decode cL_law 444 = .ok (.iadd, 1) := dk_96 (dk_at dksL_law_12 2 rfl rfl)
theorem dL_law_445 : decode cL_law 445 = .ok (.iaload, 1) := dk_46 (dk_at dksL_law_12 3 rfl rfl)
theorem dL_law_446 : decode cL_law 446 = .ok (.aload_n 0, 1) := dk_42 (dk_at dksL_law_12 4 rfl rfl)
theorem dL_law_447 : decode cL_law 447 = .ok (.iload_n 3, 1) := dk_29 (dk_at dksL_law_12 5 rfl rfl)
theorem dL_law_448 : decode cL_law 448 = .ok (.iconst 2, 1) := dk_5 (dk_at dksL_law_12 6 rfl rfl)
theorem dL_law_449 : decode cL_law 449 = .ok (.iadd, 1) := dk_96 (dk_at dksL_law_12 7 rfl rfl)
theorem dL_law_450 : decode cL_law 450 = .ok (.iaload, 1) := dk_46 (dk_at dksL_law_12 8 rfl rfl)
theorem dL_law_451 : decode cL_law 451 = .ok (.invokevirtual 43, 3) := dk_182 0 43 (dk_at dksL_law_12 9 rfl rfl)
theorem dL_law_454 : decode cL_law 454 = .ok (.if_icmp .eq 1090, 3) := dk_159 4 66 (dk_at dksL_law_12 12 rfl rfl)
theorem dL_law_457 : decode cL_law 457 = .ok (.iconst 0, 1) := dk_3 (dk_at dksL_law_12 15 rfl rfl)
theorem dL_law_458 : decode cL_law 458 = .ok (.ireturn, 1) := dk_172 (dk_at dksL_law_12 16 rfl rfl)
theorem dL_law_459 : decode cL_law 459 = .ok (.aload_n 1, 1) := dk_43 (dk_at dksL_law_12 17 rfl rfl)
theorem dL_law_460 : decode cL_law 460 = .ok (.aload_n 0, 1) := dk_42 (dk_at dksL_law_12 18 rfl rfl)
theorem dL_law_461 : decode cL_law 461 = .ok (.iload_n 3, 1) := dk_29 (dk_at dksL_law_12 19 rfl rfl)
theorem dL_law_462 : decode cL_law 462 = .ok (.iconst 1, 1) := dk_4 (dk_at dksL_law_12 20 rfl rfl)
theorem dL_law_463 : decode cL_law 463 = .ok (.iadd, 1) := dk_96 (dk_at dksL_law_12 21 rfl rfl)
theorem dL_law_464 : decode cL_law 464 = .ok (.iaload, 1) := dk_46 (dk_at dksL_law_12 22 rfl rfl)
theorem dL_law_465 : decode cL_law 465 = .ok (.aload_n 0, 1) := dk_42 (dk_at dksL_law_12 23 rfl rfl)
theorem dL_law_466 : decode cL_law 466 = .ok (.iload_n 3, 1) := dk_29 (dk_at dksL_law_13 0 rfl rfl)
theorem dL_law_467 : decode cL_law 467 = .ok (.iconst 2, 1) := dk_5 (dk_at dksL_law_13 1 rfl rfl)
theorem dL_law_468 : decode cL_law 468 = .ok (.iadd, 1) := dk_96 (dk_at dksL_law_13 2 rfl rfl)
theorem dL_law_469 : decode cL_law 469 = .ok (.iaload, 1) := dk_46 (dk_at dksL_law_13 3 rfl rfl)
theorem dL_law_470 : decode cL_law 470 = .ok (.invokevirtual 44, 3) := dk_182 0 44 (dk_at dksL_law_13 4 rfl rfl)
theorem dL_law_473 : decode cL_law 473 = .ok (.aload_n 2, 1) := dk_44 (dk_at dksL_law_13 7 rfl rfl)
theorem dL_law_474 : decode cL_law 474 = .ok (.aload_n 0, 1) := dk_42 (dk_at dksL_law_13 8 rfl rfl)
theorem dL_law_475 : decode cL_law 475 = .ok (.iload_n 3, 1) := dk_29 (dk_at dksL_law_13 9 rfl rfl)
theorem dL_law_476 : decode cL_law 476 = .ok (.iconst 1, 1) := dk_4 (dk_at dksL_law_13 10 rfl rfl)
theorem dL_law_477 : decode cL_law 477 = .ok (.iadd, 1) := dk_96 (dk_at dksL_law_13 11 rfl rfl)
theorem dL_law_478 : decode cL_law 478 = .ok (.iaload, 1) := dk_46 (dk_at dksL_law_13 12 rfl rfl)
theorem dL_law_479 : decode cL_law 479 = .ok (.aload_n 0, 1) := dk_42 (dk_at dksL_law_13 13 rfl rfl)
theorem dL_law_480 : decode cL_law 480 = .ok (.iload_n 3, 1) := dk_29 (dk_at dksL_law_13 14 rfl rfl)
theorem dL_law_481 : decode cL_law 481 = .ok (.iconst 2, 1) := dk_5 (dk_at dksL_law_13 15 rfl rfl)
theorem dL_law_482 : decode cL_law 482 = .ok (.iadd, 1) := dk_96 (dk_at dksL_law_13 16 rfl rfl)
theorem dL_law_483 : decode cL_law 483 = .ok (.iaload, 1) := dk_46 (dk_at dksL_law_13 17 rfl rfl)
theorem dL_law_484 : decode cL_law 484 = .ok (.invokevirtual 47, 3) := dk_182 0 47 (dk_at dksL_law_13 18 rfl rfl)
theorem dL_law_487 : decode cL_law 487 = .ok (.if_icmp .eq 1057, 3) := dk_159 4 33 (dk_at dksL_law_13 21 rfl rfl)
theorem dL_law_490 : decode cL_law 490 = .ok (.iconst 0, 1) := dk_3 (dk_at dksL_law_14 0 rfl rfl)
theorem dL_law_491 : decode cL_law 491 = .ok (.ireturn, 1) := dk_172 (dk_at dksL_law_14 1 rfl rfl)
theorem dL_law_492 : decode cL_law 492 = .ok (.aload_n 1, 1) := dk_43 (dk_at dksL_law_14 2 rfl rfl)
theorem dL_law_493 : decode cL_law 493 = .ok (.aload_n 0, 1) := dk_42 (dk_at dksL_law_14 3 rfl rfl)
theorem dL_law_494 : decode cL_law 494 = .ok (.iload_n 3, 1) := dk_29 (dk_at dksL_law_14 4 rfl rfl)
theorem dL_law_495 : decode cL_law 495 = .ok (.iconst 1, 1) := dk_4 (dk_at dksL_law_14 5 rfl rfl)
theorem dL_law_496 : decode cL_law 496 = .ok (.iadd, 1) := dk_96 (dk_at dksL_law_14 6 rfl rfl)
theorem dL_law_497 : decode cL_law 497 = .ok (.iaload, 1) := dk_46 (dk_at dksL_law_14 7 rfl rfl)
theorem dL_law_498 : decode cL_law 498 = .ok (.aload_n 0, 1) := dk_42 (dk_at dksL_law_14 8 rfl rfl)
theorem dL_law_499 : decode cL_law 499 = .ok (.iload_n 3, 1) := dk_29 (dk_at dksL_law_14 9 rfl rfl)
theorem dL_law_500 : decode cL_law 500 = .ok (.iconst 2, 1) := dk_5 (dk_at dksL_law_14 10 rfl rfl)
theorem dL_law_501 : decode cL_law 501 = .ok (.iadd, 1) := dk_96 (dk_at dksL_law_14 11 rfl rfl)
theorem dL_law_502 : decode cL_law 502 = .ok (.iaload, 1) := dk_46 (dk_at dksL_law_14 12 rfl rfl)
theorem dL_law_503 : decode cL_law 503 = .ok (.invokevirtual 48, 3) := dk_182 0 48 (dk_at dksL_law_14 13 rfl rfl)
theorem dL_law_506 : decode cL_law 506 = .ok (.aload_n 2, 1) := dk_44 (dk_at dksL_law_14 16 rfl rfl)
theorem dL_law_507 : decode cL_law 507 = .ok (.aload_n 0, 1) := dk_42 (dk_at dksL_law_14 17 rfl rfl)
theorem dL_law_508 : decode cL_law 508 = .ok (.iload_n 3, 1) := dk_29 (dk_at dksL_law_14 18 rfl rfl)
theorem dL_law_509 : decode cL_law 509 = .ok (.iconst 1, 1) := dk_4 (dk_at dksL_law_14 19 rfl rfl)
theorem dL_law_510 : decode cL_law 510 = .ok (.iadd, 1) := dk_96 (dk_at dksL_law_14 20 rfl rfl)
theorem dL_law_511 : decode cL_law 511 = .ok (.iaload, 1) := dk_46 (dk_at dksL_law_14 21 rfl rfl)
theorem dL_law_512 : decode cL_law 512 = .ok (.aload_n 0, 1) := dk_42 (dk_at dksL_law_14 22 rfl rfl)
theorem dL_law_513 : decode cL_law 513 = .ok (.iload_n 3, 1) := dk_29 (dk_at dksL_law_14 23 rfl rfl)
theorem dL_law_514 : decode cL_law 514 = .ok (.iconst 2, 1) := dk_5 (dk_at dksL_law_15 0 rfl rfl)
theorem dL_law_515 : decode cL_law 515 = .ok (.iadd, 1) := dk_96 (dk_at dksL_law_15 1 rfl rfl)
theorem dL_law_516 : decode cL_law 516 = .ok (.iaload, 1) := dk_46 (dk_at dksL_law_15 2 rfl rfl)
theorem dL_law_517 : decode cL_law 517 = .ok (.invokevirtual 51, 3) := dk_182 0 51 (dk_at dksL_law_15 3 rfl rfl)
theorem dL_law_520 : decode cL_law 520 = .ok (.if_icmp .eq 1024, 3) := dk_159 4 0 (dk_at dksL_law_15 6 rfl rfl)
theorem dL_law_523 : decode cL_law 523 = .ok (.iconst 0, 1) := dk_3 (dk_at dksL_law_15 9 rfl rfl)
theorem dL_law_524 : decode cL_law 524 = .ok (.ireturn, 1) := dk_172 (dk_at dksL_law_15 10 rfl rfl)
theorem dL_law_525 : decode cL_law 525 = .ok (.aload_n 1, 1) := dk_43 (dk_at dksL_law_15 11 rfl rfl)
theorem dL_law_526 : decode cL_law 526 = .ok (.aload_n 0, 1) := dk_42 (dk_at dksL_law_15 12 rfl rfl)
theorem dL_law_527 : decode cL_law 527 = .ok (.iload_n 3, 1) := dk_29 (dk_at dksL_law_15 13 rfl rfl)
theorem dL_law_528 : decode cL_law 528 = .ok (.iconst 1, 1) := dk_4 (dk_at dksL_law_15 14 rfl rfl)
theorem dL_law_529 : decode cL_law 529 = .ok (.iadd, 1) := dk_96 (dk_at dksL_law_15 15 rfl rfl)
theorem dL_law_530 : decode cL_law 530 = .ok (.iaload, 1) := dk_46 (dk_at dksL_law_15 16 rfl rfl)
theorem dL_law_531 : decode cL_law 531 = .ok (.aload_n 0, 1) := dk_42 (dk_at dksL_law_15 17 rfl rfl)
theorem dL_law_532 : decode cL_law 532 = .ok (.iload_n 3, 1) := dk_29 (dk_at dksL_law_15 18 rfl rfl)
theorem dL_law_533 : decode cL_law 533 = .ok (.iconst 2, 1) := dk_5 (dk_at dksL_law_15 19 rfl rfl)
theorem dL_law_534 : decode cL_law 534 = .ok (.iadd, 1) := dk_96 (dk_at dksL_law_15 20 rfl rfl)
theorem dL_law_535 : decode cL_law 535 = .ok (.iaload, 1) := dk_46 (dk_at dksL_law_15 21 rfl rfl)
theorem dL_law_536 : decode cL_law 536 = .ok (.aload_n 0, 1) := dk_42 (dk_at dksL_law_15 22 rfl rfl)
theorem dL_law_537 : decode cL_law 537 = .ok (.iload_n 3, 1) := dk_29 (dk_at dksL_law_15 23 rfl rfl)
theorem dL_law_538 : decode cL_law 538 = .ok (.iconst 3, 1) := dk_6 (dk_at dksL_law_16 0 rfl rfl)
theorem dL_law_539 : decode cL_law 539 = .ok (.iadd, 1) := dk_96 (dk_at dksL_law_16 1 rfl rfl)
theorem dL_law_540 : decode cL_law 540 = .ok (.iaload, 1) := dk_46 (dk_at dksL_law_16 2 rfl rfl)
theorem dL_law_541 : decode cL_law 541 = .ok (.invokevirtual 52, 3) := dk_182 0 52 (dk_at dksL_law_16 3 rfl rfl)
theorem dL_law_544 : decode cL_law 544 = .ok (.aload_n 2, 1) := dk_44 (dk_at dksL_law_16 6 rfl rfl)
theorem dL_law_545 : decode cL_law 545 = .ok (.aload_n 0, 1) := dk_42 (dk_at dksL_law_16 7 rfl rfl)
theorem dL_law_546 : decode cL_law 546 = .ok (.iload_n 3, 1) := dk_29 (dk_at dksL_law_16 8 rfl rfl)
theorem dL_law_547 : decode cL_law 547 = .ok (.iconst 1, 1) := dk_4 (dk_at dksL_law_16 9 rfl rfl)
theorem dL_law_548 : decode cL_law 548 = .ok (.iadd, 1) := dk_96 (dk_at dksL_law_16 10 rfl rfl)
theorem dL_law_549 : decode cL_law 549 = .ok (.iaload, 1) := dk_46 (dk_at dksL_law_16 11 rfl rfl)
theorem dL_law_550 : decode cL_law 550 = .ok (.aload_n 0, 1) := dk_42 (dk_at dksL_law_16 12 rfl rfl)
theorem dL_law_551 : decode cL_law 551 = .ok (.iload_n 3, 1) := dk_29 (dk_at dksL_law_16 13 rfl rfl)
theorem dL_law_552 : decode cL_law 552 = .ok (.iconst 2, 1) := dk_5 (dk_at dksL_law_16 14 rfl rfl)
theorem dL_law_553 : decode cL_law 553 = .ok (.iadd, 1) := dk_96 (dk_at dksL_law_16 15 rfl rfl)
theorem dL_law_554 : decode cL_law 554 = .ok (.iaload, 1) := dk_46 (dk_at dksL_law_16 16 rfl rfl)
theorem dL_law_555 : decode cL_law 555 = .ok (.aload_n 0, 1) := dk_42 (dk_at dksL_law_16 17 rfl rfl)
theorem dL_law_556 : decode cL_law 556 = .ok (.iload_n 3, 1) := dk_29 (dk_at dksL_law_16 18 rfl rfl)
theorem dL_law_557 : decode cL_law 557 = .ok (.iconst 3, 1) := dk_6 (dk_at dksL_law_16 19 rfl rfl)
theorem dL_law_558 : decode cL_law 558 = .ok (.iadd, 1) := dk_96 (dk_at dksL_law_16 20 rfl rfl)
theorem dL_law_559 : decode cL_law 559 = .ok (.iaload, 1) := dk_46 (dk_at dksL_law_16 21 rfl rfl)
theorem dL_law_560 : decode cL_law 560 = .ok (.invokevirtual 55, 3) := dk_182 0 55 (dk_at dksL_law_17 0 rfl rfl)
theorem dL_law_563 : decode cL_law 563 = .ok (.if_icmp .eq 981, 3) := dk_159 3 213 (dk_at dksL_law_17 3 rfl rfl)
theorem dL_law_566 : decode cL_law 566 = .ok (.iconst 0, 1) := dk_3 (dk_at dksL_law_17 6 rfl rfl)
theorem dL_law_567 : decode cL_law 567 = .ok (.ireturn, 1) := dk_172 (dk_at dksL_law_17 7 rfl rfl)
theorem dL_law_568 : decode cL_law 568 = .ok (.aload_n 1, 1) := dk_43 (dk_at dksL_law_17 8 rfl rfl)
theorem dL_law_569 : decode cL_law 569 = .ok (.aload_n 0, 1) := dk_42 (dk_at dksL_law_17 9 rfl rfl)
theorem dL_law_570 : decode cL_law 570 = .ok (.iload_n 3, 1) := dk_29 (dk_at dksL_law_17 10 rfl rfl)
theorem dL_law_571 : decode cL_law 571 = .ok (.iconst 1, 1) := dk_4 (dk_at dksL_law_17 11 rfl rfl)
theorem dL_law_572 : decode cL_law 572 = .ok (.iadd, 1) := dk_96 (dk_at dksL_law_17 12 rfl rfl)
theorem dL_law_573 : decode cL_law 573 = .ok (.iaload, 1) := dk_46 (dk_at dksL_law_17 13 rfl rfl)
theorem dL_law_574 : decode cL_law 574 = .ok (.aload_n 0, 1) := dk_42 (dk_at dksL_law_17 14 rfl rfl)
theorem dL_law_575 : decode cL_law 575 = .ok (.iload_n 3, 1) := dk_29 (dk_at dksL_law_17 15 rfl rfl)
theorem dL_law_576 : decode cL_law 576 = .ok (.iconst 2, 1) := dk_5 (dk_at dksL_law_17 16 rfl rfl)
theorem dL_law_577 : decode cL_law 577 = .ok (.iadd, 1) := dk_96 (dk_at dksL_law_17 17 rfl rfl)
theorem dL_law_578 : decode cL_law 578 = .ok (.iaload, 1) := dk_46 (dk_at dksL_law_17 18 rfl rfl)
theorem dL_law_579 : decode cL_law 579 = .ok (.invokevirtual 56, 3) := dk_182 0 56 (dk_at dksL_law_17 19 rfl rfl)
theorem dL_law_582 : decode cL_law 582 = .ok (.aload_n 2, 1) := dk_44 (dk_at dksL_law_17 22 rfl rfl)
theorem dL_law_583 : decode cL_law 583 = .ok (.aload_n 0, 1) := dk_42 (dk_at dksL_law_17 23 rfl rfl)
theorem dL_law_584 : decode cL_law 584 = .ok (.iload_n 3, 1) := dk_29 (dk_at dksL_law_18 0 rfl rfl)
theorem dL_law_585 : decode cL_law 585 = .ok (.iconst 1, 1) := dk_4 (dk_at dksL_law_18 1 rfl rfl)
theorem dL_law_586 : decode cL_law 586 = .ok (.iadd, 1) := dk_96 (dk_at dksL_law_18 2 rfl rfl)
theorem dL_law_587 : decode cL_law 587 = .ok (.iaload, 1) := dk_46 (dk_at dksL_law_18 3 rfl rfl)
theorem dL_law_588 : decode cL_law 588 = .ok (.aload_n 0, 1) := dk_42 (dk_at dksL_law_18 4 rfl rfl)
theorem dL_law_589 : decode cL_law 589 = .ok (.iload_n 3, 1) := dk_29 (dk_at dksL_law_18 5 rfl rfl)
theorem dL_law_590 : decode cL_law 590 = .ok (.iconst 2, 1) := dk_5 (dk_at dksL_law_18 6 rfl rfl)
theorem dL_law_591 : decode cL_law 591 = .ok (.iadd, 1) := dk_96 (dk_at dksL_law_18 7 rfl rfl)
theorem dL_law_592 : decode cL_law 592 = .ok (.iaload, 1) := dk_46 (dk_at dksL_law_18 8 rfl rfl)
theorem dL_law_593 : decode cL_law 593 = .ok (.invokevirtual 59, 3) := dk_182 0 59 (dk_at dksL_law_18 9 rfl rfl)
theorem dL_law_596 : decode cL_law 596 = .ok (.if_icmp .eq 948, 3) := dk_159 3 180 (dk_at dksL_law_18 12 rfl rfl)
theorem dL_law_599 : decode cL_law 599 = .ok (.iconst 0, 1) := dk_3 (dk_at dksL_law_18 15 rfl rfl)
theorem dL_law_600 : decode cL_law 600 = .ok (.ireturn, 1) := dk_172 (dk_at dksL_law_18 16 rfl rfl)
theorem dL_law_601 : decode cL_law 601 = .ok (.aload_n 1, 1) := dk_43 (dk_at dksL_law_18 17 rfl rfl)
theorem dL_law_602 : decode cL_law 602 = .ok (.aload_n 0, 1) := dk_42 (dk_at dksL_law_18 18 rfl rfl)
theorem dL_law_603 : decode cL_law 603 = .ok (.iload_n 3, 1) := dk_29 (dk_at dksL_law_18 19 rfl rfl)
theorem dL_law_604 : decode cL_law 604 = .ok (.iconst 1, 1) := dk_4 (dk_at dksL_law_18 20 rfl rfl)
theorem dL_law_605 : decode cL_law 605 = .ok (.iadd, 1) := dk_96 (dk_at dksL_law_18 21 rfl rfl)
theorem dL_law_606 : decode cL_law 606 = .ok (.iaload, 1) := dk_46 (dk_at dksL_law_18 22 rfl rfl)
theorem dL_law_607 : decode cL_law 607 = .ok (.invokevirtual 60, 3) := dk_182 0 60 (dk_at dksL_law_19 0 rfl rfl)
theorem dL_law_610 : decode cL_law 610 = .ok (.aload_n 2, 1) := dk_44 (dk_at dksL_law_19 3 rfl rfl)
theorem dL_law_611 : decode cL_law 611 = .ok (.aload_n 0, 1) := dk_42 (dk_at dksL_law_19 4 rfl rfl)
theorem dL_law_612 : decode cL_law 612 = .ok (.iload_n 3, 1) := dk_29 (dk_at dksL_law_19 5 rfl rfl)
theorem dL_law_613 : decode cL_law 613 = .ok (.iconst 1, 1) := dk_4 (dk_at dksL_law_19 6 rfl rfl)
theorem dL_law_614 : decode cL_law 614 = .ok (.iadd, 1) := dk_96 (dk_at dksL_law_19 7 rfl rfl)
theorem dL_law_615 : decode cL_law 615 = .ok (.iaload, 1) := dk_46 (dk_at dksL_law_19 8 rfl rfl)
theorem dL_law_616 : decode cL_law 616 = .ok (.invokevirtual 63, 3) := dk_182 0 63 (dk_at dksL_law_19 9 rfl rfl)
theorem dL_law_619 : decode cL_law 619 = .ok (.if_icmp .eq 925, 3) := dk_159 3 157 (dk_at dksL_law_19 12 rfl rfl)
theorem dL_law_622 : decode cL_law 622 = .ok (.iconst 0, 1) := dk_3 (dk_at dksL_law_19 15 rfl rfl)
theorem dL_law_623 : decode cL_law 623 = .ok (.ireturn, 1) := dk_172 (dk_at dksL_law_19 16 rfl rfl)
theorem dL_law_624 : decode cL_law 624 = .ok (.aload_n 1, 1) := dk_43 (dk_at dksL_law_19 17 rfl rfl)
theorem dL_law_625 : decode cL_law 625 = .ok (.aload_n 0, 1) := dk_42 (dk_at dksL_law_19 18 rfl rfl)
theorem dL_law_626 : decode cL_law 626 = .ok (.iload_n 3, 1) := dk_29 (dk_at dksL_law_19 19 rfl rfl)
theorem dL_law_627 : decode cL_law 627 = .ok (.iconst 1, 1) := dk_4 (dk_at dksL_law_19 20 rfl rfl)
theorem dL_law_628 : decode cL_law 628 = .ok (.iadd, 1) := dk_96 (dk_at dksL_law_19 21 rfl rfl)
theorem dL_law_629 : decode cL_law 629 = .ok (.iaload, 1) := dk_46 (dk_at dksL_law_19 22 rfl rfl)
theorem dL_law_630 : decode cL_law 630 = .ok (.invokevirtual 64, 3) := dk_182 0 64 (dk_at dksL_law_20 0 rfl rfl)
theorem dL_law_633 : decode cL_law 633 = .ok (.aload_n 2, 1) := dk_44 (dk_at dksL_law_20 3 rfl rfl)
theorem dL_law_634 : decode cL_law 634 = .ok (.aload_n 0, 1) := dk_42 (dk_at dksL_law_20 4 rfl rfl)
theorem dL_law_635 : decode cL_law 635 = .ok (.iload_n 3, 1) := dk_29 (dk_at dksL_law_20 5 rfl rfl)
theorem dL_law_636 : decode cL_law 636 = .ok (.iconst 1, 1) := dk_4 (dk_at dksL_law_20 6 rfl rfl)
theorem dL_law_637 : decode cL_law 637 = .ok (.iadd, 1) := dk_96 (dk_at dksL_law_20 7 rfl rfl)
theorem dL_law_638 : decode cL_law 638 = .ok (.iaload, 1) := dk_46 (dk_at dksL_law_20 8 rfl rfl)
theorem dL_law_639 : decode cL_law 639 = .ok (.invokevirtual 67, 3) := dk_182 0 67 (dk_at dksL_law_20 9 rfl rfl)
theorem dL_law_642 : decode cL_law 642 = .ok (.if_icmp .eq 902, 3) := dk_159 3 134 (dk_at dksL_law_20 12 rfl rfl)
theorem dL_law_645 : decode cL_law 645 = .ok (.iconst 0, 1) := dk_3 (dk_at dksL_law_20 15 rfl rfl)
theorem dL_law_646 : decode cL_law 646 = .ok (.ireturn, 1) := dk_172 (dk_at dksL_law_20 16 rfl rfl)
theorem dL_law_647 : decode cL_law 647 = .ok (.aload_n 1, 1) := dk_43 (dk_at dksL_law_20 17 rfl rfl)
theorem dL_law_648 : decode cL_law 648 = .ok (.aload_n 0, 1) := dk_42 (dk_at dksL_law_20 18 rfl rfl)
theorem dL_law_649 : decode cL_law 649 = .ok (.iload_n 3, 1) := dk_29 (dk_at dksL_law_20 19 rfl rfl)
theorem dL_law_650 : decode cL_law 650 = .ok (.iconst 1, 1) := dk_4 (dk_at dksL_law_20 20 rfl rfl)
theorem dL_law_651 : decode cL_law 651 = .ok (.iadd, 1) := dk_96 (dk_at dksL_law_20 21 rfl rfl)
theorem dL_law_652 : decode cL_law 652 = .ok (.iaload, 1) := dk_46 (dk_at dksL_law_20 22 rfl rfl)
theorem dL_law_653 : decode cL_law 653 = .ok (.aload_n 0, 1) := dk_42 (dk_at dksL_law_20 23 rfl rfl)
theorem dL_law_654 : decode cL_law 654 = .ok (.iload_n 3, 1) := dk_29 (dk_at dksL_law_21 0 rfl rfl)
theorem dL_law_655 : decode cL_law 655 = .ok (.iconst 2, 1) := dk_5 (dk_at dksL_law_21 1 rfl rfl)
theorem dL_law_656 : decode cL_law 656 = .ok (.iadd, 1) := dk_96 (dk_at dksL_law_21 2 rfl rfl)
theorem dL_law_657 : decode cL_law 657 = .ok (.iaload, 1) := dk_46 (dk_at dksL_law_21 3 rfl rfl)
theorem dL_law_658 : decode cL_law 658 = .ok (.aload_n 0, 1) := dk_42 (dk_at dksL_law_21 4 rfl rfl)
theorem dL_law_659 : decode cL_law 659 = .ok (.iload_n 3, 1) := dk_29 (dk_at dksL_law_21 5 rfl rfl)
theorem dL_law_660 : decode cL_law 660 = .ok (.iconst 3, 1) := dk_6 (dk_at dksL_law_21 6 rfl rfl)
theorem dL_law_661 : decode cL_law 661 = .ok (.iadd, 1) := dk_96 (dk_at dksL_law_21 7 rfl rfl)
theorem dL_law_662 : decode cL_law 662 = .ok (.iaload, 1) := dk_46 (dk_at dksL_law_21 8 rfl rfl)
theorem dL_law_663 : decode cL_law 663 = .ok (.invokevirtual 68, 3) := dk_182 0 68 (dk_at dksL_law_21 9 rfl rfl)
theorem dL_law_666 : decode cL_law 666 = .ok (.aload_n 2, 1) := dk_44 (dk_at dksL_law_21 12 rfl rfl)
theorem dL_law_667 : decode cL_law 667 = .ok (.aload_n 0, 1) := dk_42 (dk_at dksL_law_21 13 rfl rfl)
theorem dL_law_668 : decode cL_law 668 = .ok (.iload_n 3, 1) := dk_29 (dk_at dksL_law_21 14 rfl rfl)
theorem dL_law_669 : decode cL_law 669 = .ok (.iconst 1, 1) := dk_4 (dk_at dksL_law_21 15 rfl rfl)
theorem dL_law_670 : decode cL_law 670 = .ok (.iadd, 1) := dk_96 (dk_at dksL_law_21 16 rfl rfl)
theorem dL_law_671 : decode cL_law 671 = .ok (.iaload, 1) := dk_46 (dk_at dksL_law_21 17 rfl rfl)
theorem dL_law_672 : decode cL_law 672 = .ok (.aload_n 0, 1) := dk_42 (dk_at dksL_law_21 18 rfl rfl)
theorem dL_law_673 : decode cL_law 673 = .ok (.iload_n 3, 1) := dk_29 (dk_at dksL_law_21 19 rfl rfl)
theorem dL_law_674 : decode cL_law 674 = .ok (.iconst 2, 1) := dk_5 (dk_at dksL_law_21 20 rfl rfl)
theorem dL_law_675 : decode cL_law 675 = .ok (.iadd, 1) := dk_96 (dk_at dksL_law_21 21 rfl rfl)
theorem dL_law_676 : decode cL_law 676 = .ok (.iaload, 1) := dk_46 (dk_at dksL_law_21 22 rfl rfl)
theorem dL_law_677 : decode cL_law 677 = .ok (.aload_n 0, 1) := dk_42 (dk_at dksL_law_21 23 rfl rfl)
theorem dL_law_678 : decode cL_law 678 = .ok (.iload_n 3, 1) := dk_29 (dk_at dksL_law_22 0 rfl rfl)
theorem dL_law_679 : decode cL_law 679 = .ok (.iconst 3, 1) := dk_6 (dk_at dksL_law_22 1 rfl rfl)
theorem dL_law_680 : decode cL_law 680 = .ok (.iadd, 1) := dk_96 (dk_at dksL_law_22 2 rfl rfl)
theorem dL_law_681 : decode cL_law 681 = .ok (.iaload, 1) := dk_46 (dk_at dksL_law_22 3 rfl rfl)
theorem dL_law_682 : decode cL_law 682 = .ok (.invokevirtual 71, 3) := dk_182 0 71 (dk_at dksL_law_22 4 rfl rfl)
theorem dL_law_685 : decode cL_law 685 = .ok (.if_icmp .eq 859, 3) := dk_159 3 91 (dk_at dksL_law_22 7 rfl rfl)
theorem dL_law_688 : decode cL_law 688 = .ok (.iconst 0, 1) := dk_3 (dk_at dksL_law_22 10 rfl rfl)
theorem dL_law_689 : decode cL_law 689 = .ok (.ireturn, 1) := dk_172 (dk_at dksL_law_22 11 rfl rfl)
theorem dL_law_690 : decode cL_law 690 = .ok (.aload_n 1, 1) := dk_43 (dk_at dksL_law_22 12 rfl rfl)
theorem dL_law_691 : decode cL_law 691 = .ok (.aload_n 0, 1) := dk_42 (dk_at dksL_law_22 13 rfl rfl)
theorem dL_law_692 : decode cL_law 692 = .ok (.iload_n 3, 1) := dk_29 (dk_at dksL_law_22 14 rfl rfl)
theorem dL_law_693 : decode cL_law 693 = .ok (.iconst 1, 1) := dk_4 (dk_at dksL_law_22 15 rfl rfl)
theorem dL_law_694 : decode cL_law 694 = .ok (.iadd, 1) := dk_96 (dk_at dksL_law_22 16 rfl rfl)
theorem dL_law_695 : decode cL_law 695 = .ok (.iaload, 1) := dk_46 (dk_at dksL_law_22 17 rfl rfl)
theorem dL_law_696 : decode cL_law 696 = .ok (.invokevirtual 72, 3) := dk_182 0 72 (dk_at dksL_law_22 18 rfl rfl)
theorem dL_law_699 : decode cL_law 699 = .ok (.aload_n 2, 1) := dk_44 (dk_at dksL_law_22 21 rfl rfl)
theorem dL_law_700 : decode cL_law 700 = .ok (.aload_n 0, 1) := dk_42 (dk_at dksL_law_22 22 rfl rfl)
theorem dL_law_701 : decode cL_law 701 = .ok (.iload_n 3, 1) := dk_29 (dk_at dksL_law_22 23 rfl rfl)
theorem dL_law_702 : decode cL_law 702 = .ok (.iconst 1, 1) := dk_4 (dk_at dksL_law_23 0 rfl rfl)
theorem dL_law_703 : decode cL_law 703 = .ok (.iadd, 1) := dk_96 (dk_at dksL_law_23 1 rfl rfl)
theorem dL_law_704 : decode cL_law 704 = .ok (.iaload, 1) := dk_46 (dk_at dksL_law_23 2 rfl rfl)
theorem dL_law_705 : decode cL_law 705 = .ok (.invokevirtual 75, 3) := dk_182 0 75 (dk_at dksL_law_23 3 rfl rfl)
theorem dL_law_708 : decode cL_law 708 = .ok (.if_icmp .eq 836, 3) := dk_159 3 68 (dk_at dksL_law_23 6 rfl rfl)
theorem dL_law_711 : decode cL_law 711 = .ok (.iconst 0, 1) := dk_3 (dk_at dksL_law_23 9 rfl rfl)
theorem dL_law_712 : decode cL_law 712 = .ok (.ireturn, 1) := dk_172 (dk_at dksL_law_23 10 rfl rfl)
theorem dL_law_713 : decode cL_law 713 = .ok (.aload_n 1, 1) := dk_43 (dk_at dksL_law_23 11 rfl rfl)
theorem dL_law_714 : decode cL_law 714 = .ok (.aload_n 0, 1) := dk_42 (dk_at dksL_law_23 12 rfl rfl)
theorem dL_law_715 : decode cL_law 715 = .ok (.iload_n 3, 1) := dk_29 (dk_at dksL_law_23 13 rfl rfl)
theorem dL_law_716 : decode cL_law 716 = .ok (.iconst 1, 1) := dk_4 (dk_at dksL_law_23 14 rfl rfl)
theorem dL_law_717 : decode cL_law 717 = .ok (.iadd, 1) := dk_96 (dk_at dksL_law_23 15 rfl rfl)
theorem dL_law_718 : decode cL_law 718 = .ok (.iaload, 1) := dk_46 (dk_at dksL_law_23 16 rfl rfl)
theorem dL_law_719 : decode cL_law 719 = .ok (.aload_n 0, 1) := dk_42 (dk_at dksL_law_23 17 rfl rfl)
theorem dL_law_720 : decode cL_law 720 = .ok (.iload_n 3, 1) := dk_29 (dk_at dksL_law_23 18 rfl rfl)
theorem dL_law_721 : decode cL_law 721 = .ok (.iconst 2, 1) := dk_5 (dk_at dksL_law_23 19 rfl rfl)
theorem dL_law_722 : decode cL_law 722 = .ok (.iadd, 1) := dk_96 (dk_at dksL_law_23 20 rfl rfl)
theorem dL_law_723 : decode cL_law 723 = .ok (.iaload, 1) := dk_46 (dk_at dksL_law_23 21 rfl rfl)
theorem dL_law_724 : decode cL_law 724 = .ok (.invokevirtual 76, 3) := dk_182 0 76 (dk_at dksL_law_24 0 rfl rfl)
theorem dL_law_727 : decode cL_law 727 = .ok (.aload_n 2, 1) := dk_44 (dk_at dksL_law_24 3 rfl rfl)
theorem dL_law_728 : decode cL_law 728 = .ok (.aload_n 0, 1) := dk_42 (dk_at dksL_law_24 4 rfl rfl)
theorem dL_law_729 : decode cL_law 729 = .ok (.iload_n 3, 1) := dk_29 (dk_at dksL_law_24 5 rfl rfl)
theorem dL_law_730 : decode cL_law 730 = .ok (.iconst 1, 1) := dk_4 (dk_at dksL_law_24 6 rfl rfl)
theorem dL_law_731 : decode cL_law 731 = .ok (.iadd, 1) := dk_96 (dk_at dksL_law_24 7 rfl rfl)
theorem dL_law_732 : decode cL_law 732 = .ok (.iaload, 1) := dk_46 (dk_at dksL_law_24 8 rfl rfl)
theorem dL_law_733 : decode cL_law 733 = .ok (.aload_n 0, 1) := dk_42 (dk_at dksL_law_24 9 rfl rfl)
theorem dL_law_734 : decode cL_law 734 = .ok (.iload_n 3, 1) := dk_29 (dk_at dksL_law_24 10 rfl rfl)
theorem dL_law_735 : decode cL_law 735 = .ok (.iconst 2, 1) := dk_5 (dk_at dksL_law_24 11 rfl rfl)
theorem dL_law_736 : decode cL_law 736 = .ok (.iadd, 1) := dk_96 (dk_at dksL_law_24 12 rfl rfl)
theorem dL_law_737 : decode cL_law 737 = .ok (.iaload, 1) := dk_46 (dk_at dksL_law_24 13 rfl rfl)
theorem dL_law_738 : decode cL_law 738 = .ok (.invokevirtual 79, 3) := dk_182 0 79 (dk_at dksL_law_24 14 rfl rfl)
theorem dL_law_741 : decode cL_law 741 = .ok (.if_icmp .eq 803, 3) := dk_159 3 35 (dk_at dksL_law_24 17 rfl rfl)
theorem dL_law_744 : decode cL_law 744 = .ok (.iconst 0, 1) := dk_3 (dk_at dksL_law_24 20 rfl rfl)
theorem dL_law_745 : decode cL_law 745 = .ok (.ireturn, 1) := dk_172 (dk_at dksL_law_24 21 rfl rfl)
theorem dL_law_746 : decode cL_law 746 = .ok (.aload_n 1, 1) := dk_43 (dk_at dksL_law_24 22 rfl rfl)
theorem dL_law_747 : decode cL_law 747 = .ok (.invokevirtual 80, 3) := dk_182 0 80 (dk_at dksL_law_25 0 rfl rfl)
theorem dL_law_750 : decode cL_law 750 = .ok (.aload_n 2, 1) := dk_44 (dk_at dksL_law_25 3 rfl rfl)
theorem dL_law_751 : decode cL_law 751 = .ok (.invokevirtual 84, 3) := dk_182 0 84 (dk_at dksL_law_25 4 rfl rfl)
theorem dL_law_754 : decode cL_law 754 = .ok (.if_icmp .eq 790, 3) := dk_159 3 22 (dk_at dksL_law_25 7 rfl rfl)
theorem dL_law_757 : decode cL_law 757 = .ok (.iconst 0, 1) := dk_3 (dk_at dksL_law_25 10 rfl rfl)
theorem dL_law_758 : decode cL_law 758 = .ok (.ireturn, 1) := dk_172 (dk_at dksL_law_25 11 rfl rfl)
theorem dL_law_759 : decode cL_law 759 = .ok (.aload_n 1, 1) := dk_43 (dk_at dksL_law_25 12 rfl rfl)
theorem dL_law_760 : decode cL_law 760 = .ok (.aload_n 0, 1) := dk_42 (dk_at dksL_law_25 13 rfl rfl)
theorem dL_law_761 : decode cL_law 761 = .ok (.iload_n 3, 1) := dk_29 (dk_at dksL_law_25 14 rfl rfl)
theorem dL_law_762 : decode cL_law 762 = .ok (.iconst 1, 1) := dk_4 (dk_at dksL_law_25 15 rfl rfl)
theorem dL_law_763 : decode cL_law 763 = .ok (.iadd, 1) := dk_96 (dk_at dksL_law_25 16 rfl rfl)
theorem dL_law_764 : decode cL_law 764 = .ok (.iaload, 1) := dk_46 (dk_at dksL_law_25 17 rfl rfl)
theorem dL_law_765 : decode cL_law 765 = .ok (.invokevirtual 85, 3) := dk_182 0 85 (dk_at dksL_law_25 18 rfl rfl)
theorem dL_law_768 : decode cL_law 768 = .ok (.aload_n 2, 1) := dk_44 (dk_at dksL_law_25 21 rfl rfl)
theorem dL_law_769 : decode cL_law 769 = .ok (.aload_n 0, 1) := dk_42 (dk_at dksL_law_25 22 rfl rfl)
theorem dL_law_770 : decode cL_law 770 = .ok (.iload_n 3, 1) := dk_29 (dk_at dksL_law_25 23 rfl rfl)
theorem dL_law_771 : decode cL_law 771 = .ok (.iconst 1, 1) := dk_4 (dk_at dksL_law_26 0 rfl rfl)
theorem dL_law_772 : decode cL_law 772 = .ok (.iadd, 1) := dk_96 (dk_at dksL_law_26 1 rfl rfl)
theorem dL_law_773 : decode cL_law 773 = .ok (.iaload, 1) := dk_46 (dk_at dksL_law_26 2 rfl rfl)
theorem dL_law_774 : decode cL_law 774 = .ok (.invokevirtual 88, 3) := dk_182 0 88 (dk_at dksL_law_26 3 rfl rfl)
theorem dL_law_777 : decode cL_law 777 = .ok (.if_icmp .eq 767, 3) := dk_159 2 255 (dk_at dksL_law_26 6 rfl rfl)
theorem dL_law_780 : decode cL_law 780 = .ok (.iconst 0, 1) := dk_3 (dk_at dksL_law_26 9 rfl rfl)
theorem dL_law_781 : decode cL_law 781 = .ok (.ireturn, 1) := dk_172 (dk_at dksL_law_26 10 rfl rfl)
theorem dL_law_782 : decode cL_law 782 = .ok (.aload_n 1, 1) := dk_43 (dk_at dksL_law_26 11 rfl rfl)
theorem dL_law_783 : decode cL_law 783 = .ok (.aload_n 0, 1) := dk_42 (dk_at dksL_law_26 12 rfl rfl)
theorem dL_law_784 : decode cL_law 784 = .ok (.iload_n 3, 1) := dk_29 (dk_at dksL_law_26 13 rfl rfl)
theorem dL_law_785 : decode cL_law 785 = .ok (.iconst 1, 1) := dk_4 (dk_at dksL_law_26 14 rfl rfl)
theorem dL_law_786 : decode cL_law 786 = .ok (.iadd, 1) := dk_96 (dk_at dksL_law_26 15 rfl rfl)
theorem dL_law_787 : decode cL_law 787 = .ok (.iaload, 1) := dk_46 (dk_at dksL_law_26 16 rfl rfl)
theorem dL_law_788 : decode cL_law 788 = .ok (.invokevirtual 89, 3) := dk_182 0 89 (dk_at dksL_law_26 17 rfl rfl)
theorem dL_law_791 : decode cL_law 791 = .ok (.aload_n 2, 1) := dk_44 (dk_at dksL_law_26 20 rfl rfl)
theorem dL_law_792 : decode cL_law 792 = .ok (.aload_n 0, 1) := dk_42 (dk_at dksL_law_26 21 rfl rfl)
theorem dL_law_793 : decode cL_law 793 = .ok (.iload_n 3, 1) := dk_29 (dk_at dksL_law_26 22 rfl rfl)
theorem dL_law_794 : decode cL_law 794 = .ok (.iconst 1, 1) := dk_4 (dk_at dksL_law_26 23 rfl rfl)
theorem dL_law_795 : decode cL_law 795 = .ok (.iadd, 1) := dk_96 (dk_at dksL_law_27 0 rfl rfl)
theorem dL_law_796 : decode cL_law 796 = .ok (.iaload, 1) := dk_46 (dk_at dksL_law_27 1 rfl rfl)
theorem dL_law_797 : decode cL_law 797 = .ok (.invokevirtual 92, 3) := dk_182 0 92 (dk_at dksL_law_27 2 rfl rfl)
theorem dL_law_800 : decode cL_law 800 = .ok (.if_icmp .eq 744, 3) := dk_159 2 232 (dk_at dksL_law_27 5 rfl rfl)
theorem dL_law_803 : decode cL_law 803 = .ok (.iconst 0, 1) := dk_3 (dk_at dksL_law_27 8 rfl rfl)
theorem dL_law_804 : decode cL_law 804 = .ok (.ireturn, 1) := dk_172 (dk_at dksL_law_27 9 rfl rfl)
theorem dL_law_805 : decode cL_law 805 = .ok (.aload_n 1, 1) := dk_43 (dk_at dksL_law_27 10 rfl rfl)
theorem dL_law_806 : decode cL_law 806 = .ok (.aload_n 0, 1) := dk_42 (dk_at dksL_law_27 11 rfl rfl)
theorem dL_law_807 : decode cL_law 807 = .ok (.iload_n 3, 1) := dk_29 (dk_at dksL_law_27 12 rfl rfl)
theorem dL_law_808 : decode cL_law 808 = .ok (.iconst 1, 1) := dk_4 (dk_at dksL_law_27 13 rfl rfl)
theorem dL_law_809 : decode cL_law 809 = .ok (.iadd, 1) := dk_96 (dk_at dksL_law_27 14 rfl rfl)
theorem dL_law_810 : decode cL_law 810 = .ok (.iaload, 1) := dk_46 (dk_at dksL_law_27 15 rfl rfl)
theorem dL_law_811 : decode cL_law 811 = .ok (.aload_n 0, 1) := dk_42 (dk_at dksL_law_27 16 rfl rfl)
theorem dL_law_812 : decode cL_law 812 = .ok (.iload_n 3, 1) := dk_29 (dk_at dksL_law_27 17 rfl rfl)
theorem dL_law_813 : decode cL_law 813 = .ok (.iconst 2, 1) := dk_5 (dk_at dksL_law_27 18 rfl rfl)
theorem dL_law_814 : decode cL_law 814 = .ok (.iadd, 1) := dk_96 (dk_at dksL_law_27 19 rfl rfl)
theorem dL_law_815 : decode cL_law 815 = .ok (.iaload, 1) := dk_46 (dk_at dksL_law_27 20 rfl rfl)
theorem dL_law_816 : decode cL_law 816 = .ok (.invokevirtual 93, 3) := dk_182 0 93 (dk_at dksL_law_27 21 rfl rfl)
theorem dL_law_819 : decode cL_law 819 = .ok (.aload_n 2, 1) := dk_44 (dk_at dksL_law_28 0 rfl rfl)
theorem dL_law_820 : decode cL_law 820 = .ok (.aload_n 0, 1) := dk_42 (dk_at dksL_law_28 1 rfl rfl)
theorem dL_law_821 : decode cL_law 821 = .ok (.iload_n 3, 1) := dk_29 (dk_at dksL_law_28 2 rfl rfl)
theorem dL_law_822 : decode cL_law 822 = .ok (.iconst 1, 1) := dk_4 (dk_at dksL_law_28 3 rfl rfl)
theorem dL_law_823 : decode cL_law 823 = .ok (.iadd, 1) := dk_96 (dk_at dksL_law_28 4 rfl rfl)
theorem dL_law_824 : decode cL_law 824 = .ok (.iaload, 1) := dk_46 (dk_at dksL_law_28 5 rfl rfl)
theorem dL_law_825 : decode cL_law 825 = .ok (.aload_n 0, 1) := dk_42 (dk_at dksL_law_28 6 rfl rfl)
theorem dL_law_826 : decode cL_law 826 = .ok (.iload_n 3, 1) := dk_29 (dk_at dksL_law_28 7 rfl rfl)
theorem dL_law_827 : decode cL_law 827 = .ok (.iconst 2, 1) := dk_5 (dk_at dksL_law_28 8 rfl rfl)
theorem dL_law_828 : decode cL_law 828 = .ok (.iadd, 1) := dk_96 (dk_at dksL_law_28 9 rfl rfl)
theorem dL_law_829 : decode cL_law 829 = .ok (.iaload, 1) := dk_46 (dk_at dksL_law_28 10 rfl rfl)
theorem dL_law_830 : decode cL_law 830 = .ok (.invokevirtual 96, 3) := dk_182 0 96 (dk_at dksL_law_28 11 rfl rfl)
theorem dL_law_833 : decode cL_law 833 = .ok (.if_icmp .eq 711, 3) := dk_159 2 199 (dk_at dksL_law_28 14 rfl rfl)
theorem dL_law_836 : decode cL_law 836 = .ok (.iconst 0, 1) := dk_3 (dk_at dksL_law_28 17 rfl rfl)
theorem dL_law_837 : decode cL_law 837 = .ok (.ireturn, 1) := dk_172 (dk_at dksL_law_28 18 rfl rfl)
theorem dL_law_838 : decode cL_law 838 = .ok (.aload_n 1, 1) := dk_43 (dk_at dksL_law_28 19 rfl rfl)
theorem dL_law_839 : decode cL_law 839 = .ok (.aload_n 0, 1) := dk_42 (dk_at dksL_law_28 20 rfl rfl)
theorem dL_law_840 : decode cL_law 840 = .ok (.iload_n 3, 1) := dk_29 (dk_at dksL_law_28 21 rfl rfl)
theorem dL_law_841 : decode cL_law 841 = .ok (.iconst 1, 1) := dk_4 (dk_at dksL_law_28 22 rfl rfl)
theorem dL_law_842 : decode cL_law 842 = .ok (.iadd, 1) := dk_96 (dk_at dksL_law_28 23 rfl rfl)
theorem dL_law_843 : decode cL_law 843 = .ok (.iaload, 1) := dk_46 (dk_at dksL_law_29 0 rfl rfl)
theorem dL_law_844 : decode cL_law 844 = .ok (.aload_n 0, 1) := dk_42 (dk_at dksL_law_29 1 rfl rfl)
theorem dL_law_845 : decode cL_law 845 = .ok (.iload_n 3, 1) := dk_29 (dk_at dksL_law_29 2 rfl rfl)
theorem dL_law_846 : decode cL_law 846 = .ok (.iconst 2, 1) := dk_5 (dk_at dksL_law_29 3 rfl rfl)
theorem dL_law_847 : decode cL_law 847 = .ok (.iadd, 1) := dk_96 (dk_at dksL_law_29 4 rfl rfl)
theorem dL_law_848 : decode cL_law 848 = .ok (.iaload, 1) := dk_46 (dk_at dksL_law_29 5 rfl rfl)
theorem dL_law_849 : decode cL_law 849 = .ok (.invokevirtual 97, 3) := dk_182 0 97 (dk_at dksL_law_29 6 rfl rfl)
theorem dL_law_852 : decode cL_law 852 = .ok (.aload_n 2, 1) := dk_44 (dk_at dksL_law_29 9 rfl rfl)
theorem dL_law_853 : decode cL_law 853 = .ok (.aload_n 0, 1) := dk_42 (dk_at dksL_law_29 10 rfl rfl)
theorem dL_law_854 : decode cL_law 854 = .ok (.iload_n 3, 1) := dk_29 (dk_at dksL_law_29 11 rfl rfl)
theorem dL_law_855 : decode cL_law 855 = .ok (.iconst 1, 1) := dk_4 (dk_at dksL_law_29 12 rfl rfl)
theorem dL_law_856 : decode cL_law 856 = .ok (.iadd, 1) := dk_96 (dk_at dksL_law_29 13 rfl rfl)
theorem dL_law_857 : decode cL_law 857 = .ok (.iaload, 1) := dk_46 (dk_at dksL_law_29 14 rfl rfl)
theorem dL_law_858 : decode cL_law 858 = .ok (.aload_n 0, 1) := dk_42 (dk_at dksL_law_29 15 rfl rfl)
theorem dL_law_859 : decode cL_law 859 = .ok (.iload_n 3, 1) := dk_29 (dk_at dksL_law_29 16 rfl rfl)
theorem dL_law_860 : decode cL_law 860 = .ok (.iconst 2, 1) := dk_5 (dk_at dksL_law_29 17 rfl rfl)
theorem dL_law_861 : decode cL_law 861 = .ok (.iadd, 1) := dk_96 (dk_at dksL_law_29 18 rfl rfl)
theorem dL_law_862 : decode cL_law 862 = .ok (.iaload, 1) := dk_46 (dk_at dksL_law_29 19 rfl rfl)
theorem dL_law_863 : decode cL_law 863 = .ok (.invokevirtual 100, 3) := dk_182 0 100 (dk_at dksL_law_29 20 rfl rfl)
theorem dL_law_866 : decode cL_law 866 = .ok (.if_icmp .eq 678, 3) := dk_159 2 166 (dk_at dksL_law_30 0 rfl rfl)
theorem dL_law_869 : decode cL_law 869 = .ok (.iconst 0, 1) := dk_3 (dk_at dksL_law_30 3 rfl rfl)
theorem dL_law_870 : decode cL_law 870 = .ok (.ireturn, 1) := dk_172 (dk_at dksL_law_30 4 rfl rfl)
theorem dL_law_871 : decode cL_law 871 = .ok (.aload_n 1, 1) := dk_43 (dk_at dksL_law_30 5 rfl rfl)
theorem dL_law_872 : decode cL_law 872 = .ok (.aload_n 0, 1) := dk_42 (dk_at dksL_law_30 6 rfl rfl)
theorem dL_law_873 : decode cL_law 873 = .ok (.iload_n 3, 1) := dk_29 (dk_at dksL_law_30 7 rfl rfl)
theorem dL_law_874 : decode cL_law 874 = .ok (.iconst 1, 1) := dk_4 (dk_at dksL_law_30 8 rfl rfl)
theorem dL_law_875 : decode cL_law 875 = .ok (.iadd, 1) := dk_96 (dk_at dksL_law_30 9 rfl rfl)
theorem dL_law_876 : decode cL_law 876 = .ok (.iaload, 1) := dk_46 (dk_at dksL_law_30 10 rfl rfl)
theorem dL_law_877 : decode cL_law 877 = .ok (.aload_n 0, 1) := dk_42 (dk_at dksL_law_30 11 rfl rfl)
theorem dL_law_878 : decode cL_law 878 = .ok (.iload_n 3, 1) := dk_29 (dk_at dksL_law_30 12 rfl rfl)
theorem dL_law_879 : decode cL_law 879 = .ok (.iconst 2, 1) := dk_5 (dk_at dksL_law_30 13 rfl rfl)
theorem dL_law_880 : decode cL_law 880 = .ok (.iadd, 1) := dk_96 (dk_at dksL_law_30 14 rfl rfl)
theorem dL_law_881 : decode cL_law 881 = .ok (.iaload, 1) := dk_46 (dk_at dksL_law_30 15 rfl rfl)
theorem dL_law_882 : decode cL_law 882 = .ok (.aload_n 0, 1) := dk_42 (dk_at dksL_law_30 16 rfl rfl)
theorem dL_law_883 : decode cL_law 883 = .ok (.iload_n 3, 1) := dk_29 (dk_at dksL_law_30 17 rfl rfl)
theorem dL_law_884 : decode cL_law 884 = .ok (.iconst 3, 1) := dk_6 (dk_at dksL_law_30 18 rfl rfl)
theorem dL_law_885 : decode cL_law 885 = .ok (.iadd, 1) := dk_96 (dk_at dksL_law_30 19 rfl rfl)
theorem dL_law_886 : decode cL_law 886 = .ok (.iaload, 1) := dk_46 (dk_at dksL_law_30 20 rfl rfl)
theorem dL_law_887 : decode cL_law 887 = .ok (.invokevirtual 101, 3) := dk_182 0 101 (dk_at dksL_law_30 21 rfl rfl)
theorem dL_law_890 : decode cL_law 890 = .ok (.aload_n 2, 1) := dk_44 (dk_at dksL_law_31 0 rfl rfl)
theorem dL_law_891 : decode cL_law 891 = .ok (.aload_n 0, 1) := dk_42 (dk_at dksL_law_31 1 rfl rfl)
theorem dL_law_892 : decode cL_law 892 = .ok (.iload_n 3, 1) := dk_29 (dk_at dksL_law_31 2 rfl rfl)
theorem dL_law_893 : decode cL_law 893 = .ok (.iconst 1, 1) := dk_4 (dk_at dksL_law_31 3 rfl rfl)
theorem dL_law_894 : decode cL_law 894 = .ok (.iadd, 1) := dk_96 (dk_at dksL_law_31 4 rfl rfl)
theorem dL_law_895 : decode cL_law 895 = .ok (.iaload, 1) := dk_46 (dk_at dksL_law_31 5 rfl rfl)
theorem dL_law_896 : decode cL_law 896 = .ok (.aload_n 0, 1) := dk_42 (dk_at dksL_law_31 6 rfl rfl)
theorem dL_law_897 : decode cL_law 897 = .ok (.iload_n 3, 1) := dk_29 (dk_at dksL_law_31 7 rfl rfl)
theorem dL_law_898 : decode cL_law 898 = .ok (.iconst 2, 1) := dk_5 (dk_at dksL_law_31 8 rfl rfl)
theorem dL_law_899 : decode cL_law 899 = .ok (.iadd, 1) := dk_96 (dk_at dksL_law_31 9 rfl rfl)
theorem dL_law_900 : decode cL_law 900 = .ok (.iaload, 1) := dk_46 (dk_at dksL_law_31 10 rfl rfl)
theorem dL_law_901 : decode cL_law 901 = .ok (.aload_n 0, 1) := dk_42 (dk_at dksL_law_31 11 rfl rfl)
theorem dL_law_902 : decode cL_law 902 = .ok (.iload_n 3, 1) := dk_29 (dk_at dksL_law_31 12 rfl rfl)
theorem dL_law_903 : decode cL_law 903 = .ok (.iconst 3, 1) := dk_6 (dk_at dksL_law_31 13 rfl rfl)
theorem dL_law_904 : decode cL_law 904 = .ok (.iadd, 1) := dk_96 (dk_at dksL_law_31 14 rfl rfl)
theorem dL_law_905 : decode cL_law 905 = .ok (.iaload, 1) := dk_46 (dk_at dksL_law_31 15 rfl rfl)
theorem dL_law_906 : decode cL_law 906 = .ok (.invokevirtual 104, 3) := dk_182 0 104 (dk_at dksL_law_31 16 rfl rfl)
theorem dL_law_909 : decode cL_law 909 = .ok (.if_icmp .eq 635, 3) := dk_159 2 123 (dk_at dksL_law_31 19 rfl rfl)
theorem dL_law_912 : decode cL_law 912 = .ok (.iconst 0, 1) := dk_3 (dk_at dksL_law_31 22 rfl rfl)
theorem dL_law_913 : decode cL_law 913 = .ok (.ireturn, 1) := dk_172 (dk_at dksL_law_31 23 rfl rfl)
theorem dL_law_914 : decode cL_law 914 = .ok (.aload_n 1, 1) := dk_43 (dk_at dksL_law_32 0 rfl rfl)
theorem dL_law_915 : decode cL_law 915 = .ok (.invokevirtual 105, 3) := dk_182 0 105 (dk_at dksL_law_32 1 rfl rfl)
theorem dL_law_918 : decode cL_law 918 = .ok (.aload_n 2, 1) := dk_44 (dk_at dksL_law_32 4 rfl rfl)
theorem dL_law_919 : decode cL_law 919 = .ok (.invokevirtual 108, 3) := dk_182 0 108 (dk_at dksL_law_32 5 rfl rfl)
theorem dL_law_922 : decode cL_law 922 = .ok (.if_icmp .eq 622, 3) := dk_159 2 110 (dk_at dksL_law_32 8 rfl rfl)
theorem dL_law_925 : decode cL_law 925 = .ok (.iconst 0, 1) := dk_3 (dk_at dksL_law_32 11 rfl rfl)
theorem dL_law_926 : decode cL_law 926 = .ok (.ireturn, 1) := dk_172 (dk_at dksL_law_32 12 rfl rfl)
theorem dL_law_927 : decode cL_law 927 = .ok (.aload_n 1, 1) := dk_43 (dk_at dksL_law_32 13 rfl rfl)
theorem dL_law_928 : decode cL_law 928 = .ok (.aload_n 0, 1) := dk_42 (dk_at dksL_law_32 14 rfl rfl)
theorem dL_law_929 : decode cL_law 929 = .ok (.iload_n 3, 1) := dk_29 (dk_at dksL_law_32 15 rfl rfl)
theorem dL_law_930 : decode cL_law 930 = .ok (.iconst 1, 1) := dk_4 (dk_at dksL_law_32 16 rfl rfl)
theorem dL_law_931 : decode cL_law 931 = .ok (.iadd, 1) := dk_96 (dk_at dksL_law_32 17 rfl rfl)
theorem dL_law_932 : decode cL_law 932 = .ok (.iaload, 1) := dk_46 (dk_at dksL_law_32 18 rfl rfl)
theorem dL_law_933 : decode cL_law 933 = .ok (.invokevirtual 109, 3) := dk_182 0 109 (dk_at dksL_law_32 19 rfl rfl)
theorem dL_law_936 : decode cL_law 936 = .ok (.aload_n 2, 1) := dk_44 (dk_at dksL_law_32 22 rfl rfl)
theorem dL_law_937 : decode cL_law 937 = .ok (.aload_n 0, 1) := dk_42 (dk_at dksL_law_32 23 rfl rfl)
theorem dL_law_938 : decode cL_law 938 = .ok (.iload_n 3, 1) := dk_29 (dk_at dksL_law_33 0 rfl rfl)
theorem dL_law_939 : decode cL_law 939 = .ok (.iconst 1, 1) := dk_4 (dk_at dksL_law_33 1 rfl rfl)
theorem dL_law_940 : decode cL_law 940 = .ok (.iadd, 1) := dk_96 (dk_at dksL_law_33 2 rfl rfl)
theorem dL_law_941 : decode cL_law 941 = .ok (.iaload, 1) := dk_46 (dk_at dksL_law_33 3 rfl rfl)
theorem dL_law_942 : decode cL_law 942 = .ok (.invokevirtual 112, 3) := dk_182 0 112 (dk_at dksL_law_33 4 rfl rfl)
theorem dL_law_945 : decode cL_law 945 = .ok (.if_icmp .eq 599, 3) := dk_159 2 87 (dk_at dksL_law_33 7 rfl rfl)
theorem dL_law_948 : decode cL_law 948 = .ok (.iconst 0, 1) := dk_3 (dk_at dksL_law_33 10 rfl rfl)
theorem dL_law_949 : decode cL_law 949 = .ok (.ireturn, 1) := dk_172 (dk_at dksL_law_33 11 rfl rfl)
theorem dL_law_950 : decode cL_law 950 = .ok (.aload_n 1, 1) := dk_43 (dk_at dksL_law_33 12 rfl rfl)
theorem dL_law_951 : decode cL_law 951 = .ok (.aload_n 0, 1) := dk_42 (dk_at dksL_law_33 13 rfl rfl)
theorem dL_law_952 : decode cL_law 952 = .ok (.iload_n 3, 1) := dk_29 (dk_at dksL_law_33 14 rfl rfl)
theorem dL_law_953 : decode cL_law 953 = .ok (.iconst 1, 1) := dk_4 (dk_at dksL_law_33 15 rfl rfl)
theorem dL_law_954 : decode cL_law 954 = .ok (.iadd, 1) := dk_96 (dk_at dksL_law_33 16 rfl rfl)
theorem dL_law_955 : decode cL_law 955 = .ok (.iaload, 1) := dk_46 (dk_at dksL_law_33 17 rfl rfl)
theorem dL_law_956 : decode cL_law 956 = .ok (.aload_n 0, 1) := dk_42 (dk_at dksL_law_33 18 rfl rfl)
theorem dL_law_957 : decode cL_law 957 = .ok (.iload_n 3, 1) := dk_29 (dk_at dksL_law_33 19 rfl rfl)
theorem dL_law_958 : decode cL_law 958 = .ok (.iconst 2, 1) := dk_5 (dk_at dksL_law_33 20 rfl rfl)
theorem dL_law_959 : decode cL_law 959 = .ok (.iadd, 1) := dk_96 (dk_at dksL_law_33 21 rfl rfl)
theorem dL_law_960 : decode cL_law 960 = .ok (.iaload, 1) := dk_46 (dk_at dksL_law_33 22 rfl rfl)
theorem dL_law_961 : decode cL_law 961 = .ok (.invokevirtual 113, 3) := dk_182 0 113 (dk_at dksL_law_34 0 rfl rfl)
theorem dL_law_964 : decode cL_law 964 = .ok (.aload_n 2, 1) := dk_44 (dk_at dksL_law_34 3 rfl rfl)
theorem dL_law_965 : decode cL_law 965 = .ok (.aload_n 0, 1) := dk_42 (dk_at dksL_law_34 4 rfl rfl)
theorem dL_law_966 : decode cL_law 966 = .ok (.iload_n 3, 1) := dk_29 (dk_at dksL_law_34 5 rfl rfl)
theorem dL_law_967 : decode cL_law 967 = .ok (.iconst 1, 1) := dk_4 (dk_at dksL_law_34 6 rfl rfl)
theorem dL_law_968 : decode cL_law 968 = .ok (.iadd, 1) := dk_96 (dk_at dksL_law_34 7 rfl rfl)
theorem dL_law_969 : decode cL_law 969 = .ok (.iaload, 1) := dk_46 (dk_at dksL_law_34 8 rfl rfl)
theorem dL_law_970 : decode cL_law 970 = .ok (.aload_n 0, 1) := dk_42 (dk_at dksL_law_34 9 rfl rfl)
theorem dL_law_971 : decode cL_law 971 = .ok (.iload_n 3, 1) := dk_29 (dk_at dksL_law_34 10 rfl rfl)
theorem dL_law_972 : decode cL_law 972 = .ok (.iconst 2, 1) := dk_5 (dk_at dksL_law_34 11 rfl rfl)
theorem dL_law_973 : decode cL_law 973 = .ok (.iadd, 1) := dk_96 (dk_at dksL_law_34 12 rfl rfl)
theorem dL_law_974 : decode cL_law 974 = .ok (.iaload, 1) := dk_46 (dk_at dksL_law_34 13 rfl rfl)
theorem dL_law_975 : decode cL_law 975 = .ok (.invokevirtual 116, 3) := dk_182 0 116 (dk_at dksL_law_34 14 rfl rfl)
theorem dL_law_978 : decode cL_law 978 = .ok (.if_icmp .eq 566, 3) := dk_159 2 54 (dk_at dksL_law_34 17 rfl rfl)
theorem dL_law_981 : decode cL_law 981 = .ok (.iconst 0, 1) := dk_3 (dk_at dksL_law_34 20 rfl rfl)
theorem dL_law_982 : decode cL_law 982 = .ok (.ireturn, 1) := dk_172 (dk_at dksL_law_34 21 rfl rfl)
theorem dL_law_983 : decode cL_law 983 = .ok (.aload_n 1, 1) := dk_43 (dk_at dksL_law_34 22 rfl rfl)
theorem dL_law_984 : decode cL_law 984 = .ok (.aload_n 0, 1) := dk_42 (dk_at dksL_law_34 23 rfl rfl)
theorem dL_law_985 : decode cL_law 985 = .ok (.iload_n 3, 1) := dk_29 (dk_at dksL_law_35 0 rfl rfl)
theorem dL_law_986 : decode cL_law 986 = .ok (.iconst 1, 1) := dk_4 (dk_at dksL_law_35 1 rfl rfl)
theorem dL_law_987 : decode cL_law 987 = .ok (.iadd, 1) := dk_96 (dk_at dksL_law_35 2 rfl rfl)
theorem dL_law_988 : decode cL_law 988 = .ok (.iaload, 1) := dk_46 (dk_at dksL_law_35 3 rfl rfl)
theorem dL_law_989 : decode cL_law 989 = .ok (.aload_n 0, 1) := dk_42 (dk_at dksL_law_35 4 rfl rfl)
theorem dL_law_990 : decode cL_law 990 = .ok (.iload_n 3, 1) := dk_29 (dk_at dksL_law_35 5 rfl rfl)
theorem dL_law_991 : decode cL_law 991 = .ok (.iconst 2, 1) := dk_5 (dk_at dksL_law_35 6 rfl rfl)
theorem dL_law_992 : decode cL_law 992 = .ok (.iadd, 1) := dk_96 (dk_at dksL_law_35 7 rfl rfl)
theorem dL_law_993 : decode cL_law 993 = .ok (.iaload, 1) := dk_46 (dk_at dksL_law_35 8 rfl rfl)
theorem dL_law_994 : decode cL_law 994 = .ok (.invokevirtual 117, 3) := dk_182 0 117 (dk_at dksL_law_35 9 rfl rfl)
theorem dL_law_997 : decode cL_law 997 = .ok (.aload_n 2, 1) := dk_44 (dk_at dksL_law_35 12 rfl rfl)
theorem dL_law_998 : decode cL_law 998 = .ok (.aload_n 0, 1) := dk_42 (dk_at dksL_law_35 13 rfl rfl)
theorem dL_law_999 : decode cL_law 999 = .ok (.iload_n 3, 1) := dk_29 (dk_at dksL_law_35 14 rfl rfl)
theorem dL_law_1000 : decode cL_law 1000 = .ok (.iconst 1, 1) := dk_4 (dk_at dksL_law_35 15 rfl rfl)
theorem dL_law_1001 : decode cL_law 1001 = .ok (.iadd, 1) := dk_96 (dk_at dksL_law_35 16 rfl rfl)
theorem dL_law_1002 : decode cL_law 1002 = .ok (.iaload, 1) := dk_46 (dk_at dksL_law_35 17 rfl rfl)
theorem dL_law_1003 : decode cL_law 1003 = .ok (.aload_n 0, 1) := dk_42 (dk_at dksL_law_35 18 rfl rfl)
theorem dL_law_1004 : decode cL_law 1004 = .ok (.iload_n 3, 1) := dk_29 (dk_at dksL_law_35 19 rfl rfl)
theorem dL_law_1005 : decode cL_law 1005 = .ok (.iconst 2, 1) := dk_5 (dk_at dksL_law_35 20 rfl rfl)
theorem dL_law_1006 : decode cL_law 1006 = .ok (.iadd, 1) := dk_96 (dk_at dksL_law_35 21 rfl rfl)
theorem dL_law_1007 : decode cL_law 1007 = .ok (.iaload, 1) := dk_46 (dk_at dksL_law_35 22 rfl rfl)
theorem dL_law_1008 : decode cL_law 1008 = .ok (.invokevirtual 120, 3) := dk_182 0 120 (dk_at dksL_law_36 0 rfl rfl)
theorem dL_law_1011 : decode cL_law 1011 = .ok (.if_icmp .eq 533, 3) := dk_159 2 21 (dk_at dksL_law_36 3 rfl rfl)
theorem dL_law_1014 : decode cL_law 1014 = .ok (.iconst 0, 1) := dk_3 (dk_at dksL_law_36 6 rfl rfl)
theorem dL_law_1015 : decode cL_law 1015 = .ok (.ireturn, 1) := dk_172 (dk_at dksL_law_36 7 rfl rfl)
theorem dL_law_1016 : decode cL_law 1016 = .ok (.aload_n 1, 1) := dk_43 (dk_at dksL_law_36 8 rfl rfl)
theorem dL_law_1017 : decode cL_law 1017 = .ok (.aload_n 0, 1) := dk_42 (dk_at dksL_law_36 9 rfl rfl)
theorem dL_law_1018 : decode cL_law 1018 = .ok (.iload_n 3, 1) := dk_29 (dk_at dksL_law_36 10 rfl rfl)
theorem dL_law_1019 : decode cL_law 1019 = .ok (.iconst 1, 1) := dk_4 (dk_at dksL_law_36 11 rfl rfl)
theorem dL_law_1020 : decode cL_law 1020 = .ok (.iadd, 1) := dk_96 (dk_at dksL_law_36 12 rfl rfl)
theorem dL_law_1021 : decode cL_law 1021 = .ok (.iaload, 1) := dk_46 (dk_at dksL_law_36 13 rfl rfl)
theorem dL_law_1022 : decode cL_law 1022 = .ok (.aload_n 0, 1) := dk_42 (dk_at dksL_law_36 14 rfl rfl)
theorem dL_law_1023 : decode cL_law 1023 = .ok (.iload_n 3, 1) := dk_29 (dk_at dksL_law_36 15 rfl rfl)
theorem dL_law_1024 : decode cL_law 1024 = .ok (.iconst 2, 1) := dk_5 (dk_at dksL_law_36 16 rfl rfl)
theorem dL_law_1025 : decode cL_law 1025 = .ok (.iadd, 1) := dk_96 (dk_at dksL_law_36 17 rfl rfl)
theorem dL_law_1026 : decode cL_law 1026 = .ok (.iaload, 1) := dk_46 (dk_at dksL_law_36 18 rfl rfl)
theorem dL_law_1027 : decode cL_law 1027 = .ok (.invokevirtual 121, 3) := dk_182 0 121 (dk_at dksL_law_36 19 rfl rfl)
theorem dL_law_1030 : decode cL_law 1030 = .ok (.aload_n 2, 1) := dk_44 (dk_at dksL_law_36 22 rfl rfl)
theorem dL_law_1031 : decode cL_law 1031 = .ok (.aload_n 0, 1) := dk_42 (dk_at dksL_law_36 23 rfl rfl)
theorem dL_law_1032 : decode cL_law 1032 = .ok (.iload_n 3, 1) := dk_29 (dk_at dksL_law_37 0 rfl rfl)
theorem dL_law_1033 : decode cL_law 1033 = .ok (.iconst 1, 1) := dk_4 (dk_at dksL_law_37 1 rfl rfl)
theorem dL_law_1034 : decode cL_law 1034 = .ok (.iadd, 1) := dk_96 (dk_at dksL_law_37 2 rfl rfl)
theorem dL_law_1035 : decode cL_law 1035 = .ok (.iaload, 1) := dk_46 (dk_at dksL_law_37 3 rfl rfl)
theorem dL_law_1036 : decode cL_law 1036 = .ok (.aload_n 0, 1) := dk_42 (dk_at dksL_law_37 4 rfl rfl)
theorem dL_law_1037 : decode cL_law 1037 = .ok (.iload_n 3, 1) := dk_29 (dk_at dksL_law_37 5 rfl rfl)
theorem dL_law_1038 : decode cL_law 1038 = .ok (.iconst 2, 1) := dk_5 (dk_at dksL_law_37 6 rfl rfl)
theorem dL_law_1039 : decode cL_law 1039 = .ok (.iadd, 1) := dk_96 (dk_at dksL_law_37 7 rfl rfl)
theorem dL_law_1040 : decode cL_law 1040 = .ok (.iaload, 1) := dk_46 (dk_at dksL_law_37 8 rfl rfl)
theorem dL_law_1041 : decode cL_law 1041 = .ok (.invokevirtual 124, 3) := dk_182 0 124 (dk_at dksL_law_37 9 rfl rfl)
theorem dL_law_1044 : decode cL_law 1044 = .ok (.if_icmp .eq 500, 3) := dk_159 1 244 (dk_at dksL_law_37 12 rfl rfl)
theorem dL_law_1047 : decode cL_law 1047 = .ok (.iconst 0, 1) := dk_3 (dk_at dksL_law_37 15 rfl rfl)
theorem dL_law_1048 : decode cL_law 1048 = .ok (.ireturn, 1) := dk_172 (dk_at dksL_law_37 16 rfl rfl)
theorem dL_law_1049 : decode cL_law 1049 = .ok (.aload_n 1, 1) := dk_43 (dk_at dksL_law_37 17 rfl rfl)
theorem dL_law_1050 : decode cL_law 1050 = .ok (.aload_n 0, 1) := dk_42 (dk_at dksL_law_37 18 rfl rfl)
theorem dL_law_1051 : decode cL_law 1051 = .ok (.iload_n 3, 1) := dk_29 (dk_at dksL_law_37 19 rfl rfl)
theorem dL_law_1052 : decode cL_law 1052 = .ok (.iconst 1, 1) := dk_4 (dk_at dksL_law_37 20 rfl rfl)
theorem dL_law_1053 : decode cL_law 1053 = .ok (.iadd, 1) := dk_96 (dk_at dksL_law_37 21 rfl rfl)
theorem dL_law_1054 : decode cL_law 1054 = .ok (.iaload, 1) := dk_46 (dk_at dksL_law_37 22 rfl rfl)
theorem dL_law_1055 : decode cL_law 1055 = .ok (.invokevirtual 125, 3) := dk_182 0 125 (dk_at dksL_law_38 0 rfl rfl)
theorem dL_law_1058 : decode cL_law 1058 = .ok (.aload_n 2, 1) := dk_44 (dk_at dksL_law_38 3 rfl rfl)
theorem dL_law_1059 : decode cL_law 1059 = .ok (.aload_n 0, 1) := dk_42 (dk_at dksL_law_38 4 rfl rfl)
theorem dL_law_1060 : decode cL_law 1060 = .ok (.iload_n 3, 1) := dk_29 (dk_at dksL_law_38 5 rfl rfl)
theorem dL_law_1061 : decode cL_law 1061 = .ok (.iconst 1, 1) := dk_4 (dk_at dksL_law_38 6 rfl rfl)
theorem dL_law_1062 : decode cL_law 1062 = .ok (.iadd, 1) := dk_96 (dk_at dksL_law_38 7 rfl rfl)
theorem dL_law_1063 : decode cL_law 1063 = .ok (.iaload, 1) := dk_46 (dk_at dksL_law_38 8 rfl rfl)
theorem dL_law_1064 : decode cL_law 1064 = .ok (.invokevirtual 128, 3) := dk_182 0 128 (dk_at dksL_law_38 9 rfl rfl)
theorem dL_law_1067 : decode cL_law 1067 = .ok (.if_icmp .eq 477, 3) := dk_159 1 221 (dk_at dksL_law_38 12 rfl rfl)
theorem dL_law_1070 : decode cL_law 1070 = .ok (.iconst 0, 1) := dk_3 (dk_at dksL_law_38 15 rfl rfl)
theorem dL_law_1071 : decode cL_law 1071 = .ok (.ireturn, 1) := dk_172 (dk_at dksL_law_38 16 rfl rfl)
theorem dL_law_1072 : decode cL_law 1072 = .ok (.aload_n 1, 1) := dk_43 (dk_at dksL_law_38 17 rfl rfl)
theorem dL_law_1073 : decode cL_law 1073 = .ok (.aload_n 0, 1) := dk_42 (dk_at dksL_law_38 18 rfl rfl)
theorem dL_law_1074 : decode cL_law 1074 = .ok (.iload_n 3, 1) := dk_29 (dk_at dksL_law_38 19 rfl rfl)
theorem dL_law_1075 : decode cL_law 1075 = .ok (.iconst 1, 1) := dk_4 (dk_at dksL_law_38 20 rfl rfl)
theorem dL_law_1076 : decode cL_law 1076 = .ok (.iadd, 1) := dk_96 (dk_at dksL_law_38 21 rfl rfl)
theorem dL_law_1077 : decode cL_law 1077 = .ok (.iaload, 1) := dk_46 (dk_at dksL_law_38 22 rfl rfl)
theorem dL_law_1078 : decode cL_law 1078 = .ok (.aload_n 0, 1) := dk_42 (dk_at dksL_law_38 23 rfl rfl)
theorem dL_law_1079 : decode cL_law 1079 = .ok (.iload_n 3, 1) := dk_29 (dk_at dksL_law_39 0 rfl rfl)
theorem dL_law_1080 : decode cL_law 1080 = .ok (.iconst 2, 1) := dk_5 (dk_at dksL_law_39 1 rfl rfl)
theorem dL_law_1081 : decode cL_law 1081 = .ok (.iadd, 1) := dk_96 (dk_at dksL_law_39 2 rfl rfl)
theorem dL_law_1082 : decode cL_law 1082 = .ok (.iaload, 1) := dk_46 (dk_at dksL_law_39 3 rfl rfl)
theorem dL_law_1083 : decode cL_law 1083 = .ok (.aload_n 0, 1) := dk_42 (dk_at dksL_law_39 4 rfl rfl)
theorem dL_law_1084 : decode cL_law 1084 = .ok (.iload_n 3, 1) := dk_29 (dk_at dksL_law_39 5 rfl rfl)
theorem dL_law_1085 : decode cL_law 1085 = .ok (.iconst 3, 1) := dk_6 (dk_at dksL_law_39 6 rfl rfl)
theorem dL_law_1086 : decode cL_law 1086 = .ok (.iadd, 1) := dk_96 (dk_at dksL_law_39 7 rfl rfl)
theorem dL_law_1087 : decode cL_law 1087 = .ok (.iaload, 1) := dk_46 (dk_at dksL_law_39 8 rfl rfl)
theorem dL_law_1088 : decode cL_law 1088 = .ok (.invokevirtual 129, 3) := dk_182 0 129 (dk_at dksL_law_39 9 rfl rfl)
theorem dL_law_1091 : decode cL_law 1091 = .ok (.aload_n 2, 1) := dk_44 (dk_at dksL_law_39 12 rfl rfl)
theorem dL_law_1092 : decode cL_law 1092 = .ok (.aload_n 0, 1) := dk_42 (dk_at dksL_law_39 13 rfl rfl)
theorem dL_law_1093 : decode cL_law 1093 = .ok (.iload_n 3, 1) := dk_29 (dk_at dksL_law_39 14 rfl rfl)
theorem dL_law_1094 : decode cL_law 1094 = .ok (.iconst 1, 1) := dk_4 (dk_at dksL_law_39 15 rfl rfl)
theorem dL_law_1095 : decode cL_law 1095 = .ok (.iadd, 1) := dk_96 (dk_at dksL_law_39 16 rfl rfl)
theorem dL_law_1096 : decode cL_law 1096 = .ok (.iaload, 1) := dk_46 (dk_at dksL_law_39 17 rfl rfl)
theorem dL_law_1097 : decode cL_law 1097 = .ok (.aload_n 0, 1) := dk_42 (dk_at dksL_law_39 18 rfl rfl)
theorem dL_law_1098 : decode cL_law 1098 = .ok (.iload_n 3, 1) := dk_29 (dk_at dksL_law_39 19 rfl rfl)
theorem dL_law_1099 : decode cL_law 1099 = .ok (.iconst 2, 1) := dk_5 (dk_at dksL_law_39 20 rfl rfl)
theorem dL_law_1100 : decode cL_law 1100 = .ok (.iadd, 1) := dk_96 (dk_at dksL_law_39 21 rfl rfl)
theorem dL_law_1101 : decode cL_law 1101 = .ok (.iaload, 1) := dk_46 (dk_at dksL_law_39 22 rfl rfl)
theorem dL_law_1102 : decode cL_law 1102 = .ok (.aload_n 0, 1) := dk_42 (dk_at dksL_law_39 23 rfl rfl)
theorem dL_law_1103 : decode cL_law 1103 = .ok (.iload_n 3, 1) := dk_29 (dk_at dksL_law_40 0 rfl rfl)
theorem dL_law_1104 : decode cL_law 1104 = .ok (.iconst 3, 1) := dk_6 (dk_at dksL_law_40 1 rfl rfl)
theorem dL_law_1105 : decode cL_law 1105 = .ok (.iadd, 1) := dk_96 (dk_at dksL_law_40 2 rfl rfl)
theorem dL_law_1106 : decode cL_law 1106 = .ok (.iaload, 1) := dk_46 (dk_at dksL_law_40 3 rfl rfl)
theorem dL_law_1107 : decode cL_law 1107 = .ok (.invokevirtual 133, 3) := dk_182 0 133 (dk_at dksL_law_40 4 rfl rfl)
theorem dL_law_1110 : decode cL_law 1110 = .ok (.lcmp, 1) := dk_148 (dk_at dksL_law_40 7 rfl rfl)
theorem dL_law_1111 : decode cL_law 1111 = .ok (.ifCond .eq 433, 3) := dk_153 1 177 (dk_at dksL_law_40 8 rfl rfl)
theorem dL_law_1114 : decode cL_law 1114 = .ok (.iconst 0, 1) := dk_3 (dk_at dksL_law_40 11 rfl rfl)
theorem dL_law_1115 : decode cL_law 1115 = .ok (.ireturn, 1) := dk_172 (dk_at dksL_law_40 12 rfl rfl)
theorem dL_law_1116 : decode cL_law 1116 = .ok (.aload_n 1, 1) := dk_43 (dk_at dksL_law_40 13 rfl rfl)
theorem dL_law_1117 : decode cL_law 1117 = .ok (.aload_n 0, 1) := dk_42 (dk_at dksL_law_40 14 rfl rfl)
theorem dL_law_1118 : decode cL_law 1118 = .ok (.iload_n 3, 1) := dk_29 (dk_at dksL_law_40 15 rfl rfl)
theorem dL_law_1119 : decode cL_law 1119 = .ok (.iconst 1, 1) := dk_4 (dk_at dksL_law_40 16 rfl rfl)
theorem dL_law_1120 : decode cL_law 1120 = .ok (.iadd, 1) := dk_96 (dk_at dksL_law_40 17 rfl rfl)
theorem dL_law_1121 : decode cL_law 1121 = .ok (.iaload, 1) := dk_46 (dk_at dksL_law_40 18 rfl rfl)
theorem dL_law_1122 : decode cL_law 1122 = .ok (.invokevirtual 134, 3) := dk_182 0 134 (dk_at dksL_law_40 19 rfl rfl)
theorem dL_law_1125 : decode cL_law 1125 = .ok (.aload_n 2, 1) := dk_44 (dk_at dksL_law_40 22 rfl rfl)
theorem dL_law_1126 : decode cL_law 1126 = .ok (.aload_n 0, 1) := dk_42 (dk_at dksL_law_40 23 rfl rfl)
theorem dL_law_1127 : decode cL_law 1127 = .ok (.iload_n 3, 1) := dk_29 (dk_at dksL_law_41 0 rfl rfl)
theorem dL_law_1128 : decode cL_law 1128 = .ok (.iconst 1, 1) := dk_4 (dk_at dksL_law_41 1 rfl rfl)
theorem dL_law_1129 : decode cL_law 1129 = .ok (.iadd, 1) := dk_96 (dk_at dksL_law_41 2 rfl rfl)
theorem dL_law_1130 : decode cL_law 1130 = .ok (.iaload, 1) := dk_46 (dk_at dksL_law_41 3 rfl rfl)
theorem dL_law_1131 : decode cL_law 1131 = .ok (.invokevirtual 137, 3) := dk_182 0 137 (dk_at dksL_law_41 4 rfl rfl)
theorem dL_law_1134 : decode cL_law 1134 = .ok (.if_icmp .eq 410, 3) := dk_159 1 154 (dk_at dksL_law_41 7 rfl rfl)
theorem dL_law_1137 : decode cL_law 1137 = .ok (.iconst 0, 1) := dk_3 (dk_at dksL_law_41 10 rfl rfl)
theorem dL_law_1138 : decode cL_law 1138 = .ok (.ireturn, 1) := dk_172 (dk_at dksL_law_41 11 rfl rfl)
theorem dL_law_1139 : decode cL_law 1139 = .ok (.aload_n 1, 1) := dk_43 (dk_at dksL_law_41 12 rfl rfl)
theorem dL_law_1140 : decode cL_law 1140 = .ok (.aload_n 0, 1) := dk_42 (dk_at dksL_law_41 13 rfl rfl)
theorem dL_law_1141 : decode cL_law 1141 = .ok (.iload_n 3, 1) := dk_29 (dk_at dksL_law_41 14 rfl rfl)
theorem dL_law_1142 : decode cL_law 1142 = .ok (.iconst 1, 1) := dk_4 (dk_at dksL_law_41 15 rfl rfl)
theorem dL_law_1143 : decode cL_law 1143 = .ok (.iadd, 1) := dk_96 (dk_at dksL_law_41 16 rfl rfl)
theorem dL_law_1144 : decode cL_law 1144 = .ok (.iaload, 1) := dk_46 (dk_at dksL_law_41 17 rfl rfl)
theorem dL_law_1145 : decode cL_law 1145 = .ok (.aload_n 0, 1) := dk_42 (dk_at dksL_law_41 18 rfl rfl)
theorem dL_law_1146 : decode cL_law 1146 = .ok (.iload_n 3, 1) := dk_29 (dk_at dksL_law_41 19 rfl rfl)
theorem dL_law_1147 : decode cL_law 1147 = .ok (.iconst 2, 1) := dk_5 (dk_at dksL_law_41 20 rfl rfl)
theorem dL_law_1148 : decode cL_law 1148 = .ok (.iadd, 1) := dk_96 (dk_at dksL_law_41 21 rfl rfl)
theorem dL_law_1149 : decode cL_law 1149 = .ok (.iaload, 1) := dk_46 (dk_at dksL_law_41 22 rfl rfl)
theorem dL_law_1150 : decode cL_law 1150 = .ok (.invokevirtual 138, 3) := dk_182 0 138 (dk_at dksL_law_42 0 rfl rfl)
theorem dL_law_1153 : decode cL_law 1153 = .ok (.aload_n 2, 1) := dk_44 (dk_at dksL_law_42 3 rfl rfl)
theorem dL_law_1154 : decode cL_law 1154 = .ok (.aload_n 0, 1) := dk_42 (dk_at dksL_law_42 4 rfl rfl)
theorem dL_law_1155 : decode cL_law 1155 = .ok (.iload_n 3, 1) := dk_29 (dk_at dksL_law_42 5 rfl rfl)
theorem dL_law_1156 : decode cL_law 1156 = .ok (.iconst 1, 1) := dk_4 (dk_at dksL_law_42 6 rfl rfl)
theorem dL_law_1157 : decode cL_law 1157 = .ok (.iadd, 1) := dk_96 (dk_at dksL_law_42 7 rfl rfl)
theorem dL_law_1158 : decode cL_law 1158 = .ok (.iaload, 1) := dk_46 (dk_at dksL_law_42 8 rfl rfl)
theorem dL_law_1159 : decode cL_law 1159 = .ok (.aload_n 0, 1) := dk_42 (dk_at dksL_law_42 9 rfl rfl)
theorem dL_law_1160 : decode cL_law 1160 = .ok (.iload_n 3, 1) := dk_29 (dk_at dksL_law_42 10 rfl rfl)
theorem dL_law_1161 : decode cL_law 1161 = .ok (.iconst 2, 1) := dk_5 (dk_at dksL_law_42 11 rfl rfl)
theorem dL_law_1162 : decode cL_law 1162 = .ok (.iadd, 1) := dk_96 (dk_at dksL_law_42 12 rfl rfl)
theorem dL_law_1163 : decode cL_law 1163 = .ok (.iaload, 1) := dk_46 (dk_at dksL_law_42 13 rfl rfl)
theorem dL_law_1164 : decode cL_law 1164 = .ok (.invokevirtual 141, 3) := dk_182 0 141 (dk_at dksL_law_42 14 rfl rfl)
theorem dL_law_1167 : decode cL_law 1167 = .ok (.if_icmp .eq 377, 3) := dk_159 1 121 (dk_at dksL_law_42 17 rfl rfl)
theorem dL_law_1170 : decode cL_law 1170 = .ok (.iconst 0, 1) := dk_3 (dk_at dksL_law_42 20 rfl rfl)
theorem dL_law_1171 : decode cL_law 1171 = .ok (.ireturn, 1) := dk_172 (dk_at dksL_law_42 21 rfl rfl)
theorem dL_law_1172 : decode cL_law 1172 = .ok (.aload_n 1, 1) := dk_43 (dk_at dksL_law_42 22 rfl rfl)
theorem dL_law_1173 : decode cL_law 1173 = .ok (.invokevirtual 142, 3) := dk_182 0 142 (dk_at dksL_law_43 0 rfl rfl)
theorem dL_law_1176 : decode cL_law 1176 = .ok (.aload_n 2, 1) := dk_44 (dk_at dksL_law_43 3 rfl rfl)
theorem dL_law_1177 : decode cL_law 1177 = .ok (.invokevirtual 145, 3) := dk_182 0 145 (dk_at dksL_law_43 4 rfl rfl)
theorem dL_law_1180 : decode cL_law 1180 = .ok (.if_icmp .eq 364, 3) := dk_159 1 108 (dk_at dksL_law_43 7 rfl rfl)
theorem dL_law_1183 : decode cL_law 1183 = .ok (.iconst 0, 1) := dk_3 (dk_at dksL_law_43 10 rfl rfl)
theorem dL_law_1184 : decode cL_law 1184 = .ok (.ireturn, 1) := dk_172 (dk_at dksL_law_43 11 rfl rfl)
theorem dL_law_1185 : decode cL_law 1185 = .ok (.aload_n 1, 1) := dk_43 (dk_at dksL_law_43 12 rfl rfl)
theorem dL_law_1186 : decode cL_law 1186 = .ok (.invokevirtual 146, 3) := dk_182 0 146 (dk_at dksL_law_43 13 rfl rfl)
theorem dL_law_1189 : decode cL_law 1189 = .ok (.aload_n 2, 1) := dk_44 (dk_at dksL_law_43 16 rfl rfl)
theorem dL_law_1190 : decode cL_law 1190 = .ok (.invokevirtual 149, 3) := dk_182 0 149 (dk_at dksL_law_43 17 rfl rfl)
theorem dL_law_1193 : decode cL_law 1193 = .ok (.if_icmp .eq 351, 3) := dk_159 1 95 (dk_at dksL_law_43 20 rfl rfl)
theorem dL_law_1196 : decode cL_law 1196 = .ok (.iconst 0, 1) := dk_3 (dk_at dksL_law_43 23 rfl rfl)
theorem dL_law_1197 : decode cL_law 1197 = .ok (.ireturn, 1) := dk_172 (dk_at dksL_law_44 0 rfl rfl)
theorem dL_law_1198 : decode cL_law 1198 = .ok (.aload_n 1, 1) := dk_43 (dk_at dksL_law_44 1 rfl rfl)
theorem dL_law_1199 : decode cL_law 1199 = .ok (.aload_n 0, 1) := dk_42 (dk_at dksL_law_44 2 rfl rfl)
theorem dL_law_1200 : decode cL_law 1200 = .ok (.iload_n 3, 1) := dk_29 (dk_at dksL_law_44 3 rfl rfl)
theorem dL_law_1201 : decode cL_law 1201 = .ok (.iconst 1, 1) := dk_4 (dk_at dksL_law_44 4 rfl rfl)
theorem dL_law_1202 : decode cL_law 1202 = .ok (.iadd, 1) := dk_96 (dk_at dksL_law_44 5 rfl rfl)
theorem dL_law_1203 : decode cL_law 1203 = .ok (.iaload, 1) := dk_46 (dk_at dksL_law_44 6 rfl rfl)
theorem dL_law_1204 : decode cL_law 1204 = .ok (.aload_n 0, 1) := dk_42 (dk_at dksL_law_44 7 rfl rfl)
theorem dL_law_1205 : decode cL_law 1205 = .ok (.iload_n 3, 1) := dk_29 (dk_at dksL_law_44 8 rfl rfl)
theorem dL_law_1206 : decode cL_law 1206 = .ok (.iconst 2, 1) := dk_5 (dk_at dksL_law_44 9 rfl rfl)
theorem dL_law_1207 : decode cL_law 1207 = .ok (.iadd, 1) := dk_96 (dk_at dksL_law_44 10 rfl rfl)
theorem dL_law_1208 : decode cL_law 1208 = .ok (.iaload, 1) := dk_46 (dk_at dksL_law_44 11 rfl rfl)
theorem dL_law_1209 : decode cL_law 1209 = .ok (.invokevirtual 150, 3) := dk_182 0 150 (dk_at dksL_law_44 12 rfl rfl)
theorem dL_law_1212 : decode cL_law 1212 = .ok (.aload_n 2, 1) := dk_44 (dk_at dksL_law_44 15 rfl rfl)
theorem dL_law_1213 : decode cL_law 1213 = .ok (.aload_n 0, 1) := dk_42 (dk_at dksL_law_44 16 rfl rfl)
theorem dL_law_1214 : decode cL_law 1214 = .ok (.iload_n 3, 1) := dk_29 (dk_at dksL_law_44 17 rfl rfl)
theorem dL_law_1215 : decode cL_law 1215 = .ok (.iconst 1, 1) := dk_4 (dk_at dksL_law_44 18 rfl rfl)
theorem dL_law_1216 : decode cL_law 1216 = .ok (.iadd, 1) := dk_96 (dk_at dksL_law_44 19 rfl rfl)
theorem dL_law_1217 : decode cL_law 1217 = .ok (.iaload, 1) := dk_46 (dk_at dksL_law_44 20 rfl rfl)
theorem dL_law_1218 : decode cL_law 1218 = .ok (.aload_n 0, 1) := dk_42 (dk_at dksL_law_44 21 rfl rfl)
theorem dL_law_1219 : decode cL_law 1219 = .ok (.iload_n 3, 1) := dk_29 (dk_at dksL_law_44 22 rfl rfl)
theorem dL_law_1220 : decode cL_law 1220 = .ok (.iconst 2, 1) := dk_5 (dk_at dksL_law_44 23 rfl rfl)
theorem dL_law_1221 : decode cL_law 1221 = .ok (.iadd, 1) := dk_96 (dk_at dksL_law_45 0 rfl rfl)
theorem dL_law_1222 : decode cL_law 1222 = .ok (.iaload, 1) := dk_46 (dk_at dksL_law_45 1 rfl rfl)
theorem dL_law_1223 : decode cL_law 1223 = .ok (.invokevirtual 153, 3) := dk_182 0 153 (dk_at dksL_law_45 2 rfl rfl)
theorem dL_law_1226 : decode cL_law 1226 = .ok (.if_icmp .eq 318, 3) := dk_159 1 62 (dk_at dksL_law_45 5 rfl rfl)
theorem dL_law_1229 : decode cL_law 1229 = .ok (.iconst 0, 1) := dk_3 (dk_at dksL_law_45 8 rfl rfl)
theorem dL_law_1230 : decode cL_law 1230 = .ok (.ireturn, 1) := dk_172 (dk_at dksL_law_45 9 rfl rfl)
theorem dL_law_1231 : decode cL_law 1231 = .ok (.aload_n 1, 1) := dk_43 (dk_at dksL_law_45 10 rfl rfl)
theorem dL_law_1232 : decode cL_law 1232 = .ok (.aload_n 0, 1) := dk_42 (dk_at dksL_law_45 11 rfl rfl)
theorem dL_law_1233 : decode cL_law 1233 = .ok (.iload_n 3, 1) := dk_29 (dk_at dksL_law_45 12 rfl rfl)
theorem dL_law_1234 : decode cL_law 1234 = .ok (.iconst 1, 1) := dk_4 (dk_at dksL_law_45 13 rfl rfl)
theorem dL_law_1235 : decode cL_law 1235 = .ok (.iadd, 1) := dk_96 (dk_at dksL_law_45 14 rfl rfl)
theorem dL_law_1236 : decode cL_law 1236 = .ok (.iaload, 1) := dk_46 (dk_at dksL_law_45 15 rfl rfl)
theorem dL_law_1237 : decode cL_law 1237 = .ok (.aload_n 0, 1) := dk_42 (dk_at dksL_law_45 16 rfl rfl)
theorem dL_law_1238 : decode cL_law 1238 = .ok (.iload_n 3, 1) := dk_29 (dk_at dksL_law_45 17 rfl rfl)
theorem dL_law_1239 : decode cL_law 1239 = .ok (.iconst 2, 1) := dk_5 (dk_at dksL_law_45 18 rfl rfl)
theorem dL_law_1240 : decode cL_law 1240 = .ok (.iadd, 1) := dk_96 (dk_at dksL_law_45 19 rfl rfl)
theorem dL_law_1241 : decode cL_law 1241 = .ok (.iaload, 1) := dk_46 (dk_at dksL_law_45 20 rfl rfl)
theorem dL_law_1242 : decode cL_law 1242 = .ok (.invokevirtual 154, 3) := dk_182 0 154 (dk_at dksL_law_45 21 rfl rfl)
theorem dL_law_1245 : decode cL_law 1245 = .ok (.aload_n 2, 1) := dk_44 (dk_at dksL_law_46 0 rfl rfl)
theorem dL_law_1246 : decode cL_law 1246 = .ok (.aload_n 0, 1) := dk_42 (dk_at dksL_law_46 1 rfl rfl)
theorem dL_law_1247 : decode cL_law 1247 = .ok (.iload_n 3, 1) := dk_29 (dk_at dksL_law_46 2 rfl rfl)
theorem dL_law_1248 : decode cL_law 1248 = .ok (.iconst 1, 1) := dk_4 (dk_at dksL_law_46 3 rfl rfl)
theorem dL_law_1249 : decode cL_law 1249 = .ok (.iadd, 1) := dk_96 (dk_at dksL_law_46 4 rfl rfl)
theorem dL_law_1250 : decode cL_law 1250 = .ok (.iaload, 1) := dk_46 (dk_at dksL_law_46 5 rfl rfl)
theorem dL_law_1251 : decode cL_law 1251 = .ok (.aload_n 0, 1) := dk_42 (dk_at dksL_law_46 6 rfl rfl)
theorem dL_law_1252 : decode cL_law 1252 = .ok (.iload_n 3, 1) := dk_29 (dk_at dksL_law_46 7 rfl rfl)
theorem dL_law_1253 : decode cL_law 1253 = .ok (.iconst 2, 1) := dk_5 (dk_at dksL_law_46 8 rfl rfl)
theorem dL_law_1254 : decode cL_law 1254 = .ok (.iadd, 1) := dk_96 (dk_at dksL_law_46 9 rfl rfl)
theorem dL_law_1255 : decode cL_law 1255 = .ok (.iaload, 1) := dk_46 (dk_at dksL_law_46 10 rfl rfl)
theorem dL_law_1256 : decode cL_law 1256 = .ok (.invokevirtual 157, 3) := dk_182 0 157 (dk_at dksL_law_46 11 rfl rfl)
theorem dL_law_1259 : decode cL_law 1259 = .ok (.if_icmp .eq 285, 3) := dk_159 1 29 (dk_at dksL_law_46 14 rfl rfl)
theorem dL_law_1262 : decode cL_law 1262 = .ok (.iconst 0, 1) := dk_3 (dk_at dksL_law_46 17 rfl rfl)
theorem dL_law_1263 : decode cL_law 1263 = .ok (.ireturn, 1) := dk_172 (dk_at dksL_law_46 18 rfl rfl)
theorem dL_law_1264 : decode cL_law 1264 = .ok (.aload_n 1, 1) := dk_43 (dk_at dksL_law_46 19 rfl rfl)
theorem dL_law_1265 : decode cL_law 1265 = .ok (.aload_n 0, 1) := dk_42 (dk_at dksL_law_46 20 rfl rfl)
theorem dL_law_1266 : decode cL_law 1266 = .ok (.iload_n 3, 1) := dk_29 (dk_at dksL_law_46 21 rfl rfl)
theorem dL_law_1267 : decode cL_law 1267 = .ok (.iconst 1, 1) := dk_4 (dk_at dksL_law_46 22 rfl rfl)
theorem dL_law_1268 : decode cL_law 1268 = .ok (.iadd, 1) := dk_96 (dk_at dksL_law_46 23 rfl rfl)
theorem dL_law_1269 : decode cL_law 1269 = .ok (.iaload, 1) := dk_46 (dk_at dksL_law_47 0 rfl rfl)
theorem dL_law_1270 : decode cL_law 1270 = .ok (.aload_n 0, 1) := dk_42 (dk_at dksL_law_47 1 rfl rfl)
theorem dL_law_1271 : decode cL_law 1271 = .ok (.iload_n 3, 1) := dk_29 (dk_at dksL_law_47 2 rfl rfl)
theorem dL_law_1272 : decode cL_law 1272 = .ok (.iconst 2, 1) := dk_5 (dk_at dksL_law_47 3 rfl rfl)
theorem dL_law_1273 : decode cL_law 1273 = .ok (.iadd, 1) := dk_96 (dk_at dksL_law_47 4 rfl rfl)
theorem dL_law_1274 : decode cL_law 1274 = .ok (.iaload, 1) := dk_46 (dk_at dksL_law_47 5 rfl rfl)
theorem dL_law_1275 : decode cL_law 1275 = .ok (.aload_n 0, 1) := dk_42 (dk_at dksL_law_47 6 rfl rfl)
theorem dL_law_1276 : decode cL_law 1276 = .ok (.iload_n 3, 1) := dk_29 (dk_at dksL_law_47 7 rfl rfl)
theorem dL_law_1277 : decode cL_law 1277 = .ok (.iconst 3, 1) := dk_6 (dk_at dksL_law_47 8 rfl rfl)
theorem dL_law_1278 : decode cL_law 1278 = .ok (.iadd, 1) := dk_96 (dk_at dksL_law_47 9 rfl rfl)
theorem dL_law_1279 : decode cL_law 1279 = .ok (.iaload, 1) := dk_46 (dk_at dksL_law_47 10 rfl rfl)
theorem dL_law_1280 : decode cL_law 1280 = .ok (.invokevirtual 158, 3) := dk_182 0 158 (dk_at dksL_law_47 11 rfl rfl)
theorem dL_law_1283 : decode cL_law 1283 = .ok (.aload_n 2, 1) := dk_44 (dk_at dksL_law_47 14 rfl rfl)
theorem dL_law_1284 : decode cL_law 1284 = .ok (.aload_n 0, 1) := dk_42 (dk_at dksL_law_47 15 rfl rfl)
theorem dL_law_1285 : decode cL_law 1285 = .ok (.iload_n 3, 1) := dk_29 (dk_at dksL_law_47 16 rfl rfl)
theorem dL_law_1286 : decode cL_law 1286 = .ok (.iconst 1, 1) := dk_4 (dk_at dksL_law_47 17 rfl rfl)
theorem dL_law_1287 : decode cL_law 1287 = .ok (.iadd, 1) := dk_96 (dk_at dksL_law_47 18 rfl rfl)
theorem dL_law_1288 : decode cL_law 1288 = .ok (.iaload, 1) := dk_46 (dk_at dksL_law_47 19 rfl rfl)
theorem dL_law_1289 : decode cL_law 1289 = .ok (.aload_n 0, 1) := dk_42 (dk_at dksL_law_47 20 rfl rfl)
theorem dL_law_1290 : decode cL_law 1290 = .ok (.iload_n 3, 1) := dk_29 (dk_at dksL_law_47 21 rfl rfl)
theorem dL_law_1291 : decode cL_law 1291 = .ok (.iconst 2, 1) := dk_5 (dk_at dksL_law_47 22 rfl rfl)
theorem dL_law_1292 : decode cL_law 1292 = .ok (.iadd, 1) := dk_96 (dk_at dksL_law_47 23 rfl rfl)
theorem dL_law_1293 : decode cL_law 1293 = .ok (.iaload, 1) := dk_46 (dk_at dksL_law_48 0 rfl rfl)
theorem dL_law_1294 : decode cL_law 1294 = .ok (.aload_n 0, 1) := dk_42 (dk_at dksL_law_48 1 rfl rfl)
theorem dL_law_1295 : decode cL_law 1295 = .ok (.iload_n 3, 1) := dk_29 (dk_at dksL_law_48 2 rfl rfl)
theorem dL_law_1296 : decode cL_law 1296 = .ok (.iconst 3, 1) := dk_6 (dk_at dksL_law_48 3 rfl rfl)
theorem dL_law_1297 : decode cL_law 1297 = .ok (.iadd, 1) := dk_96 (dk_at dksL_law_48 4 rfl rfl)
theorem dL_law_1298 : decode cL_law 1298 = .ok (.iaload, 1) := dk_46 (dk_at dksL_law_48 5 rfl rfl)
theorem dL_law_1299 : decode cL_law 1299 = .ok (.invokevirtual 161, 3) := dk_182 0 161 (dk_at dksL_law_48 6 rfl rfl)
theorem dL_law_1302 : decode cL_law 1302 = .ok (.if_icmp .eq 242, 3) := dk_159 0 242 (dk_at dksL_law_48 9 rfl rfl)
theorem dL_law_1305 : decode cL_law 1305 = .ok (.iconst 0, 1) := dk_3 (dk_at dksL_law_48 12 rfl rfl)
theorem dL_law_1306 : decode cL_law 1306 = .ok (.ireturn, 1) := dk_172 (dk_at dksL_law_48 13 rfl rfl)
theorem dL_law_1307 : decode cL_law 1307 = .ok (.aload_n 1, 1) := dk_43 (dk_at dksL_law_48 14 rfl rfl)
theorem dL_law_1308 : decode cL_law 1308 = .ok (.aload_n 0, 1) := dk_42 (dk_at dksL_law_48 15 rfl rfl)
theorem dL_law_1309 : decode cL_law 1309 = .ok (.iload_n 3, 1) := dk_29 (dk_at dksL_law_48 16 rfl rfl)
theorem dL_law_1310 : decode cL_law 1310 = .ok (.iconst 1, 1) := dk_4 (dk_at dksL_law_48 17 rfl rfl)
theorem dL_law_1311 : decode cL_law 1311 = .ok (.iadd, 1) := dk_96 (dk_at dksL_law_48 18 rfl rfl)
theorem dL_law_1312 : decode cL_law 1312 = .ok (.iaload, 1) := dk_46 (dk_at dksL_law_48 19 rfl rfl)
theorem dL_law_1313 : decode cL_law 1313 = .ok (.aload_n 0, 1) := dk_42 (dk_at dksL_law_48 20 rfl rfl)
theorem dL_law_1314 : decode cL_law 1314 = .ok (.iload_n 3, 1) := dk_29 (dk_at dksL_law_48 21 rfl rfl)
theorem dL_law_1315 : decode cL_law 1315 = .ok (.iconst 2, 1) := dk_5 (dk_at dksL_law_48 22 rfl rfl)
theorem dL_law_1316 : decode cL_law 1316 = .ok (.iadd, 1) := dk_96 (dk_at dksL_law_48 23 rfl rfl)
theorem dL_law_1317 : decode cL_law 1317 = .ok (.iaload, 1) := dk_46 (dk_at dksL_law_49 0 rfl rfl)
theorem dL_law_1318 : decode cL_law 1318 = .ok (.aload_n 0, 1) := dk_42 (dk_at dksL_law_49 1 rfl rfl)
theorem dL_law_1319 : decode cL_law 1319 = .ok (.iload_n 3, 1) := dk_29 (dk_at dksL_law_49 2 rfl rfl)
theorem dL_law_1320 : decode cL_law 1320 = .ok (.iconst 3, 1) := dk_6 (dk_at dksL_law_49 3 rfl rfl)
theorem dL_law_1321 : decode cL_law 1321 = .ok (.iadd, 1) := dk_96 (dk_at dksL_law_49 4 rfl rfl)
theorem dL_law_1322 : decode cL_law 1322 = .ok (.iaload, 1) := dk_46 (dk_at dksL_law_49 5 rfl rfl)
theorem dL_law_1323 : decode cL_law 1323 = .ok (.invokevirtual 162, 3) := dk_182 0 162 (dk_at dksL_law_49 6 rfl rfl)
theorem dL_law_1326 : decode cL_law 1326 = .ok (.aload_n 2, 1) := dk_44 (dk_at dksL_law_49 9 rfl rfl)
theorem dL_law_1327 : decode cL_law 1327 = .ok (.aload_n 0, 1) := dk_42 (dk_at dksL_law_49 10 rfl rfl)
theorem dL_law_1328 : decode cL_law 1328 = .ok (.iload_n 3, 1) := dk_29 (dk_at dksL_law_49 11 rfl rfl)
theorem dL_law_1329 : decode cL_law 1329 = .ok (.iconst 1, 1) := dk_4 (dk_at dksL_law_49 12 rfl rfl)
theorem dL_law_1330 : decode cL_law 1330 = .ok (.iadd, 1) := dk_96 (dk_at dksL_law_49 13 rfl rfl)
theorem dL_law_1331 : decode cL_law 1331 = .ok (.iaload, 1) := dk_46 (dk_at dksL_law_49 14 rfl rfl)
theorem dL_law_1332 : decode cL_law 1332 = .ok (.aload_n 0, 1) := dk_42 (dk_at dksL_law_49 15 rfl rfl)
theorem dL_law_1333 : decode cL_law 1333 = .ok (.iload_n 3, 1) := dk_29 (dk_at dksL_law_49 16 rfl rfl)
theorem dL_law_1334 : decode cL_law 1334 = .ok (.iconst 2, 1) := dk_5 (dk_at dksL_law_49 17 rfl rfl)
theorem dL_law_1335 : decode cL_law 1335 = .ok (.iadd, 1) := dk_96 (dk_at dksL_law_49 18 rfl rfl)
theorem dL_law_1336 : decode cL_law 1336 = .ok (.iaload, 1) := dk_46 (dk_at dksL_law_49 19 rfl rfl)
theorem dL_law_1337 : decode cL_law 1337 = .ok (.aload_n 0, 1) := dk_42 (dk_at dksL_law_49 20 rfl rfl)
theorem dL_law_1338 : decode cL_law 1338 = .ok (.iload_n 3, 1) := dk_29 (dk_at dksL_law_49 21 rfl rfl)
theorem dL_law_1339 : decode cL_law 1339 = .ok (.iconst 3, 1) := dk_6 (dk_at dksL_law_49 22 rfl rfl)
theorem dL_law_1340 : decode cL_law 1340 = .ok (.iadd, 1) := dk_96 (dk_at dksL_law_49 23 rfl rfl)
theorem dL_law_1341 : decode cL_law 1341 = .ok (.iaload, 1) := dk_46 (dk_at dksL_law_50 0 rfl rfl)
theorem dL_law_1342 : decode cL_law 1342 = .ok (.invokevirtual 165, 3) := dk_182 0 165 (dk_at dksL_law_50 1 rfl rfl)
theorem dL_law_1345 : decode cL_law 1345 = .ok (.if_icmp .eq 199, 3) := dk_159 0 199 (dk_at dksL_law_50 4 rfl rfl)
theorem dL_law_1348 : decode cL_law 1348 = .ok (.iconst 0, 1) := dk_3 (dk_at dksL_law_50 7 rfl rfl)
theorem dL_law_1349 : decode cL_law 1349 = .ok (.ireturn, 1) := dk_172 (dk_at dksL_law_50 8 rfl rfl)
theorem dL_law_1350 : decode cL_law 1350 = .ok (.aload_n 1, 1) := dk_43 (dk_at dksL_law_50 9 rfl rfl)
theorem dL_law_1351 : decode cL_law 1351 = .ok (.aload_n 0, 1) := dk_42 (dk_at dksL_law_50 10 rfl rfl)
theorem dL_law_1352 : decode cL_law 1352 = .ok (.iload_n 3, 1) := dk_29 (dk_at dksL_law_50 11 rfl rfl)
theorem dL_law_1353 : decode cL_law 1353 = .ok (.iconst 1, 1) := dk_4 (dk_at dksL_law_50 12 rfl rfl)
theorem dL_law_1354 : decode cL_law 1354 = .ok (.iadd, 1) := dk_96 (dk_at dksL_law_50 13 rfl rfl)
theorem dL_law_1355 : decode cL_law 1355 = .ok (.iaload, 1) := dk_46 (dk_at dksL_law_50 14 rfl rfl)
theorem dL_law_1356 : decode cL_law 1356 = .ok (.aload_n 0, 1) := dk_42 (dk_at dksL_law_50 15 rfl rfl)
theorem dL_law_1357 : decode cL_law 1357 = .ok (.iload_n 3, 1) := dk_29 (dk_at dksL_law_50 16 rfl rfl)
theorem dL_law_1358 : decode cL_law 1358 = .ok (.iconst 2, 1) := dk_5 (dk_at dksL_law_50 17 rfl rfl)
theorem dL_law_1359 : decode cL_law 1359 = .ok (.iadd, 1) := dk_96 (dk_at dksL_law_50 18 rfl rfl)
theorem dL_law_1360 : decode cL_law 1360 = .ok (.iaload, 1) := dk_46 (dk_at dksL_law_50 19 rfl rfl)
theorem dL_law_1361 : decode cL_law 1361 = .ok (.aload_n 0, 1) := dk_42 (dk_at dksL_law_50 20 rfl rfl)
theorem dL_law_1362 : decode cL_law 1362 = .ok (.iload_n 3, 1) := dk_29 (dk_at dksL_law_50 21 rfl rfl)
theorem dL_law_1363 : decode cL_law 1363 = .ok (.iconst 3, 1) := dk_6 (dk_at dksL_law_50 22 rfl rfl)
theorem dL_law_1364 : decode cL_law 1364 = .ok (.iadd, 1) := dk_96 (dk_at dksL_law_50 23 rfl rfl)
theorem dL_law_1365 : decode cL_law 1365 = .ok (.iaload, 1) := dk_46 (dk_at dksL_law_51 0 rfl rfl)
theorem dL_law_1366 : decode cL_law 1366 = .ok (.aload_n 0, 1) := dk_42 (dk_at dksL_law_51 1 rfl rfl)
theorem dL_law_1367 : decode cL_law 1367 = .ok (.iload_n 3, 1) := dk_29 (dk_at dksL_law_51 2 rfl rfl)
theorem dL_law_1368 : decode cL_law 1368 = .ok (.iconst 4, 1) := dk_7 (dk_at dksL_law_51 3 rfl rfl)
theorem dL_law_1369 : decode cL_law 1369 = .ok (.iadd, 1) := dk_96 (dk_at dksL_law_51 4 rfl rfl)
theorem dL_law_1370 : decode cL_law 1370 = .ok (.iaload, 1) := dk_46 (dk_at dksL_law_51 5 rfl rfl)
theorem dL_law_1371 : decode cL_law 1371 = .ok (.aload_n 0, 1) := dk_42 (dk_at dksL_law_51 6 rfl rfl)
theorem dL_law_1372 : decode cL_law 1372 = .ok (.iload_n 3, 1) := dk_29 (dk_at dksL_law_51 7 rfl rfl)
theorem dL_law_1373 : decode cL_law 1373 = .ok (.iconst 5, 1) := dk_8 (dk_at dksL_law_51 8 rfl rfl)
theorem dL_law_1374 : decode cL_law 1374 = .ok (.iadd, 1) := dk_96 (dk_at dksL_law_51 9 rfl rfl)
theorem dL_law_1375 : decode cL_law 1375 = .ok (.iaload, 1) := dk_46 (dk_at dksL_law_51 10 rfl rfl)
theorem dL_law_1376 : decode cL_law 1376 = .ok (.invokevirtual 166, 3) := dk_182 0 166 (dk_at dksL_law_51 11 rfl rfl)
theorem dL_law_1379 : decode cL_law 1379 = .ok (.aload_n 2, 1) := dk_44 (dk_at dksL_law_51 14 rfl rfl)
theorem dL_law_1380 : decode cL_law 1380 = .ok (.aload_n 0, 1) := dk_42 (dk_at dksL_law_51 15 rfl rfl)
theorem dL_law_1381 : decode cL_law 1381 = .ok (.iload_n 3, 1) := dk_29 (dk_at dksL_law_51 16 rfl rfl)
theorem dL_law_1382 : decode cL_law 1382 = .ok (.iconst 1, 1) := dk_4 (dk_at dksL_law_51 17 rfl rfl)
theorem dL_law_1383 : decode cL_law 1383 = .ok (.iadd, 1) := dk_96 (dk_at dksL_law_51 18 rfl rfl)
theorem dL_law_1384 : decode cL_law 1384 = .ok (.iaload, 1) := dk_46 (dk_at dksL_law_51 19 rfl rfl)
theorem dL_law_1385 : decode cL_law 1385 = .ok (.aload_n 0, 1) := dk_42 (dk_at dksL_law_51 20 rfl rfl)
theorem dL_law_1386 : decode cL_law 1386 = .ok (.iload_n 3, 1) := dk_29 (dk_at dksL_law_51 21 rfl rfl)
theorem dL_law_1387 : decode cL_law 1387 = .ok (.iconst 2, 1) := dk_5 (dk_at dksL_law_51 22 rfl rfl)
theorem dL_law_1388 : decode cL_law 1388 = .ok (.iadd, 1) := dk_96 (dk_at dksL_law_51 23 rfl rfl)
theorem dL_law_1389 : decode cL_law 1389 = .ok (.iaload, 1) := dk_46 (dk_at dksL_law_52 0 rfl rfl)
theorem dL_law_1390 : decode cL_law 1390 = .ok (.aload_n 0, 1) := dk_42 (dk_at dksL_law_52 1 rfl rfl)
theorem dL_law_1391 : decode cL_law 1391 = .ok (.iload_n 3, 1) := dk_29 (dk_at dksL_law_52 2 rfl rfl)
theorem dL_law_1392 : decode cL_law 1392 = .ok (.iconst 3, 1) := dk_6 (dk_at dksL_law_52 3 rfl rfl)
theorem dL_law_1393 : decode cL_law 1393 = .ok (.iadd, 1) := dk_96 (dk_at dksL_law_52 4 rfl rfl)
theorem dL_law_1394 : decode cL_law 1394 = .ok (.iaload, 1) := dk_46 (dk_at dksL_law_52 5 rfl rfl)
theorem dL_law_1395 : decode cL_law 1395 = .ok (.aload_n 0, 1) := dk_42 (dk_at dksL_law_52 6 rfl rfl)
theorem dL_law_1396 : decode cL_law 1396 = .ok (.iload_n 3, 1) := dk_29 (dk_at dksL_law_52 7 rfl rfl)
theorem dL_law_1397 : decode cL_law 1397 = .ok (.iconst 4, 1) := dk_7 (dk_at dksL_law_52 8 rfl rfl)
theorem dL_law_1398 : decode cL_law 1398 = .ok (.iadd, 1) := dk_96 (dk_at dksL_law_52 9 rfl rfl)
theorem dL_law_1399 : decode cL_law 1399 = .ok (.iaload, 1) := dk_46 (dk_at dksL_law_52 10 rfl rfl)
theorem dL_law_1400 : decode cL_law 1400 = .ok (.aload_n 0, 1) := dk_42 (dk_at dksL_law_52 11 rfl rfl)
theorem dL_law_1401 : decode cL_law 1401 = .ok (.iload_n 3, 1) := dk_29 (dk_at dksL_law_52 12 rfl rfl)
theorem dL_law_1402 : decode cL_law 1402 = .ok (.iconst 5, 1) := dk_8 (dk_at dksL_law_52 13 rfl rfl)
theorem dL_law_1403 : decode cL_law 1403 = .ok (.iadd, 1) := dk_96 (dk_at dksL_law_52 14 rfl rfl)
theorem dL_law_1404 : decode cL_law 1404 = .ok (.iaload, 1) := dk_46 (dk_at dksL_law_52 15 rfl rfl)
theorem dL_law_1405 : decode cL_law 1405 = .ok (.invokevirtual 170, 3) := dk_182 0 170 (dk_at dksL_law_52 16 rfl rfl)
theorem dL_law_1408 : decode cL_law 1408 = .ok (.if_icmp .eq 136, 3) := dk_159 0 136 (dk_at dksL_law_52 19 rfl rfl)
theorem dL_law_1411 : decode cL_law 1411 = .ok (.iconst 0, 1) := dk_3 (dk_at dksL_law_52 22 rfl rfl)
theorem dL_law_1412 : decode cL_law 1412 = .ok (.ireturn, 1) := dk_172 (dk_at dksL_law_52 23 rfl rfl)
theorem dL_law_1413 : decode cL_law 1413 = .ok (.aload_n 1, 1) := dk_43 (dk_at dksL_law_53 0 rfl rfl)
theorem dL_law_1414 : decode cL_law 1414 = .ok (.aload_n 0, 1) := dk_42 (dk_at dksL_law_53 1 rfl rfl)
theorem dL_law_1415 : decode cL_law 1415 = .ok (.iload_n 3, 1) := dk_29 (dk_at dksL_law_53 2 rfl rfl)
theorem dL_law_1416 : decode cL_law 1416 = .ok (.iconst 1, 1) := dk_4 (dk_at dksL_law_53 3 rfl rfl)
theorem dL_law_1417 : decode cL_law 1417 = .ok (.iadd, 1) := dk_96 (dk_at dksL_law_53 4 rfl rfl)
theorem dL_law_1418 : decode cL_law 1418 = .ok (.iaload, 1) := dk_46 (dk_at dksL_law_53 5 rfl rfl)
theorem dL_law_1419 : decode cL_law 1419 = .ok (.invokevirtual 171, 3) := dk_182 0 171 (dk_at dksL_law_53 6 rfl rfl)
theorem dL_law_1422 : decode cL_law 1422 = .ok (.aload_n 2, 1) := dk_44 (dk_at dksL_law_53 9 rfl rfl)
theorem dL_law_1423 : decode cL_law 1423 = .ok (.aload_n 0, 1) := dk_42 (dk_at dksL_law_53 10 rfl rfl)
theorem dL_law_1424 : decode cL_law 1424 = .ok (.iload_n 3, 1) := dk_29 (dk_at dksL_law_53 11 rfl rfl)
theorem dL_law_1425 : decode cL_law 1425 = .ok (.iconst 1, 1) := dk_4 (dk_at dksL_law_53 12 rfl rfl)
theorem dL_law_1426 : decode cL_law 1426 = .ok (.iadd, 1) := dk_96 (dk_at dksL_law_53 13 rfl rfl)
theorem dL_law_1427 : decode cL_law 1427 = .ok (.iaload, 1) := dk_46 (dk_at dksL_law_53 14 rfl rfl)
theorem dL_law_1428 : decode cL_law 1428 = .ok (.invokevirtual 174, 3) := dk_182 0 174 (dk_at dksL_law_53 15 rfl rfl)
theorem dL_law_1431 : decode cL_law 1431 = .ok (.if_icmp .eq 113, 3) := dk_159 0 113 (dk_at dksL_law_53 18 rfl rfl)
theorem dL_law_1434 : decode cL_law 1434 = .ok (.iconst 0, 1) := dk_3 (dk_at dksL_law_53 21 rfl rfl)
theorem dL_law_1435 : decode cL_law 1435 = .ok (.ireturn, 1) := dk_172 (dk_at dksL_law_53 22 rfl rfl)
theorem dL_law_1436 : decode cL_law 1436 = .ok (.aload_n 1, 1) := dk_43 (dk_at dksL_law_53 23 rfl rfl)
theorem dL_law_1437 : decode cL_law 1437 = .ok (.aload_n 0, 1) := dk_42 (dk_at dksL_law_54 0 rfl rfl)
theorem dL_law_1438 : decode cL_law 1438 = .ok (.iload_n 3, 1) := dk_29 (dk_at dksL_law_54 1 rfl rfl)
theorem dL_law_1439 : decode cL_law 1439 = .ok (.iconst 1, 1) := dk_4 (dk_at dksL_law_54 2 rfl rfl)
theorem dL_law_1440 : decode cL_law 1440 = .ok (.iadd, 1) := dk_96 (dk_at dksL_law_54 3 rfl rfl)
theorem dL_law_1441 : decode cL_law 1441 = .ok (.iaload, 1) := dk_46 (dk_at dksL_law_54 4 rfl rfl)
theorem dL_law_1442 : decode cL_law 1442 = .ok (.invokevirtual 175, 3) := dk_182 0 175 (dk_at dksL_law_54 5 rfl rfl)
theorem dL_law_1445 : decode cL_law 1445 = .ok (.aload_n 2, 1) := dk_44 (dk_at dksL_law_54 8 rfl rfl)
theorem dL_law_1446 : decode cL_law 1446 = .ok (.aload_n 0, 1) := dk_42 (dk_at dksL_law_54 9 rfl rfl)
theorem dL_law_1447 : decode cL_law 1447 = .ok (.iload_n 3, 1) := dk_29 (dk_at dksL_law_54 10 rfl rfl)
theorem dL_law_1448 : decode cL_law 1448 = .ok (.iconst 1, 1) := dk_4 (dk_at dksL_law_54 11 rfl rfl)
theorem dL_law_1449 : decode cL_law 1449 = .ok (.iadd, 1) := dk_96 (dk_at dksL_law_54 12 rfl rfl)
theorem dL_law_1450 : decode cL_law 1450 = .ok (.iaload, 1) := dk_46 (dk_at dksL_law_54 13 rfl rfl)
theorem dL_law_1451 : decode cL_law 1451 = .ok (.invokevirtual 178, 3) := dk_182 0 178 (dk_at dksL_law_54 14 rfl rfl)
theorem dL_law_1454 : decode cL_law 1454 = .ok (.if_icmp .eq 90, 3) := dk_159 0 90 (dk_at dksL_law_54 17 rfl rfl)
theorem dL_law_1457 : decode cL_law 1457 = .ok (.iconst 0, 1) := dk_3 (dk_at dksL_law_54 20 rfl rfl)
theorem dL_law_1458 : decode cL_law 1458 = .ok (.ireturn, 1) := dk_172 (dk_at dksL_law_54 21 rfl rfl)
theorem dL_law_1459 : decode cL_law 1459 = .ok (.aload_n 1, 1) := dk_43 (dk_at dksL_law_54 22 rfl rfl)
theorem dL_law_1460 : decode cL_law 1460 = .ok (.invokevirtual 179, 3) := dk_182 0 179 (dk_at dksL_law_55 0 rfl rfl)
theorem dL_law_1463 : decode cL_law 1463 = .ok (.aload_n 2, 1) := dk_44 (dk_at dksL_law_55 3 rfl rfl)
theorem dL_law_1464 : decode cL_law 1464 = .ok (.invokevirtual 182, 3) := dk_182 0 182 (dk_at dksL_law_55 4 rfl rfl)
theorem dL_law_1467 : decode cL_law 1467 = .ok (.if_icmp .eq 77, 3) := dk_159 0 77 (dk_at dksL_law_55 7 rfl rfl)
theorem dL_law_1470 : decode cL_law 1470 = .ok (.iconst 0, 1) := dk_3 (dk_at dksL_law_55 10 rfl rfl)
theorem dL_law_1471 : decode cL_law 1471 = .ok (.ireturn, 1) := dk_172 (dk_at dksL_law_55 11 rfl rfl)
theorem dL_law_1472 : decode cL_law 1472 = .ok (.aload_n 1, 1) := dk_43 (dk_at dksL_law_55 12 rfl rfl)
theorem dL_law_1473 : decode cL_law 1473 = .ok (.invokevirtual 183, 3) := dk_182 0 183 (dk_at dksL_law_55 13 rfl rfl)
theorem dL_law_1476 : decode cL_law 1476 = .ok (.aload_n 2, 1) := dk_44 (dk_at dksL_law_55 16 rfl rfl)
theorem dL_law_1477 : decode cL_law 1477 = .ok (.invokevirtual 186, 3) := dk_182 0 186 (dk_at dksL_law_55 17 rfl rfl)
theorem dL_law_1480 : decode cL_law 1480 = .ok (.if_icmp .eq 64, 3) := dk_159 0 64 (dk_at dksL_law_55 20 rfl rfl)
theorem dL_law_1483 : decode cL_law 1483 = .ok (.iconst 0, 1) := dk_3 (dk_at dksL_law_55 23 rfl rfl)
theorem dL_law_1484 : decode cL_law 1484 = .ok (.ireturn, 1) := dk_172 (dk_at dksL_law_56 0 rfl rfl)
theorem dL_law_1485 : decode cL_law 1485 = .ok (.aload_n 1, 1) := dk_43 (dk_at dksL_law_56 1 rfl rfl)
theorem dL_law_1486 : decode cL_law 1486 = .ok (.invokevirtual 187, 3) := dk_182 0 187 (dk_at dksL_law_56 2 rfl rfl)
theorem dL_law_1489 : decode cL_law 1489 = .ok (.aload_n 2, 1) := dk_44 (dk_at dksL_law_56 5 rfl rfl)
theorem dL_law_1490 : decode cL_law 1490 = .ok (.invokevirtual 190, 3) := dk_182 0 190 (dk_at dksL_law_56 6 rfl rfl)
theorem dL_law_1493 : decode cL_law 1493 = .ok (.if_icmp .eq 51, 3) := dk_159 0 51 (dk_at dksL_law_56 9 rfl rfl)
theorem dL_law_1496 : decode cL_law 1496 = .ok (.iconst 0, 1) := dk_3 (dk_at dksL_law_56 12 rfl rfl)
theorem dL_law_1497 : decode cL_law 1497 = .ok (.ireturn, 1) := dk_172 (dk_at dksL_law_56 13 rfl rfl)
theorem dL_law_1498 : decode cL_law 1498 = .ok (.aload_n 1, 1) := dk_43 (dk_at dksL_law_56 14 rfl rfl)
theorem dL_law_1499 : decode cL_law 1499 = .ok (.aload_n 0, 1) := dk_42 (dk_at dksL_law_56 15 rfl rfl)
theorem dL_law_1500 : decode cL_law 1500 = .ok (.iload_n 3, 1) := dk_29 (dk_at dksL_law_56 16 rfl rfl)
theorem dL_law_1501 : decode cL_law 1501 = .ok (.iconst 1, 1) := dk_4 (dk_at dksL_law_56 17 rfl rfl)
theorem dL_law_1502 : decode cL_law 1502 = .ok (.iadd, 1) := dk_96 (dk_at dksL_law_56 18 rfl rfl)
theorem dL_law_1503 : decode cL_law 1503 = .ok (.iaload, 1) := dk_46 (dk_at dksL_law_56 19 rfl rfl)
theorem dL_law_1504 : decode cL_law 1504 = .ok (.invokevirtual 191, 3) := dk_182 0 191 (dk_at dksL_law_56 20 rfl rfl)
theorem dL_law_1507 : decode cL_law 1507 = .ok (.aload_n 2, 1) := dk_44 (dk_at dksL_law_56 23 rfl rfl)
theorem dL_law_1508 : decode cL_law 1508 = .ok (.aload_n 0, 1) := dk_42 (dk_at dksL_law_57 0 rfl rfl)
theorem dL_law_1509 : decode cL_law 1509 = .ok (.iload_n 3, 1) := dk_29 (dk_at dksL_law_57 1 rfl rfl)
theorem dL_law_1510 : decode cL_law 1510 = .ok (.iconst 1, 1) := dk_4 (dk_at dksL_law_57 2 rfl rfl)
theorem dL_law_1511 : decode cL_law 1511 = .ok (.iadd, 1) := dk_96 (dk_at dksL_law_57 3 rfl rfl)
theorem dL_law_1512 : decode cL_law 1512 = .ok (.iaload, 1) := dk_46 (dk_at dksL_law_57 4 rfl rfl)
theorem dL_law_1513 : decode cL_law 1513 = .ok (.invokevirtual 194, 3) := dk_182 0 194 (dk_at dksL_law_57 5 rfl rfl)
theorem dL_law_1516 : decode cL_law 1516 = .ok (.if_icmp .eq 28, 3) := dk_159 0 28 (dk_at dksL_law_57 8 rfl rfl)
theorem dL_law_1519 : decode cL_law 1519 = .ok (.iconst 0, 1) := dk_3 (dk_at dksL_law_57 11 rfl rfl)
theorem dL_law_1520 : decode cL_law 1520 = .ok (.ireturn, 1) := dk_172 (dk_at dksL_law_57 12 rfl rfl)
theorem dL_law_1521 : decode cL_law 1521 = .ok (.aload_n 1, 1) := dk_43 (dk_at dksL_law_57 13 rfl rfl)
theorem dL_law_1522 : decode cL_law 1522 = .ok (.aload_n 0, 1) := dk_42 (dk_at dksL_law_57 14 rfl rfl)
theorem dL_law_1523 : decode cL_law 1523 = .ok (.iload_n 3, 1) := dk_29 (dk_at dksL_law_57 15 rfl rfl)
theorem dL_law_1524 : decode cL_law 1524 = .ok (.iconst 1, 1) := dk_4 (dk_at dksL_law_57 16 rfl rfl)
theorem dL_law_1525 : decode cL_law 1525 = .ok (.iadd, 1) := dk_96 (dk_at dksL_law_57 17 rfl rfl)
theorem dL_law_1526 : decode cL_law 1526 = .ok (.iaload, 1) := dk_46 (dk_at dksL_law_57 18 rfl rfl)
theorem dL_law_1527 : decode cL_law 1527 = .ok (.invokevirtual 195, 3) := dk_182 0 195 (dk_at dksL_law_57 19 rfl rfl)
theorem dL_law_1530 : decode cL_law 1530 = .ok (.aload_n 2, 1) := dk_44 (dk_at dksL_law_57 22 rfl rfl)
theorem dL_law_1531 : decode cL_law 1531 = .ok (.aload_n 0, 1) := dk_42 (dk_at dksL_law_57 23 rfl rfl)
theorem dL_law_1532 : decode cL_law 1532 = .ok (.iload_n 3, 1) := dk_29 (dk_at dksL_law_58 0 rfl rfl)
theorem dL_law_1533 : decode cL_law 1533 = .ok (.iconst 1, 1) := dk_4 (dk_at dksL_law_58 1 rfl rfl)
theorem dL_law_1534 : decode cL_law 1534 = .ok (.iadd, 1) := dk_96 (dk_at dksL_law_58 2 rfl rfl)
theorem dL_law_1535 : decode cL_law 1535 = .ok (.iaload, 1) := dk_46 (dk_at dksL_law_58 3 rfl rfl)
theorem dL_law_1536 : decode cL_law 1536 = .ok (.invokevirtual 198, 3) := dk_182 0 198 (dk_at dksL_law_58 4 rfl rfl)
theorem dL_law_1539 : decode cL_law 1539 = .ok (.if_icmp .eq 5, 3) := dk_159 0 5 (dk_at dksL_law_58 7 rfl rfl)
theorem dL_law_1542 : decode cL_law 1542 = .ok (.iconst 0, 1) := dk_3 (dk_at dksL_law_58 10 rfl rfl)
theorem dL_law_1543 : decode cL_law 1543 = .ok (.ireturn, 1) := dk_172 (dk_at dksL_law_58 11 rfl rfl)
theorem dL_law_1544 : decode cL_law 1544 = .ok (.iinc 3 6, 3) := dk_132 3 6 (dk_at dksL_law_58 12 rfl rfl)
theorem dL_law_1547 : decode cL_law 1547 = .ok (.goto (-1529), 3) := dk_167 250 7 (dk_at dksL_law_58 15 rfl rfl)
theorem dL_law_1550 : decode cL_law 1550 = .ok (.iconst 1, 1) := dk_4 (dk_at dksL_law_58 18 rfl rfl)
theorem dL_law_1551 : decode cL_law 1551 = .ok (.ireturn, 1) := dk_172 (dk_at dksL_law_58 19 rfl rfl)

theorem q89 : (Jvm.Cond.initialized "LineCallsLaw") ∈ lw_all := lw_g (lw_at lw_m1 0 rfl) rfl
set_option maxRecDepth 100000
theorem q114 : (Jvm.Cond.classLink "LineCallsLaw" (7 : Nat) "LineCalls") ∈ lw_all := lw_g (lw_at lw_m1 25 rfl) rfl
theorem q116 : (Jvm.Cond.methodLink "LineCallsLaw" (9 : Nat) ({ cls := "LineCalls", name := "<init>", desc := "()V" } : Jvm.MethodName)) ∈ lw_all := lw_g (lw_at lw_m1 27 rfl) rfl
theorem q452 : (Jvm.Cond.methodLink "LineCallsLaw" (13 : Nat) ({ cls := "LineCalls", name := "stand", desc := "(II)I" } : Jvm.MethodName)) ∈ lw_all := lw_g (lw_at lw_m2 123 rfl) rfl
theorem q479 : (Jvm.Cond.methodLink "LineCallsLaw" (18 : Nat) ({ cls := "LineCalls", name := "place", desc := "(II)I" } : Jvm.MethodName)) ∈ lw_all := lw_g (lw_at lw_m2 150 rfl) rfl
theorem q487 : (Jvm.Cond.methodLink "LineCallsLaw" (22 : Nat) ({ cls := "LineCalls", name := "theirs", desc := "(III)I" } : Jvm.MethodName)) ∈ lw_all := lw_g (lw_at lw_m2 158 rfl) rfl
theorem q494 : (Jvm.Cond.methodLink "LineCallsLaw" (27 : Nat) ({ cls := "LineCalls", name := "set", desc := "(II)I" } : Jvm.MethodName)) ∈ lw_all := lw_g (lw_at lw_m2 165 rfl) rfl
theorem q501 : (Jvm.Cond.methodLink "LineCallsLaw" (31 : Nat) ({ cls := "LineCalls", name := "call", desc := "(II)I" } : Jvm.MethodName)) ∈ lw_all := lw_g (lw_at lw_m2 172 rfl) rfl
theorem q511 : (Jvm.Cond.methodLink "LineCallsLaw" (35 : Nat) ({ cls := "LineCalls", name := "listed", desc := "(I)I" } : Jvm.MethodName)) ∈ lw_all := lw_g (lw_at lw_m2 182 rfl) rfl
theorem q515 : (Jvm.Cond.methodLink "LineCallsLaw" (40 : Nat) ({ cls := "LineCalls", name := "says", desc := "(II)I" } : Jvm.MethodName)) ∈ lw_all := lw_g (lw_at lw_m2 186 rfl) rfl
theorem q534 : (Jvm.Cond.methodLink "LineCallsLaw" (44 : Nat) ({ cls := "LineCalls", name := "jumper", desc := "(II)I" } : Jvm.MethodName)) ∈ lw_all := lw_g (lw_at lw_m2 205 rfl) rfl
theorem q545 : (Jvm.Cond.methodLink "LineCallsLaw" (48 : Nat) ({ cls := "LineCalls", name := "of", desc := "(II)I" } : Jvm.MethodName)) ∈ lw_all := lw_g (lw_at lw_m2 216 rfl) rfl
theorem q656 : (Jvm.Cond.methodLink "LineCallsLaw" (52 : Nat) ({ cls := "LineCalls", name := "change", desc := "(III)I" } : Jvm.MethodName)) ∈ lw_all := lw_g (lw_at lw_m3 87 rfl) rfl
theorem q666 : (Jvm.Cond.methodLink "LineCallsLaw" (56 : Nat) ({ cls := "LineCalls", name := "gains", desc := "(II)I" } : Jvm.MethodName)) ∈ lw_all := lw_g (lw_at lw_m3 97 rfl) rfl
theorem q695 : (Jvm.Cond.methodLink "LineCallsLaw" (60 : Nat) ({ cls := "LineCalls", name := "go", desc := "(I)I" } : Jvm.MethodName)) ∈ lw_all := lw_g (lw_at lw_m3 126 rfl) rfl
theorem q746 : (Jvm.Cond.methodLink "LineCallsLaw" (64 : Nat) ({ cls := "LineCalls", name := "now", desc := "(I)I" } : Jvm.MethodName)) ∈ lw_all := lw_g (lw_at lw_m3 177 rfl) rfl
theorem q765 : (Jvm.Cond.methodLink "LineCallsLaw" (68 : Nat) ({ cls := "LineCalls", name := "ahead", desc := "(III)I" } : Jvm.MethodName)) ∈ lw_all := lw_g (lw_at lw_m3 196 rfl) rfl
theorem q790 : (Jvm.Cond.methodLink "LineCallsLaw" (72 : Nat) ({ cls := "LineCalls", name := "metres", desc := "(I)I" } : Jvm.MethodName)) ∈ lw_all := lw_g (lw_at lw_m3 221 rfl) rfl
theorem q798 : (Jvm.Cond.methodLink "LineCallsLaw" (76 : Nat) ({ cls := "LineCalls", name := "when", desc := "(II)I" } : Jvm.MethodName)) ∈ lw_all := lw_g (lw_at lw_m3 229 rfl) rfl
theorem q810 : (Jvm.Cond.methodLink "LineCallsLaw" (80 : Nat) ({ cls := "LineCalls", name := "known", desc := "()I" } : Jvm.MethodName)) ∈ lw_all := lw_g (lw_at lw_m4 1 rfl) rfl
theorem q818 : (Jvm.Cond.methodLink "LineCallsLaw" (85 : Nat) ({ cls := "LineCalls", name := "codeFor", desc := "(I)I" } : Jvm.MethodName)) ∈ lw_all := lw_g (lw_at lw_m4 9 rfl) rfl
theorem q827 : (Jvm.Cond.methodLink "LineCallsLaw" (89 : Nat) ({ cls := "LineCalls", name := "callFor", desc := "(I)I" } : Jvm.MethodName)) ∈ lw_all := lw_g (lw_at lw_m4 18 rfl) rfl
theorem q835 : (Jvm.Cond.methodLink "LineCallsLaw" (93 : Nat) ({ cls := "LineCalls", name := "standFor", desc := "(II)I" } : Jvm.MethodName)) ∈ lw_all := lw_g (lw_at lw_m4 26 rfl) rfl
theorem q855 : (Jvm.Cond.methodLink "LineCallsLaw" (97 : Nat) ({ cls := "LineCalls", name := "kindFor", desc := "(II)I" } : Jvm.MethodName)) ∈ lw_all := lw_g (lw_at lw_m4 46 rfl) rfl
theorem q863 : (Jvm.Cond.methodLink "LineCallsLaw" (101 : Nat) ({ cls := "LineCalls", name := "tallFor", desc := "(III)I" } : Jvm.MethodName)) ∈ lw_all := lw_g (lw_at lw_m4 54 rfl) rfl
theorem q871 : (Jvm.Cond.methodLink "LineCallsLaw" (105 : Nat) ({ cls := "LineCalls", name := "cover", desc := "()I" } : Jvm.MethodName)) ∈ lw_all := lw_g (lw_at lw_m4 62 rfl) rfl
theorem q875 : (Jvm.Cond.methodLink "LineCallsLaw" (109 : Nat) ({ cls := "LineCalls", name := "codes", desc := "(I)I" } : Jvm.MethodName)) ∈ lw_all := lw_g (lw_at lw_m4 66 rfl) rfl
theorem q911 : (Jvm.Cond.methodLink "LineCallsLaw" (113 : Nat) ({ cls := "LineCalls", name := "fits", desc := "(II)I" } : Jvm.MethodName)) ∈ lw_all := lw_g (lw_at lw_m4 102 rfl) rfl
theorem q923 : (Jvm.Cond.methodLink "LineCallsLaw" (117 : Nat) ({ cls := "LineCalls", name := "tall", desc := "(II)I" } : Jvm.MethodName)) ∈ lw_all := lw_g (lw_at lw_m4 114 rfl) rfl
theorem q927 : (Jvm.Cond.methodLink "LineCallsLaw" (121 : Nat) ({ cls := "LineCalls", name := "kinds", desc := "(II)I" } : Jvm.MethodName)) ∈ lw_all := lw_g (lw_at lw_m4 118 rfl) rfl
theorem q935 : (Jvm.Cond.methodLink "LineCallsLaw" (125 : Nat) ({ cls := "LineCalls", name := "mix", desc := "(I)I" } : Jvm.MethodName)) ∈ lw_all := lw_g (lw_at lw_m4 126 rfl) rfl
theorem q948 : (Jvm.Cond.methodLink "LineCallsLaw" (129 : Nat) ({ cls := "LineCalls", name := "odds", desc := "(III)J" } : Jvm.MethodName)) ∈ lw_all := lw_g (lw_at lw_m4 139 rfl) rfl
theorem q959 : (Jvm.Cond.methodLink "LineCallsLaw" (134 : Nat) ({ cls := "LineCalls", name := "seed", desc := "(I)I" } : Jvm.MethodName)) ∈ lw_all := lw_g (lw_at lw_m4 150 rfl) rfl
theorem q963 : (Jvm.Cond.methodLink "LineCallsLaw" (138 : Nat) ({ cls := "LineCalls", name := "feed", desc := "(II)I" } : Jvm.MethodName)) ∈ lw_all := lw_g (lw_at lw_m4 154 rfl) rfl
theorem q967 : (Jvm.Cond.methodLink "LineCallsLaw" (142 : Nat) ({ cls := "LineCalls", name := "wipe", desc := "()I" } : Jvm.MethodName)) ∈ lw_all := lw_g (lw_at lw_m4 158 rfl) rfl
theorem q971 : (Jvm.Cond.methodLink "LineCallsLaw" (146 : Nat) ({ cls := "LineCalls", name := "text", desc := "()I" } : Jvm.MethodName)) ∈ lw_all := lw_g (lw_at lw_m4 162 rfl) rfl
theorem q1085 : (Jvm.Cond.methodLink "LineCallsLaw" (150 : Nat) ({ cls := "LineCalls", name := "hold", desc := "(II)I" } : Jvm.MethodName)) ∈ lw_all := lw_g (lw_at lw_m5 36 rfl) rfl
theorem q1092 : (Jvm.Cond.methodLink "LineCallsLaw" (154 : Nat) ({ cls := "LineCalls", name := "as", desc := "(II)I" } : Jvm.MethodName)) ∈ lw_all := lw_g (lw_at lw_m5 43 rfl) rfl
theorem q1124 : (Jvm.Cond.methodLink "LineCallsLaw" (158 : Nat) ({ cls := "LineCalls", name := "sheet", desc := "(III)I" } : Jvm.MethodName)) ∈ lw_all := lw_g (lw_at lw_m5 75 rfl) rfl
theorem q1129 : (Jvm.Cond.methodLink "LineCallsLaw" (162 : Nat) ({ cls := "LineCalls", name := "write", desc := "(III)I" } : Jvm.MethodName)) ∈ lw_all := lw_g (lw_at lw_m5 80 rfl) rfl
theorem q1136 : (Jvm.Cond.methodLink "LineCallsLaw" (166 : Nat) ({ cls := "LineCalls", name := "copy", desc := "(IIIII)I" } : Jvm.MethodName)) ∈ lw_all := lw_g (lw_at lw_m5 87 rfl) rfl
theorem q1147 : (Jvm.Cond.methodLink "LineCallsLaw" (171 : Nat) ({ cls := "LineCalls", name := "load", desc := "(I)I" } : Jvm.MethodName)) ∈ lw_all := lw_g (lw_at lw_m5 98 rfl) rfl
theorem q1155 : (Jvm.Cond.methodLink "LineCallsLaw" (175 : Nat) ({ cls := "LineCalls", name := "judge", desc := "(I)I" } : Jvm.MethodName)) ∈ lw_all := lw_g (lw_at lw_m5 106 rfl) rfl
theorem q1159 : (Jvm.Cond.methodLink "LineCallsLaw" (179 : Nat) ({ cls := "LineCalls", name := "image", desc := "()I" } : Jvm.MethodName)) ∈ lw_all := lw_g (lw_at lw_m5 110 rfl) rfl
theorem q1163 : (Jvm.Cond.methodLink "LineCallsLaw" (183 : Nat) ({ cls := "LineCalls", name := "undo", desc := "()I" } : Jvm.MethodName)) ∈ lw_all := lw_g (lw_at lw_m5 114 rfl) rfl
theorem q1167 : (Jvm.Cond.methodLink "LineCallsLaw" (187 : Nat) ({ cls := "LineCalls", name := "tear", desc := "()I" } : Jvm.MethodName)) ∈ lw_all := lw_g (lw_at lw_m5 118 rfl) rfl
theorem q1171 : (Jvm.Cond.methodLink "LineCallsLaw" (191 : Nat) ({ cls := "LineCalls", name := "count", desc := "(I)I" } : Jvm.MethodName)) ∈ lw_all := lw_g (lw_at lw_m5 122 rfl) rfl
theorem q1179 : (Jvm.Cond.methodLink "LineCallsLaw" (195 : Nat) ({ cls := "LineCalls", name := "status", desc := "(I)I" } : Jvm.MethodName)) ∈ lw_all := lw_g (lw_at lw_m5 130 rfl) rfl
theorem q1183 : (Jvm.Cond.classLink "LineCallsLaw" (10 : Nat) "LineCallsModel") ∈ lw_all := lw_g (lw_at lw_m5 134 rfl) rfl
theorem q1185 : (Jvm.Cond.methodLink "LineCallsLaw" (12 : Nat) ({ cls := "LineCallsModel", name := "<init>", desc := "()V" } : Jvm.MethodName)) ∈ lw_all := lw_g (lw_at lw_m5 136 rfl) rfl
theorem q1274 : (Jvm.Cond.methodLink "LineCallsLaw" (17 : Nat) ({ cls := "LineCallsModel", name := "stand", desc := "(II)I" } : Jvm.MethodName)) ∈ lw_all := lw_g (lw_at lw_m5 225 rfl) rfl
theorem q1301 : (Jvm.Cond.methodLink "LineCallsLaw" (21 : Nat) ({ cls := "LineCallsModel", name := "place", desc := "(II)I" } : Jvm.MethodName)) ∈ lw_all := lw_g (lw_at lw_m6 12 rfl) rfl
theorem q1309 : (Jvm.Cond.methodLink "LineCallsLaw" (26 : Nat) ({ cls := "LineCallsModel", name := "theirs", desc := "(III)I" } : Jvm.MethodName)) ∈ lw_all := lw_g (lw_at lw_m6 20 rfl) rfl
theorem q1317 : (Jvm.Cond.methodLink "LineCallsLaw" (30 : Nat) ({ cls := "LineCallsModel", name := "set", desc := "(II)I" } : Jvm.MethodName)) ∈ lw_all := lw_g (lw_at lw_m6 28 rfl) rfl
theorem q1321 : (Jvm.Cond.methodLink "LineCallsLaw" (34 : Nat) ({ cls := "LineCallsModel", name := "call", desc := "(II)I" } : Jvm.MethodName)) ∈ lw_all := lw_g (lw_at lw_m6 32 rfl) rfl
theorem q1328 : (Jvm.Cond.methodLink "LineCallsLaw" (39 : Nat) ({ cls := "LineCallsModel", name := "listed", desc := "(I)I" } : Jvm.MethodName)) ∈ lw_all := lw_g (lw_at lw_m6 39 rfl) rfl
theorem q1332 : (Jvm.Cond.methodLink "LineCallsLaw" (43 : Nat) ({ cls := "LineCallsModel", name := "says", desc := "(II)I" } : Jvm.MethodName)) ∈ lw_all := lw_g (lw_at lw_m6 43 rfl) rfl
theorem q1342 : (Jvm.Cond.methodLink "LineCallsLaw" (47 : Nat) ({ cls := "LineCallsModel", name := "jumper", desc := "(II)I" } : Jvm.MethodName)) ∈ lw_all := lw_g (lw_at lw_m6 53 rfl) rfl
theorem q1357 : (Jvm.Cond.methodLink "LineCallsLaw" (51 : Nat) ({ cls := "LineCallsModel", name := "of", desc := "(II)I" } : Jvm.MethodName)) ∈ lw_all := lw_g (lw_at lw_m6 68 rfl) rfl
theorem q1374 : (Jvm.Cond.methodLink "LineCallsLaw" (55 : Nat) ({ cls := "LineCallsModel", name := "change", desc := "(III)I" } : Jvm.MethodName)) ∈ lw_all := lw_g (lw_at lw_m6 85 rfl) rfl
theorem q1381 : (Jvm.Cond.methodLink "LineCallsLaw" (59 : Nat) ({ cls := "LineCallsModel", name := "gains", desc := "(II)I" } : Jvm.MethodName)) ∈ lw_all := lw_g (lw_at lw_m6 92 rfl) rfl
theorem q1389 : (Jvm.Cond.methodLink "LineCallsLaw" (63 : Nat) ({ cls := "LineCallsModel", name := "go", desc := "(I)I" } : Jvm.MethodName)) ∈ lw_all := lw_g (lw_at lw_m6 100 rfl) rfl
theorem q1416 : (Jvm.Cond.methodLink "LineCallsLaw" (67 : Nat) ({ cls := "LineCallsModel", name := "now", desc := "(I)I" } : Jvm.MethodName)) ∈ lw_all := lw_g (lw_at lw_m6 127 rfl) rfl
theorem q1435 : (Jvm.Cond.methodLink "LineCallsLaw" (71 : Nat) ({ cls := "LineCallsModel", name := "ahead", desc := "(III)I" } : Jvm.MethodName)) ∈ lw_all := lw_g (lw_at lw_m6 146 rfl) rfl
theorem q1446 : (Jvm.Cond.methodLink "LineCallsLaw" (75 : Nat) ({ cls := "LineCallsModel", name := "metres", desc := "(I)I" } : Jvm.MethodName)) ∈ lw_all := lw_g (lw_at lw_m6 157 rfl) rfl
theorem q1454 : (Jvm.Cond.methodLink "LineCallsLaw" (79 : Nat) ({ cls := "LineCallsModel", name := "when", desc := "(II)I" } : Jvm.MethodName)) ∈ lw_all := lw_g (lw_at lw_m6 165 rfl) rfl
theorem q1463 : (Jvm.Cond.methodLink "LineCallsLaw" (84 : Nat) ({ cls := "LineCallsModel", name := "known", desc := "()I" } : Jvm.MethodName)) ∈ lw_all := lw_g (lw_at lw_m6 174 rfl) rfl
theorem q1467 : (Jvm.Cond.methodLink "LineCallsLaw" (88 : Nat) ({ cls := "LineCallsModel", name := "codeFor", desc := "(I)I" } : Jvm.MethodName)) ∈ lw_all := lw_g (lw_at lw_m6 178 rfl) rfl
theorem q1478 : (Jvm.Cond.methodLink "LineCallsLaw" (92 : Nat) ({ cls := "LineCallsModel", name := "callFor", desc := "(I)I" } : Jvm.MethodName)) ∈ lw_all := lw_g (lw_at lw_m6 189 rfl) rfl
theorem q1482 : (Jvm.Cond.methodLink "LineCallsLaw" (96 : Nat) ({ cls := "LineCallsModel", name := "standFor", desc := "(II)I" } : Jvm.MethodName)) ∈ lw_all := lw_g (lw_at lw_m6 193 rfl) rfl
theorem q1490 : (Jvm.Cond.methodLink "LineCallsLaw" (100 : Nat) ({ cls := "LineCallsModel", name := "kindFor", desc := "(II)I" } : Jvm.MethodName)) ∈ lw_all := lw_g (lw_at lw_m6 201 rfl) rfl
theorem q1494 : (Jvm.Cond.methodLink "LineCallsLaw" (104 : Nat) ({ cls := "LineCallsModel", name := "tallFor", desc := "(III)I" } : Jvm.MethodName)) ∈ lw_all := lw_g (lw_at lw_m6 205 rfl) rfl
theorem q1498 : (Jvm.Cond.methodLink "LineCallsLaw" (108 : Nat) ({ cls := "LineCallsModel", name := "cover", desc := "()I" } : Jvm.MethodName)) ∈ lw_all := lw_g (lw_at lw_m6 209 rfl) rfl
theorem q1502 : (Jvm.Cond.methodLink "LineCallsLaw" (112 : Nat) ({ cls := "LineCallsModel", name := "codes", desc := "(I)I" } : Jvm.MethodName)) ∈ lw_all := lw_g (lw_at lw_m6 213 rfl) rfl
theorem q1518 : (Jvm.Cond.methodLink "LineCallsLaw" (116 : Nat) ({ cls := "LineCallsModel", name := "fits", desc := "(II)I" } : Jvm.MethodName)) ∈ lw_all := lw_g (lw_at lw_m6 229 rfl) rfl
theorem q1526 : (Jvm.Cond.methodLink "LineCallsLaw" (120 : Nat) ({ cls := "LineCallsModel", name := "tall", desc := "(II)I" } : Jvm.MethodName)) ∈ lw_all := lw_g (lw_at lw_m6 237 rfl) rfl
theorem q1530 : (Jvm.Cond.methodLink "LineCallsLaw" (124 : Nat) ({ cls := "LineCallsModel", name := "kinds", desc := "(II)I" } : Jvm.MethodName)) ∈ lw_all := lw_g (lw_at lw_m7 1 rfl) rfl
theorem q1534 : (Jvm.Cond.methodLink "LineCallsLaw" (128 : Nat) ({ cls := "LineCallsModel", name := "mix", desc := "(I)I" } : Jvm.MethodName)) ∈ lw_all := lw_g (lw_at lw_m7 5 rfl) rfl
theorem q1543 : (Jvm.Cond.methodLink "LineCallsLaw" (133 : Nat) ({ cls := "LineCallsModel", name := "odds", desc := "(III)J" } : Jvm.MethodName)) ∈ lw_all := lw_g (lw_at lw_m7 14 rfl) rfl
theorem q1547 : (Jvm.Cond.methodLink "LineCallsLaw" (137 : Nat) ({ cls := "LineCallsModel", name := "seed", desc := "(I)I" } : Jvm.MethodName)) ∈ lw_all := lw_g (lw_at lw_m7 18 rfl) rfl
theorem q1551 : (Jvm.Cond.methodLink "LineCallsLaw" (141 : Nat) ({ cls := "LineCallsModel", name := "feed", desc := "(II)I" } : Jvm.MethodName)) ∈ lw_all := lw_g (lw_at lw_m7 22 rfl) rfl
theorem q1555 : (Jvm.Cond.methodLink "LineCallsLaw" (145 : Nat) ({ cls := "LineCallsModel", name := "wipe", desc := "()I" } : Jvm.MethodName)) ∈ lw_all := lw_g (lw_at lw_m7 26 rfl) rfl
theorem q1559 : (Jvm.Cond.methodLink "LineCallsLaw" (149 : Nat) ({ cls := "LineCallsModel", name := "text", desc := "()I" } : Jvm.MethodName)) ∈ lw_all := lw_g (lw_at lw_m7 30 rfl) rfl
theorem q1623 : (Jvm.Cond.methodLink "LineCallsLaw" (153 : Nat) ({ cls := "LineCallsModel", name := "hold", desc := "(II)I" } : Jvm.MethodName)) ∈ lw_all := lw_g (lw_at lw_m7 94 rfl) rfl
theorem q1630 : (Jvm.Cond.methodLink "LineCallsLaw" (157 : Nat) ({ cls := "LineCallsModel", name := "as", desc := "(II)I" } : Jvm.MethodName)) ∈ lw_all := lw_g (lw_at lw_m7 101 rfl) rfl
theorem q1641 : (Jvm.Cond.methodLink "LineCallsLaw" (161 : Nat) ({ cls := "LineCallsModel", name := "sheet", desc := "(III)I" } : Jvm.MethodName)) ∈ lw_all := lw_g (lw_at lw_m7 112 rfl) rfl
theorem q1646 : (Jvm.Cond.methodLink "LineCallsLaw" (165 : Nat) ({ cls := "LineCallsModel", name := "write", desc := "(III)I" } : Jvm.MethodName)) ∈ lw_all := lw_g (lw_at lw_m7 117 rfl) rfl
theorem q1653 : (Jvm.Cond.methodLink "LineCallsLaw" (170 : Nat) ({ cls := "LineCallsModel", name := "copy", desc := "(IIIII)I" } : Jvm.MethodName)) ∈ lw_all := lw_g (lw_at lw_m7 124 rfl) rfl
theorem q1657 : (Jvm.Cond.methodLink "LineCallsLaw" (174 : Nat) ({ cls := "LineCallsModel", name := "load", desc := "(I)I" } : Jvm.MethodName)) ∈ lw_all := lw_g (lw_at lw_m7 128 rfl) rfl
theorem q1661 : (Jvm.Cond.methodLink "LineCallsLaw" (178 : Nat) ({ cls := "LineCallsModel", name := "judge", desc := "(I)I" } : Jvm.MethodName)) ∈ lw_all := lw_g (lw_at lw_m7 132 rfl) rfl
theorem q1665 : (Jvm.Cond.methodLink "LineCallsLaw" (182 : Nat) ({ cls := "LineCallsModel", name := "image", desc := "()I" } : Jvm.MethodName)) ∈ lw_all := lw_g (lw_at lw_m7 136 rfl) rfl
theorem q1669 : (Jvm.Cond.methodLink "LineCallsLaw" (186 : Nat) ({ cls := "LineCallsModel", name := "undo", desc := "()I" } : Jvm.MethodName)) ∈ lw_all := lw_g (lw_at lw_m7 140 rfl) rfl
theorem q1673 : (Jvm.Cond.methodLink "LineCallsLaw" (190 : Nat) ({ cls := "LineCallsModel", name := "tear", desc := "()I" } : Jvm.MethodName)) ∈ lw_all := lw_g (lw_at lw_m7 144 rfl) rfl
theorem q1677 : (Jvm.Cond.methodLink "LineCallsLaw" (194 : Nat) ({ cls := "LineCallsModel", name := "count", desc := "(I)I" } : Jvm.MethodName)) ∈ lw_all := lw_g (lw_at lw_m7 148 rfl) rfl
theorem q1681 : (Jvm.Cond.methodLink "LineCallsLaw" (198 : Nat) ({ cls := "LineCallsModel", name := "status", desc := "(I)I" } : Jvm.MethodName)) ∈ lw_all := lw_g (lw_at lw_m7 152 rfl) rfl
