/-! the law's own entry -/
set_option maxRecDepth 100000
abbrev cL_law : ByteArray := code
def dkwL_law_58 : List UInt8 := [182, 0, 185, 159, 0, 5, 3, 172, 132, 3, 6, 167, 250, 26, 4, 172]
abbrev dktL_law_58 : List UInt8 := dkwL_law_58 ++ []
def dkwL_law_57 : List UInt8 := [182, 0, 181, 159, 0, 28, 3, 172, 43, 42, 29, 4, 96, 46, 182, 0, 182, 44, 42, 29, 4, 96, 46]
abbrev dktL_law_57 : List UInt8 := dkwL_law_57 ++ dktL_law_58
def dkwL_law_56 : List UInt8 := [44, 182, 0, 177, 159, 0, 51, 3, 172, 43, 42, 29, 4, 96, 46, 182, 0, 178, 44, 42, 29, 4, 96, 46]
abbrev dktL_law_56 : List UInt8 := dkwL_law_56 ++ dktL_law_57
def dkwL_law_55 : List UInt8 := [4, 96, 46, 182, 0, 170, 44, 42, 29, 4, 96, 46, 182, 0, 173, 159, 0, 64, 3, 172, 43, 182, 0, 174]
abbrev dktL_law_55 : List UInt8 := dkwL_law_55 ++ dktL_law_56
def dkwL_law_54 : List UInt8 := [182, 0, 165, 159, 0, 100, 3, 172, 43, 182, 0, 166, 44, 182, 0, 169, 159, 0, 87, 3, 172, 43, 42, 29]
abbrev dktL_law_54 : List UInt8 := dkwL_law_54 ++ dktL_law_55
def dkwL_law_53 : List UInt8 := [46, 182, 0, 158, 44, 42, 29, 4, 96, 46, 182, 0, 161, 159, 0, 113, 3, 172, 43, 182, 0, 162, 44]
abbrev dktL_law_53 : List UInt8 := dkwL_law_53 ++ dktL_law_54
def dkwL_law_52 : List UInt8 := [96, 46, 182, 0, 154, 44, 42, 29, 4, 96, 46, 182, 0, 157, 159, 0, 136, 3, 172, 43, 42, 29, 4, 96]
abbrev dktL_law_52 : List UInt8 := dkwL_law_52 ++ dktL_law_53
def dkwL_law_51 : List UInt8 := [96, 46, 42, 29, 7, 96, 46, 42, 29, 8, 96, 46, 182, 0, 153, 159, 0, 159, 3, 172, 43, 42, 29, 4]
abbrev dktL_law_51 : List UInt8 := dkwL_law_51 ++ dktL_law_52
def dkwL_law_50 : List UInt8 := [96, 46, 42, 29, 8, 96, 46, 182, 0, 149, 44, 42, 29, 4, 96, 46, 42, 29, 5, 96, 46, 42, 29, 6]
abbrev dktL_law_50 : List UInt8 := dkwL_law_50 ++ dktL_law_51
def dkwL_law_49 : List UInt8 := [159, 0, 222, 3, 172, 43, 42, 29, 4, 96, 46, 42, 29, 5, 96, 46, 42, 29, 6, 96, 46, 42, 29, 7]
abbrev dktL_law_49 : List UInt8 := dkwL_law_49 ++ dktL_law_50
def dkwL_law_48 : List UInt8 := [182, 0, 145, 44, 42, 29, 4, 96, 46, 42, 29, 5, 96, 46, 42, 29, 6, 96, 46, 182, 0, 148]
abbrev dktL_law_48 : List UInt8 := dkwL_law_48 ++ dktL_law_49
def dkwL_law_47 : List UInt8 := [182, 0, 144, 159, 1, 9, 3, 172, 43, 42, 29, 4, 96, 46, 42, 29, 5, 96, 46, 42, 29, 6, 96, 46]
abbrev dktL_law_47 : List UInt8 := dkwL_law_47 ++ dktL_law_48
def dkwL_law_46 : List UInt8 := [29, 6, 96, 46, 182, 0, 141, 44, 42, 29, 4, 96, 46, 42, 29, 5, 96, 46, 42, 29, 6, 96, 46]
abbrev dktL_law_46 : List UInt8 := dkwL_law_46 ++ dktL_law_47
def dkwL_law_45 : List UInt8 := [29, 4, 96, 46, 182, 0, 140, 159, 1, 52, 3, 172, 43, 42, 29, 4, 96, 46, 42, 29, 5, 96, 46, 42]
abbrev dktL_law_45 : List UInt8 := dkwL_law_45 ++ dktL_law_46
def dkwL_law_44 : List UInt8 := [42, 29, 6, 96, 46, 182, 0, 136, 159, 1, 75, 3, 172, 43, 42, 29, 4, 96, 46, 182, 0, 137, 44, 42]
abbrev dktL_law_44 : List UInt8 := dkwL_law_44 ++ dktL_law_45
def dkwL_law_43 : List UInt8 := [42, 29, 5, 96, 46, 42, 29, 6, 96, 46, 182, 0, 133, 44, 42, 29, 4, 96, 46, 42, 29, 5, 96, 46]
abbrev dktL_law_43 : List UInt8 := dkwL_law_43 ++ dktL_law_44
def dkwL_law_42 : List UInt8 := [46, 182, 0, 129, 44, 42, 29, 4, 96, 46, 182, 0, 132, 159, 1, 118, 3, 172, 43, 42, 29, 4, 96, 46]
abbrev dktL_law_42 : List UInt8 := dkwL_law_42 ++ dktL_law_43
def dkwL_law_41 : List UInt8 := [46, 42, 29, 5, 96, 46, 42, 29, 6, 96, 46, 182, 0, 128, 159, 1, 141, 3, 172, 43, 42, 29, 4, 96]
abbrev dktL_law_41 : List UInt8 := dkwL_law_41 ++ dktL_law_42
def dkwL_law_40 : List UInt8 := [43, 42, 29, 4, 96, 46, 42, 29, 5, 96, 46, 42, 29, 6, 96, 46, 182, 0, 125, 44, 42, 29, 4, 96]
abbrev dktL_law_40 : List UInt8 := dkwL_law_40 ++ dktL_law_41
def dkwL_law_39 : List UInt8 := [44, 42, 29, 4, 96, 46, 42, 29, 5, 96, 46, 42, 29, 6, 96, 46, 182, 0, 124, 159, 1, 184, 3, 172]
abbrev dktL_law_39 : List UInt8 := dkwL_law_39 ++ dktL_law_40
def dkwL_law_38 : List UInt8 := [159, 1, 227, 3, 172, 43, 42, 29, 4, 96, 46, 42, 29, 5, 96, 46, 42, 29, 6, 96, 46, 182, 0, 121]
abbrev dktL_law_38 : List UInt8 := dkwL_law_38 ++ dktL_law_39
def dkwL_law_37 : List UInt8 := [159, 1, 250, 3, 172, 43, 42, 29, 4, 96, 46, 182, 0, 117, 44, 42, 29, 4, 96, 46, 182, 0, 120]
abbrev dktL_law_37 : List UInt8 := dkwL_law_37 ++ dktL_law_38
def dkwL_law_36 : List UInt8 := [42, 29, 5, 96, 46, 182, 0, 113, 44, 42, 29, 4, 96, 46, 42, 29, 5, 96, 46, 182, 0, 116]
abbrev dktL_law_36 : List UInt8 := dkwL_law_36 ++ dktL_law_37
def dkwL_law_35 : List UInt8 := [159, 2, 40, 3, 172, 43, 182, 0, 109, 44, 182, 0, 112, 159, 2, 27, 3, 172, 43, 42, 29, 4, 96, 46]
abbrev dktL_law_35 : List UInt8 := dkwL_law_35 ++ dktL_law_36
def dkwL_law_34 : List UInt8 := [46, 42, 29, 5, 96, 46, 182, 0, 105, 44, 42, 29, 4, 96, 46, 42, 29, 5, 96, 46, 182, 0, 108]
abbrev dktL_law_34 : List UInt8 := dkwL_law_34 ++ dktL_law_35
def dkwL_law_33 : List UInt8 := [46, 42, 29, 5, 96, 46, 42, 29, 6, 96, 46, 182, 0, 104, 159, 2, 73, 3, 172, 43, 42, 29, 4, 96]
abbrev dktL_law_33 : List UInt8 := dkwL_law_33 ++ dktL_law_34
def dkwL_law_32 : List UInt8 := [43, 42, 29, 4, 96, 46, 42, 29, 5, 96, 46, 42, 29, 6, 96, 46, 182, 0, 101, 44, 42, 29, 4, 96]
abbrev dktL_law_32 : List UInt8 := dkwL_law_32 ++ dktL_law_33
def dkwL_law_31 : List UInt8 := [44, 42, 29, 4, 96, 46, 42, 29, 5, 96, 46, 42, 29, 6, 96, 46, 182, 0, 100, 159, 2, 116, 3, 172]
abbrev dktL_law_31 : List UInt8 := dkwL_law_31 ++ dktL_law_32
def dkwL_law_30 : List UInt8 := [159, 2, 159, 3, 172, 43, 42, 29, 4, 96, 46, 42, 29, 5, 96, 46, 42, 29, 6, 96, 46, 182, 0, 97]
abbrev dktL_law_30 : List UInt8 := dkwL_law_30 ++ dktL_law_31
def dkwL_law_29 : List UInt8 := [182, 0, 93, 44, 42, 29, 4, 96, 46, 42, 29, 5, 96, 46, 42, 29, 6, 96, 46, 182, 0, 96]
abbrev dktL_law_29 : List UInt8 := dkwL_law_29 ++ dktL_law_30
def dkwL_law_28 : List UInt8 := [182, 0, 92, 159, 2, 202, 3, 172, 43, 42, 29, 4, 96, 46, 42, 29, 5, 96, 46, 42, 29, 6, 96, 46]
abbrev dktL_law_28 : List UInt8 := dkwL_law_28 ++ dktL_law_29
def dkwL_law_27 : List UInt8 := [96, 46, 182, 0, 84, 44, 42, 29, 4, 96, 46, 182, 0, 87, 159, 2, 215, 3, 172, 43, 182, 0, 88, 44]
abbrev dktL_law_27 : List UInt8 := dkwL_law_27 ++ dktL_law_28
def dkwL_law_26 : List UInt8 := [4, 96, 46, 182, 0, 80, 44, 42, 29, 4, 96, 46, 182, 0, 83, 159, 2, 238, 3, 172, 43, 42, 29, 4]
abbrev dktL_law_26 : List UInt8 := dkwL_law_26 ++ dktL_law_27
def dkwL_law_25 : List UInt8 := [4, 96, 46, 42, 29, 5, 96, 46, 42, 29, 6, 96, 46, 182, 0, 79, 159, 3, 5, 3, 172, 43, 42, 29]
abbrev dktL_law_25 : List UInt8 := dkwL_law_25 ++ dktL_law_26
def dkwL_law_24 : List UInt8 := [3, 172, 43, 42, 29, 4, 96, 46, 42, 29, 5, 96, 46, 42, 29, 6, 96, 46, 182, 0, 76, 44, 42, 29]
abbrev dktL_law_24 : List UInt8 := dkwL_law_24 ++ dktL_law_25
def dkwL_law_23 : List UInt8 := [29, 5, 96, 46, 182, 0, 72, 44, 42, 29, 4, 96, 46, 42, 29, 5, 96, 46, 182, 0, 75, 159, 3, 48]
abbrev dktL_law_23 : List UInt8 := dkwL_law_23 ++ dktL_law_24
def dkwL_law_22 : List UInt8 := [182, 0, 68, 44, 42, 29, 4, 96, 46, 182, 0, 71, 159, 3, 81, 3, 172, 43, 42, 29, 4, 96, 46, 42]
abbrev dktL_law_22 : List UInt8 := dkwL_law_22 ++ dktL_law_23
def dkwL_law_21 : List UInt8 := [29, 6, 96, 46, 42, 29, 7, 96, 46, 182, 0, 67, 159, 3, 104, 3, 172, 43, 42, 29, 4, 96, 46]
abbrev dktL_law_21 : List UInt8 := dkwL_law_21 ++ dktL_law_22
def dkwL_law_20 : List UInt8 := [29, 6, 96, 46, 42, 29, 7, 96, 46, 182, 0, 63, 44, 42, 29, 4, 96, 46, 42, 29, 5, 96, 46, 42]
abbrev dktL_law_20 : List UInt8 := dkwL_law_20 ++ dktL_law_21
def dkwL_law_19 : List UInt8 := [29, 4, 96, 46, 182, 0, 62, 159, 3, 157, 3, 172, 43, 42, 29, 4, 96, 46, 42, 29, 5, 96, 46, 42]
abbrev dktL_law_19 : List UInt8 := dkwL_law_19 ++ dktL_law_20
def dkwL_law_18 : List UInt8 := [42, 29, 6, 96, 46, 182, 0, 58, 159, 3, 180, 3, 172, 43, 42, 29, 4, 96, 46, 182, 0, 59, 44, 42]
abbrev dktL_law_18 : List UInt8 := dkwL_law_18 ++ dktL_law_19
def dkwL_law_17 : List UInt8 := [182, 0, 54, 44, 42, 29, 4, 96, 46, 133, 16, 32, 121, 42, 29, 5, 96, 46, 133, 20, 0, 52, 127, 129]
abbrev dktL_law_17 : List UInt8 := dkwL_law_17 ++ dktL_law_18
def dkwL_law_16 : List UInt8 := [29, 4, 96, 46, 133, 16, 32, 121, 42, 29, 5, 96, 46, 133, 20, 0, 52, 127, 129, 42, 29, 6, 96, 46]
abbrev dktL_law_16 : List UInt8 := dkwL_law_16 ++ dktL_law_17
def dkwL_law_15 : List UInt8 := [182, 0, 48, 44, 42, 29, 4, 96, 46, 42, 29, 5, 96, 46, 182, 0, 51, 159, 3, 243, 3, 172, 43, 42]
abbrev dktL_law_15 : List UInt8 := dkwL_law_15 ++ dktL_law_16
def dkwL_law_14 : List UInt8 := [5, 96, 46, 182, 0, 47, 159, 4, 20, 3, 172, 43, 42, 29, 4, 96, 46, 42, 29, 5, 96, 46]
abbrev dktL_law_14 : List UInt8 := dkwL_law_14 ++ dktL_law_15
def dkwL_law_13 : List UInt8 := [3, 172, 43, 42, 29, 4, 96, 46, 42, 29, 5, 96, 46, 182, 0, 44, 44, 42, 29, 4, 96, 46, 42, 29]
abbrev dktL_law_13 : List UInt8 := dkwL_law_13 ++ dktL_law_14
def dkwL_law_12 : List UInt8 := [29, 5, 96, 46, 182, 0, 40, 44, 42, 29, 4, 96, 46, 42, 29, 5, 96, 46, 182, 0, 43, 159, 4, 53]
abbrev dktL_law_12 : List UInt8 := dkwL_law_12 ++ dktL_law_13
def dkwL_law_11 : List UInt8 := [29, 4, 96, 46, 42, 29, 5, 96, 46, 182, 0, 39, 159, 4, 86, 3, 172, 43, 42, 29, 4, 96, 46, 42]
abbrev dktL_law_11 : List UInt8 := dkwL_law_11 ++ dktL_law_12
def dkwL_law_10 : List UInt8 := [182, 0, 35, 159, 4, 119, 3, 172, 43, 42, 29, 4, 96, 46, 42, 29, 5, 96, 46, 182, 0, 36, 44, 42]
abbrev dktL_law_10 : List UInt8 := dkwL_law_10 ++ dktL_law_11
def dkwL_law_9 : List UInt8 := [46, 182, 0, 30, 159, 4, 142, 3, 172, 43, 42, 29, 4, 96, 46, 182, 0, 31, 44, 42, 29, 4, 96, 46]
abbrev dktL_law_9 : List UInt8 := dkwL_law_9 ++ dktL_law_10
def dkwL_law_8 : List UInt8 := [43, 42, 29, 4, 96, 46, 42, 29, 5, 96, 46, 182, 0, 27, 44, 42, 29, 4, 96, 46, 42, 29, 5, 96]
abbrev dktL_law_8 : List UInt8 := dkwL_law_8 ++ dktL_law_9
def dkwL_law_7 : List UInt8 := [44, 42, 29, 4, 96, 46, 42, 29, 5, 96, 46, 42, 29, 6, 96, 46, 182, 0, 26, 159, 4, 175, 3, 172]
abbrev dktL_law_7 : List UInt8 := dkwL_law_7 ++ dktL_law_8
def dkwL_law_6 : List UInt8 := [159, 4, 218, 3, 172, 43, 42, 29, 4, 96, 46, 42, 29, 5, 96, 46, 42, 29, 6, 96, 46, 182, 0, 23]
abbrev dktL_law_6 : List UInt8 := dkwL_law_6 ++ dktL_law_7
def dkwL_law_5 : List UInt8 := [46, 182, 0, 18, 44, 42, 29, 4, 96, 46, 42, 29, 5, 96, 46, 42, 29, 6, 96, 46, 182, 0, 22]
abbrev dktL_law_5 : List UInt8 := dkwL_law_5 ++ dktL_law_6
def dkwL_law_4 : List UInt8 := [46, 182, 0, 17, 159, 5, 5, 3, 172, 43, 42, 29, 4, 96, 46, 42, 29, 5, 96, 46, 42, 29, 6, 96]
abbrev dktL_law_4 : List UInt8 := dkwL_law_4 ++ dktL_law_5
def dkwL_law_3 : List UInt8 := [43, 42, 29, 4, 96, 46, 42, 29, 5, 96, 46, 182, 0, 13, 44, 42, 29, 4, 96, 46, 42, 29, 5, 96]
abbrev dktL_law_3 : List UInt8 := dkwL_law_3 ++ dktL_law_4
def dkwL_law_2 : List UInt8 := [170, 0, 0, 0, 0, 5, 212, 0, 0, 0, 0, 0, 0, 0, 40, 0, 0, 0, 179, 0, 0, 0, 212, 0, 0, 0, 255, 0, 0, 1, 42, 0, 0, 1, 75, 0, 0, 1, 98, 0, 0, 1, 131, 0, 0, 1, 164, 0, 0, 1, 197, 0, 0, 1, 230, 0, 0, 2, 37, 0, 0, 2, 60, 0, 0, 2, 113, 0, 0, 2, 136, 0, 0, 2, 169, 0, 0, 2, 212, 0, 0, 2, 235, 0, 0, 3, 2, 0, 0, 3, 15, 0, 0, 3, 58, 0, 0, 3, 101, 0, 0, 3, 144, 0, 0, 3, 177, 0, 0, 3, 190, 0, 0, 3, 223, 0, 0, 3, 246, 0, 0, 4, 33, 0, 0, 4, 76, 0, 0, 4, 99, 0, 0, 4, 142, 0, 0, 4, 165, 0, 0, 4, 208, 0, 0, 4, 251, 0, 0, 5, 58, 0, 0, 5, 81, 0, 0, 5, 104, 0, 0, 5, 117, 0, 0, 5, 130, 0, 0, 5, 153, 0, 0, 5, 166, 0, 0, 5, 189]
abbrev dktL_law_2 : List UInt8 := dkwL_law_2 ++ dktL_law_3
def dkwL_law_1 : List UInt8 := [163, 5, 227, 42, 29, 46, 16, 63, 126]
abbrev dktL_law_1 : List UInt8 := dkwL_law_1 ++ dktL_law_2
def dkwL_law_0 : List UInt8 := [187, 0, 7, 89, 183, 0, 9, 76, 187, 0, 10, 89, 183, 0, 12, 77, 3, 62, 29, 42, 190, 16, 6, 100]
abbrev dktL_law_0 : List UInt8 := dkwL_law_0 ++ dktL_law_1
theorem dksL_law_0 : cL_law.data.toList.drop 0 = dktL_law_0 := by decide +kernel
theorem dksL_law_1 : cL_law.data.toList.drop 24 = dktL_law_1 := dk_seg dksL_law_0 24 rfl rfl
theorem dksL_law_2 : cL_law.data.toList.drop 33 = dktL_law_2 := dk_seg dksL_law_1 9 rfl rfl
theorem dksL_law_3 : cL_law.data.toList.drop 212 = dktL_law_3 := dk_seg dksL_law_2 179 rfl rfl
theorem dksL_law_4 : cL_law.data.toList.drop 236 = dktL_law_4 := dk_seg dksL_law_3 24 rfl rfl
theorem dksL_law_5 : cL_law.data.toList.drop 260 = dktL_law_5 := dk_seg dksL_law_4 24 rfl rfl
theorem dksL_law_6 : cL_law.data.toList.drop 283 = dktL_law_6 := dk_seg dksL_law_5 23 rfl rfl
theorem dksL_law_7 : cL_law.data.toList.drop 307 = dktL_law_7 := dk_seg dksL_law_6 24 rfl rfl
theorem dksL_law_8 : cL_law.data.toList.drop 331 = dktL_law_8 := dk_seg dksL_law_7 24 rfl rfl
theorem dksL_law_9 : cL_law.data.toList.drop 355 = dktL_law_9 := dk_seg dksL_law_8 24 rfl rfl
theorem dksL_law_10 : cL_law.data.toList.drop 379 = dktL_law_10 := dk_seg dksL_law_9 24 rfl rfl
theorem dksL_law_11 : cL_law.data.toList.drop 403 = dktL_law_11 := dk_seg dksL_law_10 24 rfl rfl
theorem dksL_law_12 : cL_law.data.toList.drop 427 = dktL_law_12 := dk_seg dksL_law_11 24 rfl rfl
theorem dksL_law_13 : cL_law.data.toList.drop 451 = dktL_law_13 := dk_seg dksL_law_12 24 rfl rfl
theorem dksL_law_14 : cL_law.data.toList.drop 475 = dktL_law_14 := dk_seg dksL_law_13 24 rfl rfl
theorem dksL_law_15 : cL_law.data.toList.drop 497 = dktL_law_15 := dk_seg dksL_law_14 22 rfl rfl
theorem dksL_law_16 : cL_law.data.toList.drop 521 = dktL_law_16 := dk_seg dksL_law_15 24 rfl rfl
theorem dksL_law_17 : cL_law.data.toList.drop 545 = dktL_law_17 := dk_seg dksL_law_16 24 rfl rfl
theorem dksL_law_18 : cL_law.data.toList.drop 569 = dktL_law_18 := dk_seg dksL_law_17 24 rfl rfl
theorem dksL_law_19 : cL_law.data.toList.drop 593 = dktL_law_19 := dk_seg dksL_law_18 24 rfl rfl
theorem dksL_law_20 : cL_law.data.toList.drop 617 = dktL_law_20 := dk_seg dksL_law_19 24 rfl rfl
theorem dksL_law_21 : cL_law.data.toList.drop 641 = dktL_law_21 := dk_seg dksL_law_20 24 rfl rfl
theorem dksL_law_22 : cL_law.data.toList.drop 664 = dktL_law_22 := dk_seg dksL_law_21 23 rfl rfl
theorem dksL_law_23 : cL_law.data.toList.drop 688 = dktL_law_23 := dk_seg dksL_law_22 24 rfl rfl
theorem dksL_law_24 : cL_law.data.toList.drop 712 = dktL_law_24 := dk_seg dksL_law_23 24 rfl rfl
theorem dksL_law_25 : cL_law.data.toList.drop 736 = dktL_law_25 := dk_seg dksL_law_24 24 rfl rfl
theorem dksL_law_26 : cL_law.data.toList.drop 760 = dktL_law_26 := dk_seg dksL_law_25 24 rfl rfl
theorem dksL_law_27 : cL_law.data.toList.drop 784 = dktL_law_27 := dk_seg dksL_law_26 24 rfl rfl
theorem dksL_law_28 : cL_law.data.toList.drop 808 = dktL_law_28 := dk_seg dksL_law_27 24 rfl rfl
theorem dksL_law_29 : cL_law.data.toList.drop 832 = dktL_law_29 := dk_seg dksL_law_28 24 rfl rfl
theorem dksL_law_30 : cL_law.data.toList.drop 854 = dktL_law_30 := dk_seg dksL_law_29 22 rfl rfl
theorem dksL_law_31 : cL_law.data.toList.drop 878 = dktL_law_31 := dk_seg dksL_law_30 24 rfl rfl
theorem dksL_law_32 : cL_law.data.toList.drop 902 = dktL_law_32 := dk_seg dksL_law_31 24 rfl rfl
theorem dksL_law_33 : cL_law.data.toList.drop 926 = dktL_law_33 := dk_seg dksL_law_32 24 rfl rfl
theorem dksL_law_34 : cL_law.data.toList.drop 950 = dktL_law_34 := dk_seg dksL_law_33 24 rfl rfl
theorem dksL_law_35 : cL_law.data.toList.drop 973 = dktL_law_35 := dk_seg dksL_law_34 23 rfl rfl
theorem dksL_law_36 : cL_law.data.toList.drop 997 = dktL_law_36 := dk_seg dksL_law_35 24 rfl rfl
theorem dksL_law_37 : cL_law.data.toList.drop 1019 = dktL_law_37 := dk_seg dksL_law_36 22 rfl rfl
theorem dksL_law_38 : cL_law.data.toList.drop 1042 = dktL_law_38 := dk_seg dksL_law_37 23 rfl rfl
theorem dksL_law_39 : cL_law.data.toList.drop 1066 = dktL_law_39 := dk_seg dksL_law_38 24 rfl rfl
theorem dksL_law_40 : cL_law.data.toList.drop 1090 = dktL_law_40 := dk_seg dksL_law_39 24 rfl rfl
theorem dksL_law_41 : cL_law.data.toList.drop 1114 = dktL_law_41 := dk_seg dksL_law_40 24 rfl rfl
theorem dksL_law_42 : cL_law.data.toList.drop 1138 = dktL_law_42 := dk_seg dksL_law_41 24 rfl rfl
theorem dksL_law_43 : cL_law.data.toList.drop 1162 = dktL_law_43 := dk_seg dksL_law_42 24 rfl rfl
theorem dksL_law_44 : cL_law.data.toList.drop 1186 = dktL_law_44 := dk_seg dksL_law_43 24 rfl rfl
theorem dksL_law_45 : cL_law.data.toList.drop 1210 = dktL_law_45 := dk_seg dksL_law_44 24 rfl rfl
theorem dksL_law_46 : cL_law.data.toList.drop 1234 = dktL_law_46 := dk_seg dksL_law_45 24 rfl rfl
theorem dksL_law_47 : cL_law.data.toList.drop 1257 = dktL_law_47 := dk_seg dksL_law_46 23 rfl rfl
theorem dksL_law_48 : cL_law.data.toList.drop 1281 = dktL_law_48 := dk_seg dksL_law_47 24 rfl rfl
theorem dksL_law_49 : cL_law.data.toList.drop 1303 = dktL_law_49 := dk_seg dksL_law_48 22 rfl rfl
theorem dksL_law_50 : cL_law.data.toList.drop 1327 = dktL_law_50 := dk_seg dksL_law_49 24 rfl rfl
theorem dksL_law_51 : cL_law.data.toList.drop 1351 = dktL_law_51 := dk_seg dksL_law_50 24 rfl rfl
theorem dksL_law_52 : cL_law.data.toList.drop 1375 = dktL_law_52 := dk_seg dksL_law_51 24 rfl rfl
theorem dksL_law_53 : cL_law.data.toList.drop 1399 = dktL_law_53 := dk_seg dksL_law_52 24 rfl rfl
theorem dksL_law_54 : cL_law.data.toList.drop 1422 = dktL_law_54 := dk_seg dksL_law_53 23 rfl rfl
theorem dksL_law_55 : cL_law.data.toList.drop 1446 = dktL_law_55 := dk_seg dksL_law_54 24 rfl rfl
theorem dksL_law_56 : cL_law.data.toList.drop 1470 = dktL_law_56 := dk_seg dksL_law_55 24 rfl rfl
theorem dksL_law_57 : cL_law.data.toList.drop 1494 = dktL_law_57 := dk_seg dksL_law_56 24 rfl rfl
theorem dksL_law_58 : cL_law.data.toList.drop 1517 = dktL_law_58 := dk_seg dksL_law_57 23 rfl rfl
theorem dL_law_0 : decode cL_law 0 = .ok (.new 7, 3) := dk_187 0 7 (dk_at dksL_law_0 0 rfl rfl)
theorem dL_law_3 : decode cL_law 3 = .ok (.dup, 1) := dk_89 (dk_at dksL_law_0 3 rfl rfl)
theorem dL_law_4 : decode cL_law 4 = .ok (.invokespecial 9, 3) := dk_183 0 9 (dk_at dksL_law_0 4 rfl rfl)
theorem dL_law_7 : decode cL_law 7 = .ok (.astore_n 1, 1) := dk_76 (dk_at dksL_law_0 7 rfl rfl)
theorem dL_law_8 : decode cL_law 8 = .ok (.new 10, 3) := dk_187 0 10 (dk_at dksL_law_0 8 rfl rfl)
theorem dL_law_11 : decode cL_law 11 = .ok (.dup, 1) := dk_89 (dk_at dksL_law_0 11 rfl rfl)
theorem dL_law_12 : decode cL_law 12 = .ok (.invokespecial 12, 3) := dk_183 0 12 (dk_at dksL_law_0 12 rfl rfl)
theorem dL_law_15 : decode cL_law 15 = .ok (.astore_n 2, 1) := dk_77 (dk_at dksL_law_0 15 rfl rfl)
theorem dL_law_16 : decode cL_law 16 = .ok (.iconst 0, 1) := dk_3 (dk_at dksL_law_0 16 rfl rfl)
theorem dL_law_17 : decode cL_law 17 = .ok (.istore_n 3, 1) := dk_62 (dk_at dksL_law_0 17 rfl rfl)
theorem dL_law_18 : decode cL_law 18 = .ok (.iload_n 3, 1) := dk_29 (dk_at dksL_law_0 18 rfl rfl)
theorem dL_law_19 : decode cL_law 19 = .ok (.aload_n 0, 1) := dk_42 (dk_at dksL_law_0 19 rfl rfl)
theorem dL_law_20 : decode cL_law 20 = .ok (.arraylength, 1) := dk_190 (dk_at dksL_law_0 20 rfl rfl)
theorem dL_law_21 : decode cL_law 21 = .ok (.bipush 6, 2) := dk_16 6 (dk_at dksL_law_0 21 rfl rfl)
theorem dL_law_23 : decode cL_law 23 = .ok (.isub, 1) := dk_100 (dk_at dksL_law_0 23 rfl rfl)
theorem dL_law_24 : decode cL_law 24 = .ok (.if_icmp .gt 1507, 3) := dk_163 5 227 (dk_at dksL_law_1 0 rfl rfl)
theorem dL_law_27 : decode cL_law 27 = .ok (.aload_n 0, 1) := dk_42 (dk_at dksL_law_1 3 rfl rfl)
theorem dL_law_28 : decode cL_law 28 = .ok (.iload_n 3, 1) := dk_29 (dk_at dksL_law_1 4 rfl rfl)
theorem dL_law_29 : decode cL_law 29 = .ok (.iaload, 1) := dk_46 (dk_at dksL_law_1 5 rfl rfl)
theorem dL_law_30 : decode cL_law 30 = .ok (.bipush 63, 2) := dk_16 63 (dk_at dksL_law_1 6 rfl rfl)
theorem dL_law_32 : decode cL_law 32 = .ok (.iand, 1) := dk_126 (dk_at dksL_law_1 8 rfl rfl)
theorem dL_law_33 : decode cL_law 33 = .ok (.tableswitch 1492 0 40 #[179, 212, 255, 298, 331, 354, 387, 420, 453, 486, 549, 572, 625, 648, 681, 724, 747, 770, 783, 826, 869, 912, 945, 958, 991, 1014, 1057, 1100, 1123, 1166, 1189, 1232, 1275, 1338, 1361, 1384, 1397, 1410, 1433, 1446, 1469], 179) := by decide +kernel
theorem dL_law_212 : decode cL_law 212 = .ok (.aload_n 1, 1) := dk_43 (dk_at dksL_law_3 0 rfl rfl)
theorem dL_law_213 : decode cL_law 213 = .ok (.aload_n 0, 1) := dk_42 (dk_at dksL_law_3 1 rfl rfl)
theorem dL_law_214 : decode cL_law 214 = .ok (.iload_n 3, 1) := dk_29 (dk_at dksL_law_3 2 rfl rfl)
theorem dL_law_215 : decode cL_law 215 = .ok (.iconst 1, 1) := dk_4 (dk_at dksL_law_3 3 rfl rfl)
theorem dL_law_216 : decode cL_law 216 = .ok (.iadd, 1) := dk_96 (dk_at dksL_law_3 4 rfl rfl)
theorem dL_law_217 : decode cL_law 217 = .ok (.iaload, 1) := dk_46 (dk_at dksL_law_3 5 rfl rfl)
theorem dL_law_218 : decode cL_law 218 = .ok (.aload_n 0, 1) := dk_42 (dk_at dksL_law_3 6 rfl rfl)
theorem dL_law_219 : decode cL_law 219 = .ok (.iload_n 3, 1) := dk_29 (dk_at dksL_law_3 7 rfl rfl)
theorem dL_law_220 : decode cL_law 220 = .ok (.iconst 2, 1) := dk_5 (dk_at dksL_law_3 8 rfl rfl)
theorem dL_law_221 : decode cL_law 221 = .ok (.iadd, 1) := dk_96 (dk_at dksL_law_3 9 rfl rfl)
theorem dL_law_222 : decode cL_law 222 = .ok (.iaload, 1) := dk_46 (dk_at dksL_law_3 10 rfl rfl)
theorem dL_law_223 : decode cL_law 223 = .ok (.invokevirtual 13, 3) := dk_182 0 13 (dk_at dksL_law_3 11 rfl rfl)
theorem dL_law_226 : decode cL_law 226 = .ok (.aload_n 2, 1) := dk_44 (dk_at dksL_law_3 14 rfl rfl)
theorem dL_law_227 : decode cL_law 227 = .ok (.aload_n 0, 1) := dk_42 (dk_at dksL_law_3 15 rfl rfl)
theorem dL_law_228 : decode cL_law 228 = .ok (.iload_n 3, 1) := dk_29 (dk_at dksL_law_3 16 rfl rfl)
theorem dL_law_229 : decode cL_law 229 = .ok (.iconst 1, 1) := dk_4 (dk_at dksL_law_3 17 rfl rfl)
theorem dL_law_230 : decode cL_law 230 = .ok (.iadd, 1) := dk_96 (dk_at dksL_law_3 18 rfl rfl)
theorem dL_law_231 : decode cL_law 231 = .ok (.iaload, 1) := dk_46 (dk_at dksL_law_3 19 rfl rfl)
theorem dL_law_232 : decode cL_law 232 = .ok (.aload_n 0, 1) := dk_42 (dk_at dksL_law_3 20 rfl rfl)
theorem dL_law_233 : decode cL_law 233 = .ok (.iload_n 3, 1) := dk_29 (dk_at dksL_law_3 21 rfl rfl)
theorem dL_law_234 : decode cL_law 234 = .ok (.iconst 2, 1) := dk_5 (dk_at dksL_law_3 22 rfl rfl)
theorem dL_law_235 : decode cL_law 235 = .ok (.iadd, 1) := dk_96 (dk_at dksL_law_3 23 rfl rfl)
theorem dL_law_236 : decode cL_law 236 = .ok (.iaload, 1) := dk_46 (dk_at dksL_law_4 0 rfl rfl)
theorem dL_law_237 : decode cL_law 237 = .ok (.invokevirtual 17, 3) := dk_182 0 17 (dk_at dksL_law_4 1 rfl rfl)
theorem dL_law_240 : decode cL_law 240 = .ok (.if_icmp .eq 1285, 3) := dk_159 5 5 (dk_at dksL_law_4 4 rfl rfl)
theorem dL_law_243 : decode cL_law 243 = .ok (.iconst 0, 1) := dk_3 (dk_at dksL_law_4 7 rfl rfl)
theorem dL_law_244 : decode cL_law 244 = .ok (.ireturn, 1) := dk_172 (dk_at dksL_law_4 8 rfl rfl)
theorem dL_law_245 : decode cL_law 245 = .ok (.aload_n 1, 1) := dk_43 (dk_at dksL_law_4 9 rfl rfl)
theorem dL_law_246 : decode cL_law 246 = .ok (.aload_n 0, 1) := dk_42 (dk_at dksL_law_4 10 rfl rfl)
theorem dL_law_247 : decode cL_law 247 = .ok (.iload_n 3, 1) := dk_29 (dk_at dksL_law_4 11 rfl rfl)
theorem dL_law_248 : decode cL_law 248 = .ok (.iconst 1, 1) := dk_4 (dk_at dksL_law_4 12 rfl rfl)
theorem dL_law_249 : decode cL_law 249 = .ok (.iadd, 1) := dk_96 (dk_at dksL_law_4 13 rfl rfl)
theorem dL_law_250 : decode cL_law 250 = .ok (.iaload, 1) := dk_46 (dk_at dksL_law_4 14 rfl rfl)
theorem dL_law_251 : decode cL_law 251 = .ok (.aload_n 0, 1) := dk_42 (dk_at dksL_law_4 15 rfl rfl)
theorem dL_law_252 : decode cL_law 252 = .ok (.iload_n 3, 1) := dk_29 (dk_at dksL_law_4 16 rfl rfl)
theorem dL_law_253 : decode cL_law 253 = .ok (.iconst 2, 1) := dk_5 (dk_at dksL_law_4 17 rfl rfl)
theorem dL_law_254 : decode cL_law 254 = .ok (.iadd, 1) := dk_96 (dk_at dksL_law_4 18 rfl rfl)
theorem dL_law_255 : decode cL_law 255 = .ok (.iaload, 1) := dk_46 (dk_at dksL_law_4 19 rfl rfl)
theorem dL_law_256 : decode cL_law 256 = .ok (.aload_n 0, 1) := dk_42 (dk_at dksL_law_4 20 rfl rfl)
theorem dL_law_257 : decode cL_law 257 = .ok (.iload_n 3, 1) := dk_29 (dk_at dksL_law_4 21 rfl rfl)
theorem dL_law_258 : decode cL_law 258 = .ok (.iconst 3, 1) := dk_6 (dk_at dksL_law_4 22 rfl rfl)
theorem dL_law_259 : decode cL_law 259 = .ok (.iadd, 1) := dk_96 (dk_at dksL_law_4 23 rfl rfl)
theorem dL_law_260 : decode cL_law 260 = .ok (.iaload, 1) := dk_46 (dk_at dksL_law_5 0 rfl rfl)
theorem dL_law_261 : decode cL_law 261 = .ok (.invokevirtual 18, 3) := dk_182 0 18 (dk_at dksL_law_5 1 rfl rfl)
theorem dL_law_264 : decode cL_law 264 = .ok (.aload_n 2, 1) := dk_44 (dk_at dksL_law_5 4 rfl rfl)
theorem dL_law_265 : decode cL_law 265 = .ok (.aload_n 0, 1) := dk_42 (dk_at dksL_law_5 5 rfl rfl)
theorem dL_law_266 : decode cL_law 266 = .ok (.iload_n 3, 1) := dk_29 (dk_at dksL_law_5 6 rfl rfl)
theorem dL_law_267 : decode cL_law 267 = .ok (.iconst 1, 1) := dk_4 (dk_at dksL_law_5 7 rfl rfl)
theorem dL_law_268 : decode cL_law 268 = .ok (.iadd, 1) := dk_96 (dk_at dksL_law_5 8 rfl rfl)
theorem dL_law_269 : decode cL_law 269 = .ok (.iaload, 1) := dk_46 (dk_at dksL_law_5 9 rfl rfl)
theorem dL_law_270 : decode cL_law 270 = .ok (.aload_n 0, 1) := dk_42 (dk_at dksL_law_5 10 rfl rfl)
theorem dL_law_271 : decode cL_law 271 = .ok (.iload_n 3, 1) := dk_29 (dk_at dksL_law_5 11 rfl rfl)
theorem dL_law_272 : decode cL_law 272 = .ok (.iconst 2, 1) := dk_5 (dk_at dksL_law_5 12 rfl rfl)
theorem dL_law_273 : decode cL_law 273 = .ok (.iadd, 1) := dk_96 (dk_at dksL_law_5 13 rfl rfl)
theorem dL_law_274 : decode cL_law 274 = .ok (.iaload, 1) := dk_46 (dk_at dksL_law_5 14 rfl rfl)
theorem dL_law_275 : decode cL_law 275 = .ok (.aload_n 0, 1) := dk_42 (dk_at dksL_law_5 15 rfl rfl)
theorem dL_law_276 : decode cL_law 276 = .ok (.iload_n 3, 1) := dk_29 (dk_at dksL_law_5 16 rfl rfl)
theorem dL_law_277 : decode cL_law 277 = .ok (.iconst 3, 1) := dk_6 (dk_at dksL_law_5 17 rfl rfl)
theorem dL_law_278 : decode cL_law 278 = .ok (.iadd, 1) := dk_96 (dk_at dksL_law_5 18 rfl rfl)
theorem dL_law_279 : decode cL_law 279 = .ok (.iaload, 1) := dk_46 (dk_at dksL_law_5 19 rfl rfl)
theorem dL_law_280 : decode cL_law 280 = .ok (.invokevirtual 22, 3) := dk_182 0 22 (dk_at dksL_law_5 20 rfl rfl)
theorem dL_law_283 : decode cL_law 283 = .ok (.if_icmp .eq 1242, 3) := dk_159 4 218 (dk_at dksL_law_6 0 rfl rfl)
theorem dL_law_286 : decode cL_law 286 = .ok (.iconst 0, 1) := dk_3 (dk_at dksL_law_6 3 rfl rfl)
theorem dL_law_287 : decode cL_law 287 = .ok (.ireturn, 1) := dk_172 (dk_at dksL_law_6 4 rfl rfl)
theorem dL_law_288 : decode cL_law 288 = .ok (.aload_n 1, 1) := dk_43 (dk_at dksL_law_6 5 rfl rfl)
theorem dL_law_289 : decode cL_law 289 = .ok (.aload_n 0, 1) := dk_42 (dk_at dksL_law_6 6 rfl rfl)
theorem dL_law_290 : decode cL_law 290 = .ok (.iload_n 3, 1) := dk_29 (dk_at dksL_law_6 7 rfl rfl)
theorem dL_law_291 : decode cL_law 291 = .ok (.iconst 1, 1) := dk_4 (dk_at dksL_law_6 8 rfl rfl)
theorem dL_law_292 : decode cL_law 292 = .ok (.iadd, 1) := dk_96 (dk_at dksL_law_6 9 rfl rfl)
theorem dL_law_293 : decode cL_law 293 = .ok (.iaload, 1) := dk_46 (dk_at dksL_law_6 10 rfl rfl)
theorem dL_law_294 : decode cL_law 294 = .ok (.aload_n 0, 1) := dk_42 (dk_at dksL_law_6 11 rfl rfl)
theorem dL_law_295 : decode cL_law 295 = .ok (.iload_n 3, 1) := dk_29 (dk_at dksL_law_6 12 rfl rfl)
theorem dL_law_296 : decode cL_law 296 = .ok (.iconst 2, 1) := dk_5 (dk_at dksL_law_6 13 rfl rfl)
theorem dL_law_297 : decode cL_law 297 = .ok (.iadd, 1) := dk_96 (dk_at dksL_law_6 14 rfl rfl)
theorem dL_law_298 : decode cL_law 298 = .ok (.iaload, 1) := dk_46 (dk_at dksL_law_6 15 rfl rfl)
theorem dL_law_299 : decode cL_law 299 = .ok (.aload_n 0, 1) := dk_42 (dk_at dksL_law_6 16 rfl rfl)
theorem dL_law_300 : decode cL_law 300 = .ok (.iload_n 3, 1) := dk_29 (dk_at dksL_law_6 17 rfl rfl)
theorem dL_law_301 : decode cL_law 301 = .ok (.iconst 3, 1) := dk_6 (dk_at dksL_law_6 18 rfl rfl)
theorem dL_law_302 : decode cL_law 302 = .ok (.iadd, 1) := dk_96 (dk_at dksL_law_6 19 rfl rfl)
theorem dL_law_303 : decode cL_law 303 = .ok (.iaload, 1) := dk_46 (dk_at dksL_law_6 20 rfl rfl)
theorem dL_law_304 : decode cL_law 304 = .ok (.invokevirtual 23, 3) := dk_182 0 23 (dk_at dksL_law_6 21 rfl rfl)
theorem dL_law_307 : decode cL_law 307 = .ok (.aload_n 2, 1) := dk_44 (dk_at dksL_law_7 0 rfl rfl)
theorem dL_law_308 : decode cL_law 308 = .ok (.aload_n 0, 1) := dk_42 (dk_at dksL_law_7 1 rfl rfl)
theorem dL_law_309 : decode cL_law 309 = .ok (.iload_n 3, 1) := dk_29 (dk_at dksL_law_7 2 rfl rfl)
theorem dL_law_310 : decode cL_law 310 = .ok (.iconst 1, 1) := dk_4 (dk_at dksL_law_7 3 rfl rfl)
theorem dL_law_311 : decode cL_law 311 = .ok (.iadd, 1) := dk_96 (dk_at dksL_law_7 4 rfl rfl)
theorem dL_law_312 : decode cL_law 312 = .ok (.iaload, 1) := dk_46 (dk_at dksL_law_7 5 rfl rfl)
theorem dL_law_313 : decode cL_law 313 = .ok (.aload_n 0, 1) := dk_42 (dk_at dksL_law_7 6 rfl rfl)
theorem dL_law_314 : decode cL_law 314 = .ok (.iload_n 3, 1) := dk_29 (dk_at dksL_law_7 7 rfl rfl)
theorem dL_law_315 : decode cL_law 315 = .ok (.iconst 2, 1) := dk_5 (dk_at dksL_law_7 8 rfl rfl)
theorem dL_law_316 : decode cL_law 316 = .ok (.iadd, 1) := dk_96 (dk_at dksL_law_7 9 rfl rfl)
theorem dL_law_317 : decode cL_law 317 = .ok (.iaload, 1) := dk_46 (dk_at dksL_law_7 10 rfl rfl)
theorem dL_law_318 : decode cL_law 318 = .ok (.aload_n 0, 1) := dk_42 (dk_at dksL_law_7 11 rfl rfl)
theorem dL_law_319 : decode cL_law 319 = .ok (.iload_n 3, 1) := dk_29 (dk_at dksL_law_7 12 rfl rfl)
theorem dL_law_320 : decode cL_law 320 = .ok (.iconst 3, 1) := dk_6 (dk_at dksL_law_7 13 rfl rfl)
theorem dL_law_321 : decode cL_law 321 = .ok (.iadd, 1) := dk_96 (dk_at dksL_law_7 14 rfl rfl)
theorem dL_law_322 : decode cL_law 322 = .ok (.iaload, 1) := dk_46 (dk_at dksL_law_7 15 rfl rfl)
theorem dL_law_323 : decode cL_law 323 = .ok (.invokevirtual 26, 3) := dk_182 0 26 (dk_at dksL_law_7 16 rfl rfl)
theorem dL_law_326 : decode cL_law 326 = .ok (.if_icmp .eq 1199, 3) := dk_159 4 175 (dk_at dksL_law_7 19 rfl rfl)
theorem dL_law_329 : decode cL_law 329 = .ok (.iconst 0, 1) := dk_3 (dk_at dksL_law_7 22 rfl rfl)
theorem dL_law_330 : decode cL_law 330 = .ok (.ireturn, 1) := dk_172 (dk_at dksL_law_7 23 rfl rfl)
theorem dL_law_331 : decode cL_law 331 = .ok (.aload_n 1, 1) := dk_43 (dk_at dksL_law_8 0 rfl rfl)
theorem dL_law_332 : decode cL_law 332 = .ok (.aload_n 0, 1) := dk_42 (dk_at dksL_law_8 1 rfl rfl)
theorem dL_law_333 : decode cL_law 333 = .ok (.iload_n 3, 1) := dk_29 (dk_at dksL_law_8 2 rfl rfl)
theorem dL_law_334 : decode cL_law 334 = .ok (.iconst 1, 1) := dk_4 (dk_at dksL_law_8 3 rfl rfl)
theorem dL_law_335 : decode cL_law 335 = .ok (.iadd, 1) := dk_96 (dk_at dksL_law_8 4 rfl rfl)
theorem dL_law_336 : decode cL_law 336 = .ok (.iaload, 1) := dk_46 (dk_at dksL_law_8 5 rfl rfl)
theorem dL_law_337 : decode cL_law 337 = .ok (.aload_n 0, 1) := dk_42 (dk_at dksL_law_8 6 rfl rfl)
theorem dL_law_338 : decode cL_law 338 = .ok (.iload_n 3, 1) := dk_29 (dk_at dksL_law_8 7 rfl rfl)
theorem dL_law_339 : decode cL_law 339 = .ok (.iconst 2, 1) := dk_5 (dk_at dksL_law_8 8 rfl rfl)
theorem dL_law_340 : decode cL_law 340 = .ok (.iadd, 1) := dk_96 (dk_at dksL_law_8 9 rfl rfl)
theorem dL_law_341 : decode cL_law 341 = .ok (.iaload, 1) := dk_46 (dk_at dksL_law_8 10 rfl rfl)
theorem dL_law_342 : decode cL_law 342 = .ok (.invokevirtual 27, 3) := dk_182 0 27 (dk_at dksL_law_8 11 rfl rfl)
theorem dL_law_345 : decode cL_law 345 = .ok (.aload_n 2, 1) := dk_44 (dk_at dksL_law_8 14 rfl rfl)
theorem dL_law_346 : decode cL_law 346 = .ok (.aload_n 0, 1) := dk_42 (dk_at dksL_law_8 15 rfl rfl)
theorem dL_law_347 : decode cL_law 347 = .ok (.iload_n 3, 1) := dk_29 (dk_at dksL_law_8 16 rfl rfl)
theorem dL_law_348 : decode cL_law 348 = .ok (.iconst 1, 1) := dk_4 (dk_at dksL_law_8 17 rfl rfl)
theorem dL_law_349 : decode cL_law 349 = .ok (.iadd, 1) := dk_96 (dk_at dksL_law_8 18 rfl rfl)
theorem dL_law_350 : decode cL_law 350 = .ok (.iaload, 1) := dk_46 (dk_at dksL_law_8 19 rfl rfl)
theorem dL_law_351 : decode cL_law 351 = .ok (.aload_n 0, 1) := dk_42 (dk_at dksL_law_8 20 rfl rfl)
theorem dL_law_352 : decode cL_law 352 = .ok (.iload_n 3, 1) := dk_29 (dk_at dksL_law_8 21 rfl rfl)
theorem dL_law_353 : decode cL_law 353 = .ok (.iconst 2, 1) := dk_5 (dk_at dksL_law_8 22 rfl rfl)
theorem dL_law_354 : decode cL_law 354 = .ok (.iadd, 1) := dk_96 (dk_at dksL_law_8 23 rfl rfl)
theorem dL_law_355 : decode cL_law 355 = .ok (.iaload, 1) := dk_46 (dk_at dksL_law_9 0 rfl rfl)
theorem dL_law_356 : decode cL_law 356 = .ok (.invokevirtual 30, 3) := dk_182 0 30 (dk_at dksL_law_9 1 rfl rfl)
theorem dL_law_359 : decode cL_law 359 = .ok (.if_icmp .eq 1166, 3) := dk_159 4 142 (dk_at dksL_law_9 4 rfl rfl)
theorem dL_law_362 : decode cL_law 362 = .ok (.iconst 0, 1) := dk_3 (dk_at dksL_law_9 7 rfl rfl)
theorem dL_law_363 : decode cL_law 363 = .ok (.ireturn, 1) := dk_172 (dk_at dksL_law_9 8 rfl rfl)
theorem dL_law_364 : decode cL_law 364 = .ok (.aload_n 1, 1) := dk_43 (dk_at dksL_law_9 9 rfl rfl)
theorem dL_law_365 : decode cL_law 365 = .ok (.aload_n 0, 1) := dk_42 (dk_at dksL_law_9 10 rfl rfl)
theorem dL_law_366 : decode cL_law 366 = .ok (.iload_n 3, 1) := dk_29 (dk_at dksL_law_9 11 rfl rfl)
theorem dL_law_367 : decode cL_law 367 = .ok (.iconst 1, 1) := dk_4 (dk_at dksL_law_9 12 rfl rfl)
theorem dL_law_368 : decode cL_law 368 = .ok (.iadd, 1) := dk_96 (dk_at dksL_law_9 13 rfl rfl)
theorem dL_law_369 : decode cL_law 369 = .ok (.iaload, 1) := dk_46 (dk_at dksL_law_9 14 rfl rfl)
theorem dL_law_370 : decode cL_law 370 = .ok (.invokevirtual 31, 3) := dk_182 0 31 (dk_at dksL_law_9 15 rfl rfl)
theorem dL_law_373 : decode cL_law 373 = .ok (.aload_n 2, 1) := dk_44 (dk_at dksL_law_9 18 rfl rfl)
theorem dL_law_374 : decode cL_law 374 = .ok (.aload_n 0, 1) := dk_42 (dk_at dksL_law_9 19 rfl rfl)
theorem dL_law_375 : decode cL_law 375 = .ok (.iload_n 3, 1) := dk_29 (dk_at dksL_law_9 20 rfl rfl)
theorem dL_law_376 : decode cL_law 376 = .ok (.iconst 1, 1) := dk_4 (dk_at dksL_law_9 21 rfl rfl)
theorem dL_law_377 : decode cL_law 377 = .ok (.iadd, 1) := dk_96 (dk_at dksL_law_9 22 rfl rfl)
theorem dL_law_378 : decode cL_law 378 = .ok (.iaload, 1) := dk_46 (dk_at dksL_law_9 23 rfl rfl)
theorem dL_law_379 : decode cL_law 379 = .ok (.invokevirtual 35, 3) := dk_182 0 35 (dk_at dksL_law_10 0 rfl rfl)
theorem dL_law_382 : decode cL_law 382 = .ok (.if_icmp .eq 1143, 3) := dk_159 4 119 (dk_at dksL_law_10 3 rfl rfl)
theorem dL_law_385 : decode cL_law 385 = .ok (.iconst 0, 1) := dk_3 (dk_at dksL_law_10 6 rfl rfl)
theorem dL_law_386 : decode cL_law 386 = .ok (.ireturn, 1) := dk_172 (dk_at dksL_law_10 7 rfl rfl)
theorem dL_law_387 : decode cL_law 387 = .ok (.aload_n 1, 1) := dk_43 (dk_at dksL_law_10 8 rfl rfl)
theorem dL_law_388 : decode cL_law 388 = .ok (.aload_n 0, 1) := dk_42 (dk_at dksL_law_10 9 rfl rfl)
theorem dL_law_389 : decode cL_law 389 = .ok (.iload_n 3, 1) := dk_29 (dk_at dksL_law_10 10 rfl rfl)
theorem dL_law_390 : decode cL_law 390 = .ok (.iconst 1, 1) := dk_4 (dk_at dksL_law_10 11 rfl rfl)
theorem dL_law_391 : decode cL_law 391 = .ok (.iadd, 1) := dk_96 (dk_at dksL_law_10 12 rfl rfl)
theorem dL_law_392 : decode cL_law 392 = .ok (.iaload, 1) := dk_46 (dk_at dksL_law_10 13 rfl rfl)
theorem dL_law_393 : decode cL_law 393 = .ok (.aload_n 0, 1) := dk_42 (dk_at dksL_law_10 14 rfl rfl)
theorem dL_law_394 : decode cL_law 394 = .ok (.iload_n 3, 1) := dk_29 (dk_at dksL_law_10 15 rfl rfl)
theorem dL_law_395 : decode cL_law 395 = .ok (.iconst 2, 1) := dk_5 (dk_at dksL_law_10 16 rfl rfl)
theorem dL_law_396 : decode cL_law 396 = .ok (.iadd, 1) := dk_96 (dk_at dksL_law_10 17 rfl rfl)
theorem dL_law_397 : decode cL_law 397 = .ok (.iaload, 1) := dk_46 (dk_at dksL_law_10 18 rfl rfl)
theorem dL_law_398 : decode cL_law 398 = .ok (.invokevirtual 36, 3) := dk_182 0 36 (dk_at dksL_law_10 19 rfl rfl)
theorem dL_law_401 : decode cL_law 401 = .ok (.aload_n 2, 1) := dk_44 (dk_at dksL_law_10 22 rfl rfl)
theorem dL_law_402 : decode cL_law 402 = .ok (.aload_n 0, 1) := dk_42 (dk_at dksL_law_10 23 rfl rfl)
theorem dL_law_403 : decode cL_law 403 = .ok (.iload_n 3, 1) := dk_29 (dk_at dksL_law_11 0 rfl rfl)
theorem dL_law_404 : decode cL_law 404 = .ok (.iconst 1, 1) := dk_4 (dk_at dksL_law_11 1 rfl rfl)
theorem dL_law_405 : decode cL_law 405 = .ok (.iadd, 1) := dk_96 (dk_at dksL_law_11 2 rfl rfl)
theorem dL_law_406 : decode cL_law 406 = .ok (.iaload, 1) := dk_46 (dk_at dksL_law_11 3 rfl rfl)
theorem dL_law_407 : decode cL_law 407 = .ok (.aload_n 0, 1) := dk_42 (dk_at dksL_law_11 4 rfl rfl)
theorem dL_law_408 : decode cL_law 408 = .ok (.iload_n 3, 1) := dk_29 (dk_at dksL_law_11 5 rfl rfl)
theorem dL_law_409 : decode cL_law 409 = .ok (.iconst 2, 1) := dk_5 (dk_at dksL_law_11 6 rfl rfl)
theorem dL_law_410 : decode cL_law 410 = .ok (.iadd, 1) := dk_96 (dk_at dksL_law_11 7 rfl rfl)
theorem dL_law_411 : decode cL_law 411 = .ok (.iaload, 1) := dk_46 (dk_at dksL_law_11 8 rfl rfl)
theorem dL_law_412 : decode cL_law 412 = .ok (.invokevirtual 39, 3) := dk_182 0 39 (dk_at dksL_law_11 9 rfl rfl)
theorem dL_law_415 : decode cL_law 415 = .ok (.if_icmp .eq 1110, 3) := dk_159 4 86 (dk_at dksL_law_11 12 rfl rfl)
theorem dL_law_418 : decode cL_law 418 = .ok (.iconst 0, 1) := dk_3 (dk_at dksL_law_11 15 rfl rfl)
theorem dL_law_419 : decode cL_law 419 = .ok (.ireturn, 1) := dk_172 (dk_at dksL_law_11 16 rfl rfl)
theorem dL_law_420 : decode cL_law 420 = .ok (.aload_n 1, 1) := dk_43 (dk_at dksL_law_11 17 rfl rfl)
theorem dL_law_421 : decode cL_law 421 = .ok (.aload_n 0, 1) := dk_42 (dk_at dksL_law_11 18 rfl rfl)
theorem dL_law_422 : decode cL_law 422 = .ok (.iload_n 3, 1) := dk_29 (dk_at dksL_law_11 19 rfl rfl)
theorem dL_law_423 : decode cL_law 423 = .ok (.iconst 1, 1) := dk_4 (dk_at dksL_law_11 20 rfl rfl)
theorem dL_law_424 : decode cL_law 424 = .ok (.iadd, 1) := dk_96 (dk_at dksL_law_11 21 rfl rfl)
theorem dL_law_425 : decode cL_law 425 = .ok (.iaload, 1) := dk_46 (dk_at dksL_law_11 22 rfl rfl)
theorem dL_law_426 : decode cL_law 426 = .ok (.aload_n 0, 1) := dk_42 (dk_at dksL_law_11 23 rfl rfl)
theorem dL_law_427 : decode cL_law 427 = .ok (.iload_n 3, 1) := dk_29 (dk_at dksL_law_12 0 rfl rfl)
theorem dL_law_428 : decode cL_law 428 = .ok (.iconst 2, 1) := dk_5 (dk_at dksL_law_12 1 rfl rfl)
theorem dL_law_429 : decode cL_law 429 = .ok (.iadd, 1) := dk_96 (dk_at dksL_law_12 2 rfl rfl)
theorem dL_law_430 : decode cL_law 430 = .ok (.iaload, 1) := dk_46 (dk_at dksL_law_12 3 rfl rfl)
theorem dL_law_431 : decode cL_law 431 = .ok (.invokevirtual 40, 3) := dk_182 0 40 (dk_at dksL_law_12 4 rfl rfl)
theorem dL_law_434 : decode cL_law 434 = .ok (.aload_n 2, 1) := dk_44 (dk_at dksL_law_12 7 rfl rfl)
theorem dL_law_435 : decode cL_law 435 = .ok (.aload_n 0, 1) := dk_42 (dk_at dksL_law_12 8 rfl rfl)
theorem dL_law_436 : decode cL_law 436 = .ok (.iload_n 3, 1) := dk_29 (dk_at dksL_law_12 9 rfl rfl)
theorem dL_law_437 : decode cL_law 437 = .ok (.iconst 1, 1) := dk_4 (dk_at dksL_law_12 10 rfl rfl)
theorem dL_law_438 : decode cL_law 438 = .ok (.iadd, 1) := dk_96 (dk_at dksL_law_12 11 rfl rfl)
theorem dL_law_439 : decode cL_law 439 = .ok (.iaload, 1) := dk_46 (dk_at dksL_law_12 12 rfl rfl)
theorem dL_law_440 : decode cL_law 440 = .ok (.aload_n 0, 1) := dk_42 (dk_at dksL_law_12 13 rfl rfl)
theorem dL_law_441 : decode cL_law 441 = .ok (.iload_n 3, 1) := dk_29 (dk_at dksL_law_12 14 rfl rfl)
theorem dL_law_442 : decode cL_law 442 = .ok (.iconst 2, 1) := dk_5 (dk_at dksL_law_12 15 rfl rfl)
theorem dL_law_443 : decode cL_law 443 = .ok (.iadd, 1) := dk_96 (dk_at dksL_law_12 16 rfl rfl)
theorem dL_law_444 : decode cL_law 444 = .ok (.iaload, 1) := dk_46 (dk_at dksL_law_12 17 rfl rfl)
theorem dL_law_445 : decode cL_law 445 = .ok (.invokevirtual 43, 3) := dk_182 0 43 (dk_at dksL_law_12 18 rfl rfl)
theorem dL_law_448 : decode cL_law 448 = .ok (.if_icmp .eq 1077, 3) := dk_159 4 53 (dk_at dksL_law_12 21 rfl rfl)
theorem dL_law_451 : decode cL_law 451 = .ok (.iconst 0, 1) := dk_3 (dk_at dksL_law_13 0 rfl rfl)
theorem dL_law_452 : decode cL_law 452 = .ok (.ireturn, 1) := dk_172 (dk_at dksL_law_13 1 rfl rfl)
theorem dL_law_453 : decode cL_law 453 = .ok (.aload_n 1, 1) := dk_43 (dk_at dksL_law_13 2 rfl rfl)
theorem dL_law_454 : decode cL_law 454 = .ok (.aload_n 0, 1) := dk_42 (dk_at dksL_law_13 3 rfl rfl)
theorem dL_law_455 : decode cL_law 455 = .ok (.iload_n 3, 1) := dk_29 (dk_at dksL_law_13 4 rfl rfl)
theorem dL_law_456 : decode cL_law 456 = .ok (.iconst 1, 1) := dk_4 (dk_at dksL_law_13 5 rfl rfl)
theorem dL_law_457 : decode cL_law 457 = .ok (.iadd, 1) := dk_96 (dk_at dksL_law_13 6 rfl rfl)
theorem dL_law_458 : decode cL_law 458 = .ok (.iaload, 1) := dk_46 (dk_at dksL_law_13 7 rfl rfl)
theorem dL_law_459 : decode cL_law 459 = .ok (.aload_n 0, 1) := dk_42 (dk_at dksL_law_13 8 rfl rfl)
theorem dL_law_460 : decode cL_law 460 = .ok (.iload_n 3, 1) := dk_29 (dk_at dksL_law_13 9 rfl rfl)
theorem dL_law_461 : decode cL_law 461 = .ok (.iconst 2, 1) := dk_5 (dk_at dksL_law_13 10 rfl rfl)
theorem dL_law_462 : decode cL_law 462 = .ok (.iadd, 1) := dk_96 (dk_at dksL_law_13 11 rfl rfl)
theorem dL_law_463 : decode cL_law 463 = .ok (.iaload, 1) := dk_46 (dk_at dksL_law_13 12 rfl rfl)
theorem dL_law_464 : decode cL_law 464 = .ok (.invokevirtual 44, 3) := dk_182 0 44 (dk_at dksL_law_13 13 rfl rfl)
theorem dL_law_467 : decode cL_law 467 = .ok (.aload_n 2, 1) := dk_44 (dk_at dksL_law_13 16 rfl rfl)
theorem dL_law_468 : decode cL_law 468 = .ok (.aload_n 0, 1) := dk_42 (dk_at dksL_law_13 17 rfl rfl)
theorem dL_law_469 : decode cL_law 469 = .ok (.iload_n 3, 1) := dk_29 (dk_at dksL_law_13 18 rfl rfl)
theorem dL_law_470 : decode cL_law 470 = .ok (.iconst 1, 1) := dk_4 (dk_at dksL_law_13 19 rfl rfl)
theorem dL_law_471 : decode cL_law 471 = .ok (.iadd, 1) := dk_96 (dk_at dksL_law_13 20 rfl rfl)
theorem dL_law_472 : decode cL_law 472 = .ok (.iaload, 1) := dk_46 (dk_at dksL_law_13 21 rfl rfl)
theorem dL_law_473 : decode cL_law 473 = .ok (.aload_n 0, 1) := dk_42 (dk_at dksL_law_13 22 rfl rfl)
theorem dL_law_474 : decode cL_law 474 = .ok (.iload_n 3, 1) := dk_29 (dk_at dksL_law_13 23 rfl rfl)
theorem dL_law_475 : decode cL_law 475 = .ok (.iconst 2, 1) := dk_5 (dk_at dksL_law_14 0 rfl rfl)
theorem dL_law_476 : decode cL_law 476 = .ok (.iadd, 1) := dk_96 (dk_at dksL_law_14 1 rfl rfl)
theorem dL_law_477 : decode cL_law 477 = .ok (.iaload, 1) := dk_46 (dk_at dksL_law_14 2 rfl rfl)
theorem dL_law_478 : decode cL_law 478 = .ok (.invokevirtual 47, 3) := dk_182 0 47 (dk_at dksL_law_14 3 rfl rfl)
theorem dL_law_481 : decode cL_law 481 = .ok (.if_icmp .eq 1044, 3) := dk_159 4 20 (dk_at dksL_law_14 6 rfl rfl)
theorem dL_law_484 : decode cL_law 484 = .ok (.iconst 0, 1) := dk_3 (dk_at dksL_law_14 9 rfl rfl)
theorem dL_law_485 : decode cL_law 485 = .ok (.ireturn, 1) := dk_172 (dk_at dksL_law_14 10 rfl rfl)
theorem dL_law_486 : decode cL_law 486 = .ok (.aload_n 1, 1) := dk_43 (dk_at dksL_law_14 11 rfl rfl)
theorem dL_law_487 : decode cL_law 487 = .ok (.aload_n 0, 1) := dk_42 (dk_at dksL_law_14 12 rfl rfl)
theorem dL_law_488 : decode cL_law 488 = .ok (.iload_n 3, 1) := dk_29 (dk_at dksL_law_14 13 rfl rfl)
theorem dL_law_489 : decode cL_law 489 = .ok (.iconst 1, 1) := dk_4 (dk_at dksL_law_14 14 rfl rfl)
theorem dL_law_490 : decode cL_law 490 = .ok (.iadd, 1) := dk_96 (dk_at dksL_law_14 15 rfl rfl)
theorem dL_law_491 : decode cL_law 491 = .ok (.iaload, 1) := dk_46 (dk_at dksL_law_14 16 rfl rfl)
theorem dL_law_492 : decode cL_law 492 = .ok (.aload_n 0, 1) := dk_42 (dk_at dksL_law_14 17 rfl rfl)
theorem dL_law_493 : decode cL_law 493 = .ok (.iload_n 3, 1) := dk_29 (dk_at dksL_law_14 18 rfl rfl)
theorem dL_law_494 : decode cL_law 494 = .ok (.iconst 2, 1) := dk_5 (dk_at dksL_law_14 19 rfl rfl)
theorem dL_law_495 : decode cL_law 495 = .ok (.iadd, 1) := dk_96 (dk_at dksL_law_14 20 rfl rfl)
theorem dL_law_496 : decode cL_law 496 = .ok (.iaload, 1) := dk_46 (dk_at dksL_law_14 21 rfl rfl)
theorem dL_law_497 : decode cL_law 497 = .ok (.invokevirtual 48, 3) := dk_182 0 48 (dk_at dksL_law_15 0 rfl rfl)
theorem dL_law_500 : decode cL_law 500 = .ok (.aload_n 2, 1) := dk_44 (dk_at dksL_law_15 3 rfl rfl)
theorem dL_law_501 : decode cL_law 501 = .ok (.aload_n 0, 1) := dk_42 (dk_at dksL_law_15 4 rfl rfl)
theorem dL_law_502 : decode cL_law 502 = .ok (.iload_n 3, 1) := dk_29 (dk_at dksL_law_15 5 rfl rfl)
theorem dL_law_503 : decode cL_law 503 = .ok (.iconst 1, 1) := dk_4 (dk_at dksL_law_15 6 rfl rfl)
theorem dL_law_504 : decode cL_law 504 = .ok (.iadd, 1) := dk_96 (dk_at dksL_law_15 7 rfl rfl)
theorem dL_law_505 : decode cL_law 505 = .ok (.iaload, 1) := dk_46 (dk_at dksL_law_15 8 rfl rfl)
theorem dL_law_506 : decode cL_law 506 = .ok (.aload_n 0, 1) := dk_42 (dk_at dksL_law_15 9 rfl rfl)
theorem dL_law_507 : decode cL_law 507 = .ok (.iload_n 3, 1) := dk_29 (dk_at dksL_law_15 10 rfl rfl)
theorem dL_law_508 : decode cL_law 508 = .ok (.iconst 2, 1) := dk_5 (dk_at dksL_law_15 11 rfl rfl)
theorem dL_law_509 : decode cL_law 509 = .ok (.iadd, 1) := dk_96 (dk_at dksL_law_15 12 rfl rfl)
theorem dL_law_510 : decode cL_law 510 = .ok (.iaload, 1) := dk_46 (dk_at dksL_law_15 13 rfl rfl)
theorem dL_law_511 : decode cL_law 511 = .ok (.invokevirtual 51, 3) := dk_182 0 51 (dk_at dksL_law_15 14 rfl rfl)
theorem dL_law_514 : decode cL_law 514 = .ok (.if_icmp .eq 1011, 3) := dk_159 3 243 (dk_at dksL_law_15 17 rfl rfl)
theorem dL_law_517 : decode cL_law 517 = .ok (.iconst 0, 1) := dk_3 (dk_at dksL_law_15 20 rfl rfl)
theorem dL_law_518 : decode cL_law 518 = .ok (.ireturn, 1) := dk_172 (dk_at dksL_law_15 21 rfl rfl)
theorem dL_law_519 : decode cL_law 519 = .ok (.aload_n 1, 1) := dk_43 (dk_at dksL_law_15 22 rfl rfl)
theorem dL_law_520 : decode cL_law 520 = .ok (.aload_n 0, 1) := dk_42 (dk_at dksL_law_15 23 rfl rfl)
theorem dL_law_521 : decode cL_law 521 = .ok (.iload_n 3, 1) := dk_29 (dk_at dksL_law_16 0 rfl rfl)
theorem dL_law_522 : decode cL_law 522 = .ok (.iconst 1, 1) := dk_4 (dk_at dksL_law_16 1 rfl rfl)
theorem dL_law_523 : decode cL_law 523 = .ok (.iadd, 1) := dk_96 (dk_at dksL_law_16 2 rfl rfl)
theorem dL_law_524 : decode cL_law 524 = .ok (.iaload, 1) := dk_46 (dk_at dksL_law_16 3 rfl rfl)
theorem dL_law_525 : decode cL_law 525 = .ok (.i2l, 1) := dk_133 (dk_at dksL_law_16 4 rfl rfl)
theorem dL_law_526 : decode cL_law 526 = .ok (.bipush 32, 2) := dk_16 32 (dk_at dksL_law_16 5 rfl rfl)
theorem dL_law_528 : decode cL_law 528 = .ok (.lshl, 1) := dk_121 (dk_at dksL_law_16 7 rfl rfl)
theorem dL_law_529 : decode cL_law 529 = .ok (.aload_n 0, 1) := dk_42 (dk_at dksL_law_16 8 rfl rfl)
theorem dL_law_530 : decode cL_law 530 = .ok (.iload_n 3, 1) := dk_29 (dk_at dksL_law_16 9 rfl rfl)
theorem dL_law_531 : decode cL_law 531 = .ok (.iconst 2, 1) := dk_5 (dk_at dksL_law_16 10 rfl rfl)
theorem dL_law_532 : decode cL_law 532 = .ok (.iadd, 1) := dk_96 (dk_at dksL_law_16 11 rfl rfl)
theorem dL_law_533 : decode cL_law 533 = .ok (.iaload, 1) := dk_46 (dk_at dksL_law_16 12 rfl rfl)
theorem dL_law_534 : decode cL_law 534 = .ok (.i2l, 1) := dk_133 (dk_at dksL_law_16 13 rfl rfl)
theorem dL_law_535 : decode cL_law 535 = .ok (.ldc2_w 52, 3) := dk_20 0 52 (dk_at dksL_law_16 14 rfl rfl)
theorem dL_law_538 : decode cL_law 538 = .ok (.land, 1) := dk_127 (dk_at dksL_law_16 17 rfl rfl)
theorem dL_law_539 : decode cL_law 539 = .ok (.lor, 1) := dk_129 (dk_at dksL_law_16 18 rfl rfl)
theorem dL_law_540 : decode cL_law 540 = .ok (.aload_n 0, 1) := dk_42 (dk_at dksL_law_16 19 rfl rfl)
theorem dL_law_541 : decode cL_law 541 = .ok (.iload_n 3, 1) := dk_29 (dk_at dksL_law_16 20 rfl rfl)
theorem dL_law_542 : decode cL_law 542 = .ok (.iconst 3, 1) := dk_6 (dk_at dksL_law_16 21 rfl rfl)
theorem dL_law_543 : decode cL_law 543 = .ok (.iadd, 1) := dk_96 (dk_at dksL_law_16 22 rfl rfl)
theorem dL_law_544 : decode cL_law 544 = .ok (.iaload, 1) := dk_46 (dk_at dksL_law_16 23 rfl rfl)
theorem dL_law_545 : decode cL_law 545 = .ok (.invokevirtual 54, 3) := dk_182 0 54 (dk_at dksL_law_17 0 rfl rfl)
theorem dL_law_548 : decode cL_law 548 = .ok (.aload_n 2, 1) := dk_44 (dk_at dksL_law_17 3 rfl rfl)
theorem dL_law_549 : decode cL_law 549 = .ok (.aload_n 0, 1) := dk_42 (dk_at dksL_law_17 4 rfl rfl)
theorem dL_law_550 : decode cL_law 550 = .ok (.iload_n 3, 1) := dk_29 (dk_at dksL_law_17 5 rfl rfl)
theorem dL_law_551 : decode cL_law 551 = .ok (.iconst 1, 1) := dk_4 (dk_at dksL_law_17 6 rfl rfl)
theorem dL_law_552 : decode cL_law 552 = .ok (.iadd, 1) := dk_96 (dk_at dksL_law_17 7 rfl rfl)
theorem dL_law_553 : decode cL_law 553 = .ok (.iaload, 1) := dk_46 (dk_at dksL_law_17 8 rfl rfl)
theorem dL_law_554 : decode cL_law 554 = .ok (.i2l, 1) := dk_133 (dk_at dksL_law_17 9 rfl rfl)
theorem dL_law_555 : decode cL_law 555 = .ok (.bipush 32, 2) := dk_16 32 (dk_at dksL_law_17 10 rfl rfl)
theorem dL_law_557 : decode cL_law 557 = .ok (.lshl, 1) := dk_121 (dk_at dksL_law_17 12 rfl rfl)
theorem dL_law_558 : decode cL_law 558 = .ok (.aload_n 0, 1) := dk_42 (dk_at dksL_law_17 13 rfl rfl)
theorem dL_law_559 : decode cL_law 559 = .ok (.iload_n 3, 1) := dk_29 (dk_at dksL_law_17 14 rfl rfl)
theorem dL_law_560 : decode cL_law 560 = .ok (.iconst 2, 1) := dk_5 (dk_at dksL_law_17 15 rfl rfl)
theorem dL_law_561 : decode cL_law 561 = .ok (.iadd, 1) := dk_96 (dk_at dksL_law_17 16 rfl rfl)
theorem dL_law_562 : decode cL_law 562 = .ok (.iaload, 1) := dk_46 (dk_at dksL_law_17 17 rfl rfl)
theorem dL_law_563 : decode cL_law 563 = .ok (.i2l, 1) := dk_133 (dk_at dksL_law_17 18 rfl rfl)
theorem dL_law_564 : decode cL_law 564 = .ok (.ldc2_w 52, 3) := dk_20 0 52 (dk_at dksL_law_17 19 rfl rfl)
theorem dL_law_567 : decode cL_law 567 = .ok (.land, 1) := dk_127 (dk_at dksL_law_17 22 rfl rfl)
theorem dL_law_568 : decode cL_law 568 = .ok (.lor, 1) := dk_129 (dk_at dksL_law_17 23 rfl rfl)
theorem dL_law_569 : decode cL_law 569 = .ok (.aload_n 0, 1) := dk_42 (dk_at dksL_law_18 0 rfl rfl)
theorem dL_law_570 : decode cL_law 570 = .ok (.iload_n 3, 1) := dk_29 (dk_at dksL_law_18 1 rfl rfl)
theorem dL_law_571 : decode cL_law 571 = .ok (.iconst 3, 1) := dk_6 (dk_at dksL_law_18 2 rfl rfl)
theorem dL_law_572 : decode cL_law 572 = .ok (.iadd, 1) := dk_96 (dk_at dksL_law_18 3 rfl rfl)
theorem dL_law_573 : decode cL_law 573 = .ok (.iaload, 1) := dk_46 (dk_at dksL_law_18 4 rfl rfl)
theorem dL_law_574 : decode cL_law 574 = .ok (.invokevirtual 58, 3) := dk_182 0 58 (dk_at dksL_law_18 5 rfl rfl)
theorem dL_law_577 : decode cL_law 577 = .ok (.if_icmp .eq 948, 3) := dk_159 3 180 (dk_at dksL_law_18 8 rfl rfl)
theorem dL_law_580 : decode cL_law 580 = .ok (.iconst 0, 1) := dk_3 (dk_at dksL_law_18 11 rfl rfl)
theorem dL_law_581 : decode cL_law 581 = .ok (.ireturn, 1) := dk_172 (dk_at dksL_law_18 12 rfl rfl)
theorem dL_law_582 : decode cL_law 582 = .ok (.aload_n 1, 1) := dk_43 (dk_at dksL_law_18 13 rfl rfl)
theorem dL_law_583 : decode cL_law 583 = .ok (.aload_n 0, 1) := dk_42 (dk_at dksL_law_18 14 rfl rfl)
theorem dL_law_584 : decode cL_law 584 = .ok (.iload_n 3, 1) := dk_29 (dk_at dksL_law_18 15 rfl rfl)
theorem dL_law_585 : decode cL_law 585 = .ok (.iconst 1, 1) := dk_4 (dk_at dksL_law_18 16 rfl rfl)
theorem dL_law_586 : decode cL_law 586 = .ok (.iadd, 1) := dk_96 (dk_at dksL_law_18 17 rfl rfl)
theorem dL_law_587 : decode cL_law 587 = .ok (.iaload, 1) := dk_46 (dk_at dksL_law_18 18 rfl rfl)
theorem dL_law_588 : decode cL_law 588 = .ok (.invokevirtual 59, 3) := dk_182 0 59 (dk_at dksL_law_18 19 rfl rfl)
theorem dL_law_591 : decode cL_law 591 = .ok (.aload_n 2, 1) := dk_44 (dk_at dksL_law_18 22 rfl rfl)
theorem dL_law_592 : decode cL_law 592 = .ok (.aload_n 0, 1) := dk_42 (dk_at dksL_law_18 23 rfl rfl)
theorem dL_law_593 : decode cL_law 593 = .ok (.iload_n 3, 1) := dk_29 (dk_at dksL_law_19 0 rfl rfl)
theorem dL_law_594 : decode cL_law 594 = .ok (.iconst 1, 1) := dk_4 (dk_at dksL_law_19 1 rfl rfl)
theorem dL_law_595 : decode cL_law 595 = .ok (.iadd, 1) := dk_96 (dk_at dksL_law_19 2 rfl rfl)
theorem dL_law_596 : decode cL_law 596 = .ok (.iaload, 1) := dk_46 (dk_at dksL_law_19 3 rfl rfl)
theorem dL_law_597 : decode cL_law 597 = .ok (.invokevirtual 62, 3) := dk_182 0 62 (dk_at dksL_law_19 4 rfl rfl)
theorem dL_law_600 : decode cL_law 600 = .ok (.if_icmp .eq 925, 3) := dk_159 3 157 (dk_at dksL_law_19 7 rfl rfl)
theorem dL_law_603 : decode cL_law 603 = .ok (.iconst 0, 1) := dk_3 (dk_at dksL_law_19 10 rfl rfl)
theorem dL_law_604 : decode cL_law 604 = .ok (.ireturn, 1) := dk_172 (dk_at dksL_law_19 11 rfl rfl)
theorem dL_law_605 : decode cL_law 605 = .ok (.aload_n 1, 1) := dk_43 (dk_at dksL_law_19 12 rfl rfl)
theorem dL_law_606 : decode cL_law 606 = .ok (.aload_n 0, 1) := dk_42 (dk_at dksL_law_19 13 rfl rfl)
theorem dL_law_607 : decode cL_law 607 = .ok (.iload_n 3, 1) := dk_29 (dk_at dksL_law_19 14 rfl rfl)
theorem dL_law_608 : decode cL_law 608 = .ok (.iconst 1, 1) := dk_4 (dk_at dksL_law_19 15 rfl rfl)
theorem dL_law_609 : decode cL_law 609 = .ok (.iadd, 1) := dk_96 (dk_at dksL_law_19 16 rfl rfl)
theorem dL_law_610 : decode cL_law 610 = .ok (.iaload, 1) := dk_46 (dk_at dksL_law_19 17 rfl rfl)
theorem dL_law_611 : decode cL_law 611 = .ok (.aload_n 0, 1) := dk_42 (dk_at dksL_law_19 18 rfl rfl)
theorem dL_law_612 : decode cL_law 612 = .ok (.iload_n 3, 1) := dk_29 (dk_at dksL_law_19 19 rfl rfl)
theorem dL_law_613 : decode cL_law 613 = .ok (.iconst 2, 1) := dk_5 (dk_at dksL_law_19 20 rfl rfl)
theorem dL_law_614 : decode cL_law 614 = .ok (.iadd, 1) := dk_96 (dk_at dksL_law_19 21 rfl rfl)
theorem dL_law_615 : decode cL_law 615 = .ok (.iaload, 1) := dk_46 (dk_at dksL_law_19 22 rfl rfl)
theorem dL_law_616 : decode cL_law 616 = .ok (.aload_n 0, 1) := dk_42 (dk_at dksL_law_19 23 rfl rfl)
theorem dL_law_617 : decode cL_law 617 = .ok (.iload_n 3, 1) := dk_29 (dk_at dksL_law_20 0 rfl rfl)
theorem dL_law_618 : decode cL_law 618 = .ok (.iconst 3, 1) := dk_6 (dk_at dksL_law_20 1 rfl rfl)
theorem dL_law_619 : decode cL_law 619 = .ok (.iadd, 1) := dk_96 (dk_at dksL_law_20 2 rfl rfl)
theorem dL_law_620 : decode cL_law 620 = .ok (.iaload, 1) := dk_46 (dk_at dksL_law_20 3 rfl rfl)
theorem dL_law_621 : decode cL_law 621 = .ok (.aload_n 0, 1) := dk_42 (dk_at dksL_law_20 4 rfl rfl)
theorem dL_law_622 : decode cL_law 622 = .ok (.iload_n 3, 1) := dk_29 (dk_at dksL_law_20 5 rfl rfl)
theorem dL_law_623 : decode cL_law 623 = .ok (.iconst 4, 1) := dk_7 (dk_at dksL_law_20 6 rfl rfl)
theorem dL_law_624 : decode cL_law 624 = .ok (.iadd, 1) := dk_96 (dk_at dksL_law_20 7 rfl rfl)
theorem dL_law_625 : decode cL_law 625 = .ok (.iaload, 1) := dk_46 (dk_at dksL_law_20 8 rfl rfl)
theorem dL_law_626 : decode cL_law 626 = .ok (.invokevirtual 63, 3) := dk_182 0 63 (dk_at dksL_law_20 9 rfl rfl)
theorem dL_law_629 : decode cL_law 629 = .ok (.aload_n 2, 1) := dk_44 (dk_at dksL_law_20 12 rfl rfl)
theorem dL_law_630 : decode cL_law 630 = .ok (.aload_n 0, 1) := dk_42 (dk_at dksL_law_20 13 rfl rfl)
theorem dL_law_631 : decode cL_law 631 = .ok (.iload_n 3, 1) := dk_29 (dk_at dksL_law_20 14 rfl rfl)
theorem dL_law_632 : decode cL_law 632 = .ok (.iconst 1, 1) := dk_4 (dk_at dksL_law_20 15 rfl rfl)
theorem dL_law_633 : decode cL_law 633 = .ok (.iadd, 1) := dk_96 (dk_at dksL_law_20 16 rfl rfl)
theorem dL_law_634 : decode cL_law 634 = .ok (.iaload, 1) := dk_46 (dk_at dksL_law_20 17 rfl rfl)
theorem dL_law_635 : decode cL_law 635 = .ok (.aload_n 0, 1) := dk_42 (dk_at dksL_law_20 18 rfl rfl)
theorem dL_law_636 : decode cL_law 636 = .ok (.iload_n 3, 1) := dk_29 (dk_at dksL_law_20 19 rfl rfl)
theorem dL_law_637 : decode cL_law 637 = .ok (.iconst 2, 1) := dk_5 (dk_at dksL_law_20 20 rfl rfl)
theorem dL_law_638 : decode cL_law 638 = .ok (.iadd, 1) := dk_96 (dk_at dksL_law_20 21 rfl rfl)
theorem dL_law_639 : decode cL_law 639 = .ok (.iaload, 1) := dk_46 (dk_at dksL_law_20 22 rfl rfl)
theorem dL_law_640 : decode cL_law 640 = .ok (.aload_n 0, 1) := dk_42 (dk_at dksL_law_20 23 rfl rfl)
theorem dL_law_641 : decode cL_law 641 = .ok (.iload_n 3, 1) := dk_29 (dk_at dksL_law_21 0 rfl rfl)
theorem dL_law_642 : decode cL_law 642 = .ok (.iconst 3, 1) := dk_6 (dk_at dksL_law_21 1 rfl rfl)
theorem dL_law_643 : decode cL_law 643 = .ok (.iadd, 1) := dk_96 (dk_at dksL_law_21 2 rfl rfl)
theorem dL_law_644 : decode cL_law 644 = .ok (.iaload, 1) := dk_46 (dk_at dksL_law_21 3 rfl rfl)
theorem dL_law_645 : decode cL_law 645 = .ok (.aload_n 0, 1) := dk_42 (dk_at dksL_law_21 4 rfl rfl)
theorem dL_law_646 : decode cL_law 646 = .ok (.iload_n 3, 1) := dk_29 (dk_at dksL_law_21 5 rfl rfl)
theorem dL_law_647 : decode cL_law 647 = .ok (.iconst 4, 1) := dk_7 (dk_at dksL_law_21 6 rfl rfl)
theorem dL_law_648 : decode cL_law 648 = .ok (.iadd, 1) := dk_96 (dk_at dksL_law_21 7 rfl rfl)
theorem dL_law_649 : decode cL_law 649 = .ok (.iaload, 1) := dk_46 (dk_at dksL_law_21 8 rfl rfl)
theorem dL_law_650 : decode cL_law 650 = .ok (.invokevirtual 67, 3) := dk_182 0 67 (dk_at dksL_law_21 9 rfl rfl)
theorem dL_law_653 : decode cL_law 653 = .ok (.if_icmp .eq 872, 3) := dk_159 3 104 (dk_at dksL_law_21 12 rfl rfl)
theorem dL_law_656 : decode cL_law 656 = .ok (.iconst 0, 1) := dk_3 (dk_at dksL_law_21 15 rfl rfl)
theorem dL_law_657 : decode cL_law 657 = .ok (.ireturn, 1) := dk_172 (dk_at dksL_law_21 16 rfl rfl)
theorem dL_law_658 : decode cL_law 658 = .ok (.aload_n 1, 1) := dk_43 (dk_at dksL_law_21 17 rfl rfl)
theorem dL_law_659 : decode cL_law 659 = .ok (.aload_n 0, 1) := dk_42 (dk_at dksL_law_21 18 rfl rfl)
theorem dL_law_660 : decode cL_law 660 = .ok (.iload_n 3, 1) := dk_29 (dk_at dksL_law_21 19 rfl rfl)
theorem dL_law_661 : decode cL_law 661 = .ok (.iconst 1, 1) := dk_4 (dk_at dksL_law_21 20 rfl rfl)
theorem dL_law_662 : decode cL_law 662 = .ok (.iadd, 1) := dk_96 (dk_at dksL_law_21 21 rfl rfl)
theorem dL_law_663 : decode cL_law 663 = .ok (.iaload, 1) := dk_46 (dk_at dksL_law_21 22 rfl rfl)
theorem dL_law_664 : decode cL_law 664 = .ok (.invokevirtual 68, 3) := dk_182 0 68 (dk_at dksL_law_22 0 rfl rfl)
theorem dL_law_667 : decode cL_law 667 = .ok (.aload_n 2, 1) := dk_44 (dk_at dksL_law_22 3 rfl rfl)
theorem dL_law_668 : decode cL_law 668 = .ok (.aload_n 0, 1) := dk_42 (dk_at dksL_law_22 4 rfl rfl)
theorem dL_law_669 : decode cL_law 669 = .ok (.iload_n 3, 1) := dk_29 (dk_at dksL_law_22 5 rfl rfl)
theorem dL_law_670 : decode cL_law 670 = .ok (.iconst 1, 1) := dk_4 (dk_at dksL_law_22 6 rfl rfl)
theorem dL_law_671 : decode cL_law 671 = .ok (.iadd, 1) := dk_96 (dk_at dksL_law_22 7 rfl rfl)
theorem dL_law_672 : decode cL_law 672 = .ok (.iaload, 1) := dk_46 (dk_at dksL_law_22 8 rfl rfl)
theorem dL_law_673 : decode cL_law 673 = .ok (.invokevirtual 71, 3) := dk_182 0 71 (dk_at dksL_law_22 9 rfl rfl)
theorem dL_law_676 : decode cL_law 676 = .ok (.if_icmp .eq 849, 3) := dk_159 3 81 (dk_at dksL_law_22 12 rfl rfl)
theorem dL_law_679 : decode cL_law 679 = .ok (.iconst 0, 1) := dk_3 (dk_at dksL_law_22 15 rfl rfl)
theorem dL_law_680 : decode cL_law 680 = .ok (.ireturn, 1) := dk_172 (dk_at dksL_law_22 16 rfl rfl)
theorem dL_law_681 : decode cL_law 681 = .ok (.aload_n 1, 1) := dk_43 (dk_at dksL_law_22 17 rfl rfl)
theorem dL_law_682 : decode cL_law 682 = .ok (.aload_n 0, 1) := dk_42 (dk_at dksL_law_22 18 rfl rfl)
theorem dL_law_683 : decode cL_law 683 = .ok (.iload_n 3, 1) := dk_29 (dk_at dksL_law_22 19 rfl rfl)
theorem dL_law_684 : decode cL_law 684 = .ok (.iconst 1, 1) := dk_4 (dk_at dksL_law_22 20 rfl rfl)
theorem dL_law_685 : decode cL_law 685 = .ok (.iadd, 1) := dk_96 (dk_at dksL_law_22 21 rfl rfl)
theorem dL_law_686 : decode cL_law 686 = .ok (.iaload, 1) := dk_46 (dk_at dksL_law_22 22 rfl rfl)
theorem dL_law_687 : decode cL_law 687 = .ok (.aload_n 0, 1) := dk_42 (dk_at dksL_law_22 23 rfl rfl)
theorem dL_law_688 : decode cL_law 688 = .ok (.iload_n 3, 1) := dk_29 (dk_at dksL_law_23 0 rfl rfl)
theorem dL_law_689 : decode cL_law 689 = .ok (.iconst 2, 1) := dk_5 (dk_at dksL_law_23 1 rfl rfl)
theorem dL_law_690 : decode cL_law 690 = .ok (.iadd, 1) := dk_96 (dk_at dksL_law_23 2 rfl rfl)
theorem dL_law_691 : decode cL_law 691 = .ok (.iaload, 1) := dk_46 (dk_at dksL_law_23 3 rfl rfl)
theorem dL_law_692 : decode cL_law 692 = .ok (.invokevirtual 72, 3) := dk_182 0 72 (dk_at dksL_law_23 4 rfl rfl)
theorem dL_law_695 : decode cL_law 695 = .ok (.aload_n 2, 1) := dk_44 (dk_at dksL_law_23 7 rfl rfl)
theorem dL_law_696 : decode cL_law 696 = .ok (.aload_n 0, 1) := dk_42 (dk_at dksL_law_23 8 rfl rfl)
theorem dL_law_697 : decode cL_law 697 = .ok (.iload_n 3, 1) := dk_29 (dk_at dksL_law_23 9 rfl rfl)
theorem dL_law_698 : decode cL_law 698 = .ok (.iconst 1, 1) := dk_4 (dk_at dksL_law_23 10 rfl rfl)
theorem dL_law_699 : decode cL_law 699 = .ok (.iadd, 1) := dk_96 (dk_at dksL_law_23 11 rfl rfl)
theorem dL_law_700 : decode cL_law 700 = .ok (.iaload, 1) := dk_46 (dk_at dksL_law_23 12 rfl rfl)
theorem dL_law_701 : decode cL_law 701 = .ok (.aload_n 0, 1) := dk_42 (dk_at dksL_law_23 13 rfl rfl)
theorem dL_law_702 : decode cL_law 702 = .ok (.iload_n 3, 1) := dk_29 (dk_at dksL_law_23 14 rfl rfl)
theorem dL_law_703 : decode cL_law 703 = .ok (.iconst 2, 1) := dk_5 (dk_at dksL_law_23 15 rfl rfl)
theorem dL_law_704 : decode cL_law 704 = .ok (.iadd, 1) := dk_96 (dk_at dksL_law_23 16 rfl rfl)
theorem dL_law_705 : decode cL_law 705 = .ok (.iaload, 1) := dk_46 (dk_at dksL_law_23 17 rfl rfl)
theorem dL_law_706 : decode cL_law 706 = .ok (.invokevirtual 75, 3) := dk_182 0 75 (dk_at dksL_law_23 18 rfl rfl)
theorem dL_law_709 : decode cL_law 709 = .ok (.if_icmp .eq 816, 3) := dk_159 3 48 (dk_at dksL_law_23 21 rfl rfl)
theorem dL_law_712 : decode cL_law 712 = .ok (.iconst 0, 1) := dk_3 (dk_at dksL_law_24 0 rfl rfl)
theorem dL_law_713 : decode cL_law 713 = .ok (.ireturn, 1) := dk_172 (dk_at dksL_law_24 1 rfl rfl)
theorem dL_law_714 : decode cL_law 714 = .ok (.aload_n 1, 1) := dk_43 (dk_at dksL_law_24 2 rfl rfl)
theorem dL_law_715 : decode cL_law 715 = .ok (.aload_n 0, 1) := dk_42 (dk_at dksL_law_24 3 rfl rfl)
theorem dL_law_716 : decode cL_law 716 = .ok (.iload_n 3, 1) := dk_29 (dk_at dksL_law_24 4 rfl rfl)
theorem dL_law_717 : decode cL_law 717 = .ok (.iconst 1, 1) := dk_4 (dk_at dksL_law_24 5 rfl rfl)
theorem dL_law_718 : decode cL_law 718 = .ok (.iadd, 1) := dk_96 (dk_at dksL_law_24 6 rfl rfl)
theorem dL_law_719 : decode cL_law 719 = .ok (.iaload, 1) := dk_46 (dk_at dksL_law_24 7 rfl rfl)
theorem dL_law_720 : decode cL_law 720 = .ok (.aload_n 0, 1) := dk_42 (dk_at dksL_law_24 8 rfl rfl)
theorem dL_law_721 : decode cL_law 721 = .ok (.iload_n 3, 1) := dk_29 (dk_at dksL_law_24 9 rfl rfl)
theorem dL_law_722 : decode cL_law 722 = .ok (.iconst 2, 1) := dk_5 (dk_at dksL_law_24 10 rfl rfl)
theorem dL_law_723 : decode cL_law 723 = .ok (.iadd, 1) := dk_96 (dk_at dksL_law_24 11 rfl rfl)
theorem dL_law_724 : decode cL_law 724 = .ok (.iaload, 1) := dk_46 (dk_at dksL_law_24 12 rfl rfl)
theorem dL_law_725 : decode cL_law 725 = .ok (.aload_n 0, 1) := dk_42 (dk_at dksL_law_24 13 rfl rfl)
theorem dL_law_726 : decode cL_law 726 = .ok (.iload_n 3, 1) := dk_29 (dk_at dksL_law_24 14 rfl rfl)
theorem dL_law_727 : decode cL_law 727 = .ok (.iconst 3, 1) := dk_6 (dk_at dksL_law_24 15 rfl rfl)
theorem dL_law_728 : decode cL_law 728 = .ok (.iadd, 1) := dk_96 (dk_at dksL_law_24 16 rfl rfl)
theorem dL_law_729 : decode cL_law 729 = .ok (.iaload, 1) := dk_46 (dk_at dksL_law_24 17 rfl rfl)
theorem dL_law_730 : decode cL_law 730 = .ok (.invokevirtual 76, 3) := dk_182 0 76 (dk_at dksL_law_24 18 rfl rfl)
theorem dL_law_733 : decode cL_law 733 = .ok (.aload_n 2, 1) := dk_44 (dk_at dksL_law_24 21 rfl rfl)
theorem dL_law_734 : decode cL_law 734 = .ok (.aload_n 0, 1) := dk_42 (dk_at dksL_law_24 22 rfl rfl)
theorem dL_law_735 : decode cL_law 735 = .ok (.iload_n 3, 1) := dk_29 (dk_at dksL_law_24 23 rfl rfl)
theorem dL_law_736 : decode cL_law 736 = .ok (.iconst 1, 1) := dk_4 (dk_at dksL_law_25 0 rfl rfl)
theorem dL_law_737 : decode cL_law 737 = .ok (.iadd, 1) := dk_96 (dk_at dksL_law_25 1 rfl rfl)
theorem dL_law_738 : decode cL_law 738 = .ok (.iaload, 1) := dk_46 (dk_at dksL_law_25 2 rfl rfl)
theorem dL_law_739 : decode cL_law 739 = .ok (.aload_n 0, 1) := dk_42 (dk_at dksL_law_25 3 rfl rfl)
theorem dL_law_740 : decode cL_law 740 = .ok (.iload_n 3, 1) := dk_29 (dk_at dksL_law_25 4 rfl rfl)
theorem dL_law_741 : decode cL_law 741 = .ok (.iconst 2, 1) := dk_5 (dk_at dksL_law_25 5 rfl rfl)
theorem dL_law_742 : decode cL_law 742 = .ok (.iadd, 1) := dk_96 (dk_at dksL_law_25 6 rfl rfl)
theorem dL_law_743 : decode cL_law 743 = .ok (.iaload, 1) := dk_46 (dk_at dksL_law_25 7 rfl rfl)
theorem dL_law_744 : decode cL_law 744 = .ok (.aload_n 0, 1) := dk_42 (dk_at dksL_law_25 8 rfl rfl)
theorem dL_law_745 : decode cL_law 745 = .ok (.iload_n 3, 1) := dk_29 (dk_at dksL_law_25 9 rfl rfl)
theorem dL_law_746 : decode cL_law 746 = .ok (.iconst 3, 1) := dk_6 (dk_at dksL_law_25 10 rfl rfl)
theorem dL_law_747 : decode cL_law 747 = .ok (.iadd, 1) := dk_96 (dk_at dksL_law_25 11 rfl rfl)
theorem dL_law_748 : decode cL_law 748 = .ok (.iaload, 1) := dk_46 (dk_at dksL_law_25 12 rfl rfl)
theorem dL_law_749 : decode cL_law 749 = .ok (.invokevirtual 79, 3) := dk_182 0 79 (dk_at dksL_law_25 13 rfl rfl)
theorem dL_law_752 : decode cL_law 752 = .ok (.if_icmp .eq 773, 3) := dk_159 3 5 (dk_at dksL_law_25 16 rfl rfl)
theorem dL_law_755 : decode cL_law 755 = .ok (.iconst 0, 1) := dk_3 (dk_at dksL_law_25 19 rfl rfl)
theorem dL_law_756 : decode cL_law 756 = .ok (.ireturn, 1) := dk_172 (dk_at dksL_law_25 20 rfl rfl)
theorem dL_law_757 : decode cL_law 757 = .ok (.aload_n 1, 1) := dk_43 (dk_at dksL_law_25 21 rfl rfl)
theorem dL_law_758 : decode cL_law 758 = .ok (.aload_n 0, 1) := dk_42 (dk_at dksL_law_25 22 rfl rfl)
theorem dL_law_759 : decode cL_law 759 = .ok (.iload_n 3, 1) := dk_29 (dk_at dksL_law_25 23 rfl rfl)
theorem dL_law_760 : decode cL_law 760 = .ok (.iconst 1, 1) := dk_4 (dk_at dksL_law_26 0 rfl rfl)
theorem dL_law_761 : decode cL_law 761 = .ok (.iadd, 1) := dk_96 (dk_at dksL_law_26 1 rfl rfl)
theorem dL_law_762 : decode cL_law 762 = .ok (.iaload, 1) := dk_46 (dk_at dksL_law_26 2 rfl rfl)
theorem dL_law_763 : decode cL_law 763 = .ok (.invokevirtual 80, 3) := dk_182 0 80 (dk_at dksL_law_26 3 rfl rfl)
theorem dL_law_766 : decode cL_law 766 = .ok (.aload_n 2, 1) := dk_44 (dk_at dksL_law_26 6 rfl rfl)
theorem dL_law_767 : decode cL_law 767 = .ok (.aload_n 0, 1) := dk_42 (dk_at dksL_law_26 7 rfl rfl)
theorem dL_law_768 : decode cL_law 768 = .ok (.iload_n 3, 1) := dk_29 (dk_at dksL_law_26 8 rfl rfl)
theorem dL_law_769 : decode cL_law 769 = .ok (.iconst 1, 1) := dk_4 (dk_at dksL_law_26 9 rfl rfl)
theorem dL_law_770 : decode cL_law 770 = .ok (.iadd, 1) := dk_96 (dk_at dksL_law_26 10 rfl rfl)
theorem dL_law_771 : decode cL_law 771 = .ok (.iaload, 1) := dk_46 (dk_at dksL_law_26 11 rfl rfl)
theorem dL_law_772 : decode cL_law 772 = .ok (.invokevirtual 83, 3) := dk_182 0 83 (dk_at dksL_law_26 12 rfl rfl)
theorem dL_law_775 : decode cL_law 775 = .ok (.if_icmp .eq 750, 3) := dk_159 2 238 (dk_at dksL_law_26 15 rfl rfl)
theorem dL_law_778 : decode cL_law 778 = .ok (.iconst 0, 1) := dk_3 (dk_at dksL_law_26 18 rfl rfl)
theorem dL_law_779 : decode cL_law 779 = .ok (.ireturn, 1) := dk_172 (dk_at dksL_law_26 19 rfl rfl)
theorem dL_law_780 : decode cL_law 780 = .ok (.aload_n 1, 1) := dk_43 (dk_at dksL_law_26 20 rfl rfl)
theorem dL_law_781 : decode cL_law 781 = .ok (.aload_n 0, 1) := dk_42 (dk_at dksL_law_26 21 rfl rfl)
theorem dL_law_782 : decode cL_law 782 = .ok (.iload_n 3, 1) := dk_29 (dk_at dksL_law_26 22 rfl rfl)
theorem dL_law_783 : decode cL_law 783 = .ok (.iconst 1, 1) := dk_4 (dk_at dksL_law_26 23 rfl rfl)
theorem dL_law_784 : decode cL_law 784 = .ok (.iadd, 1) := dk_96 (dk_at dksL_law_27 0 rfl rfl)
theorem dL_law_785 : decode cL_law 785 = .ok (.iaload, 1) := dk_46 (dk_at dksL_law_27 1 rfl rfl)
theorem dL_law_786 : decode cL_law 786 = .ok (.invokevirtual 84, 3) := dk_182 0 84 (dk_at dksL_law_27 2 rfl rfl)
theorem dL_law_789 : decode cL_law 789 = .ok (.aload_n 2, 1) := dk_44 (dk_at dksL_law_27 5 rfl rfl)
theorem dL_law_790 : decode cL_law 790 = .ok (.aload_n 0, 1) := dk_42 (dk_at dksL_law_27 6 rfl rfl)
theorem dL_law_791 : decode cL_law 791 = .ok (.iload_n 3, 1) := dk_29 (dk_at dksL_law_27 7 rfl rfl)
theorem dL_law_792 : decode cL_law 792 = .ok (.iconst 1, 1) := dk_4 (dk_at dksL_law_27 8 rfl rfl)
theorem dL_law_793 : decode cL_law 793 = .ok (.iadd, 1) := dk_96 (dk_at dksL_law_27 9 rfl rfl)
theorem dL_law_794 : decode cL_law 794 = .ok (.iaload, 1) := dk_46 (dk_at dksL_law_27 10 rfl rfl)
theorem dL_law_795 : decode cL_law 795 = .ok (.invokevirtual 87, 3) := dk_182 0 87 (dk_at dksL_law_27 11 rfl rfl)
theorem dL_law_798 : decode cL_law 798 = .ok (.if_icmp .eq 727, 3) := dk_159 2 215 (dk_at dksL_law_27 14 rfl rfl)
theorem dL_law_801 : decode cL_law 801 = .ok (.iconst 0, 1) := dk_3 (dk_at dksL_law_27 17 rfl rfl)
theorem dL_law_802 : decode cL_law 802 = .ok (.ireturn, 1) := dk_172 (dk_at dksL_law_27 18 rfl rfl)
theorem dL_law_803 : decode cL_law 803 = .ok (.aload_n 1, 1) := dk_43 (dk_at dksL_law_27 19 rfl rfl)
theorem dL_law_804 : decode cL_law 804 = .ok (.invokevirtual 88, 3) := dk_182 0 88 (dk_at dksL_law_27 20 rfl rfl)
theorem dL_law_807 : decode cL_law 807 = .ok (.aload_n 2, 1) := dk_44 (dk_at dksL_law_27 23 rfl rfl)
theorem dL_law_808 : decode cL_law 808 = .ok (.invokevirtual 92, 3) := dk_182 0 92 (dk_at dksL_law_28 0 rfl rfl)
theorem dL_law_811 : decode cL_law 811 = .ok (.if_icmp .eq 714, 3) := dk_159 2 202 (dk_at dksL_law_28 3 rfl rfl)
theorem dL_law_814 : decode cL_law 814 = .ok (.iconst 0, 1) := dk_3 (dk_at dksL_law_28 6 rfl rfl)
theorem dL_law_815 : decode cL_law 815 = .ok (.ireturn, 1) := dk_172 (dk_at dksL_law_28 7 rfl rfl)
theorem dL_law_816 : decode cL_law 816 = .ok (.aload_n 1, 1) := dk_43 (dk_at dksL_law_28 8 rfl rfl)
theorem dL_law_817 : decode cL_law 817 = .ok (.aload_n 0, 1) := dk_42 (dk_at dksL_law_28 9 rfl rfl)
theorem dL_law_818 : decode cL_law 818 = .ok (.iload_n 3, 1) := dk_29 (dk_at dksL_law_28 10 rfl rfl)
theorem dL_law_819 : decode cL_law 819 = .ok (.iconst 1, 1) := dk_4 (dk_at dksL_law_28 11 rfl rfl)
theorem dL_law_820 : decode cL_law 820 = .ok (.iadd, 1) := dk_96 (dk_at dksL_law_28 12 rfl rfl)
theorem dL_law_821 : decode cL_law 821 = .ok (.iaload, 1) := dk_46 (dk_at dksL_law_28 13 rfl rfl)
theorem dL_law_822 : decode cL_law 822 = .ok (.aload_n 0, 1) := dk_42 (dk_at dksL_law_28 14 rfl rfl)
theorem dL_law_823 : decode cL_law 823 = .ok (.iload_n 3, 1) := dk_29 (dk_at dksL_law_28 15 rfl rfl)
theorem dL_law_824 : decode cL_law 824 = .ok (.iconst 2, 1) := dk_5 (dk_at dksL_law_28 16 rfl rfl)
theorem dL_law_825 : decode cL_law 825 = .ok (.iadd, 1) := dk_96 (dk_at dksL_law_28 17 rfl rfl)
theorem dL_law_826 : decode cL_law 826 = .ok (.iaload, 1) := dk_46 (dk_at dksL_law_28 18 rfl rfl)
theorem dL_law_827 : decode cL_law 827 = .ok (.aload_n 0, 1) := dk_42 (dk_at dksL_law_28 19 rfl rfl)
theorem dL_law_828 : decode cL_law 828 = .ok (.iload_n 3, 1) := dk_29 (dk_at dksL_law_28 20 rfl rfl)
theorem dL_law_829 : decode cL_law 829 = .ok (.iconst 3, 1) := dk_6 (dk_at dksL_law_28 21 rfl rfl)
theorem dL_law_830 : decode cL_law 830 = .ok (.iadd, 1) := dk_96 (dk_at dksL_law_28 22 rfl rfl)
theorem dL_law_831 : decode cL_law 831 = .ok (.iaload, 1) := dk_46 (dk_at dksL_law_28 23 rfl rfl)
theorem dL_law_832 : decode cL_law 832 = .ok (.invokevirtual 93, 3) := dk_182 0 93 (dk_at dksL_law_29 0 rfl rfl)
theorem dL_law_835 : decode cL_law 835 = .ok (.aload_n 2, 1) := dk_44 (dk_at dksL_law_29 3 rfl rfl)
theorem dL_law_836 : decode cL_law 836 = .ok (.aload_n 0, 1) := dk_42 (dk_at dksL_law_29 4 rfl rfl)
theorem dL_law_837 : decode cL_law 837 = .ok (.iload_n 3, 1) := dk_29 (dk_at dksL_law_29 5 rfl rfl)
theorem dL_law_838 : decode cL_law 838 = .ok (.iconst 1, 1) := dk_4 (dk_at dksL_law_29 6 rfl rfl)
theorem dL_law_839 : decode cL_law 839 = .ok (.iadd, 1) := dk_96 (dk_at dksL_law_29 7 rfl rfl)
theorem dL_law_840 : decode cL_law 840 = .ok (.iaload, 1) := dk_46 (dk_at dksL_law_29 8 rfl rfl)
theorem dL_law_841 : decode cL_law 841 = .ok (.aload_n 0, 1) := dk_42 (dk_at dksL_law_29 9 rfl rfl)
theorem dL_law_842 : decode cL_law 842 = .ok (.iload_n 3, 1) := dk_29 (dk_at dksL_law_29 10 rfl rfl)
theorem dL_law_843 : decode cL_law 843 = .ok (.iconst 2, 1) := dk_5 (dk_at dksL_law_29 11 rfl rfl)
theorem dL_law_844 : decode cL_law 844 = .ok (.iadd, 1) := dk_96 (dk_at dksL_law_29 12 rfl rfl)
theorem dL_law_845 : decode cL_law 845 = .ok (.iaload, 1) := dk_46 (dk_at dksL_law_29 13 rfl rfl)
theorem dL_law_846 : decode cL_law 846 = .ok (.aload_n 0, 1) := dk_42 (dk_at dksL_law_29 14 rfl rfl)
theorem dL_law_847 : decode cL_law 847 = .ok (.iload_n 3, 1) := dk_29 (dk_at dksL_law_29 15 rfl rfl)
theorem dL_law_848 : decode cL_law 848 = .ok (.iconst 3, 1) := dk_6 (dk_at dksL_law_29 16 rfl rfl)
theorem dL_law_849 : decode cL_law 849 = .ok (.iadd, 1) := dk_96 (dk_at dksL_law_29 17 rfl rfl)
theorem dL_law_850 : decode cL_law 850 = .ok (.iaload, 1) := dk_46 (dk_at dksL_law_29 18 rfl rfl)
theorem dL_law_851 : decode cL_law 851 = .ok (.invokevirtual 96, 3) := dk_182 0 96 (dk_at dksL_law_29 19 rfl rfl)
theorem dL_law_854 : decode cL_law 854 = .ok (.if_icmp .eq 671, 3) := dk_159 2 159 (dk_at dksL_law_30 0 rfl rfl)
theorem dL_law_857 : decode cL_law 857 = .ok (.iconst 0, 1) := dk_3 (dk_at dksL_law_30 3 rfl rfl)
theorem dL_law_858 : decode cL_law 858 = .ok (.ireturn, 1) := dk_172 (dk_at dksL_law_30 4 rfl rfl)
theorem dL_law_859 : decode cL_law 859 = .ok (.aload_n 1, 1) := dk_43 (dk_at dksL_law_30 5 rfl rfl)
theorem dL_law_860 : decode cL_law 860 = .ok (.aload_n 0, 1) := dk_42 (dk_at dksL_law_30 6 rfl rfl)
theorem dL_law_861 : decode cL_law 861 = .ok (.iload_n 3, 1) := dk_29 (dk_at dksL_law_30 7 rfl rfl)
theorem dL_law_862 : decode cL_law 862 = .ok (.iconst 1, 1) := dk_4 (dk_at dksL_law_30 8 rfl rfl)
theorem dL_law_863 : decode cL_law 863 = .ok (.iadd, 1) := dk_96 (dk_at dksL_law_30 9 rfl rfl)
theorem dL_law_864 : decode cL_law 864 = .ok (.iaload, 1) := dk_46 (dk_at dksL_law_30 10 rfl rfl)
theorem dL_law_865 : decode cL_law 865 = .ok (.aload_n 0, 1) := dk_42 (dk_at dksL_law_30 11 rfl rfl)
theorem dL_law_866 : decode cL_law 866 = .ok (.iload_n 3, 1) := dk_29 (dk_at dksL_law_30 12 rfl rfl)
theorem dL_law_867 : decode cL_law 867 = .ok (.iconst 2, 1) := dk_5 (dk_at dksL_law_30 13 rfl rfl)
theorem dL_law_868 : decode cL_law 868 = .ok (.iadd, 1) := dk_96 (dk_at dksL_law_30 14 rfl rfl)
theorem dL_law_869 : decode cL_law 869 = .ok (.iaload, 1) := dk_46 (dk_at dksL_law_30 15 rfl rfl)
theorem dL_law_870 : decode cL_law 870 = .ok (.aload_n 0, 1) := dk_42 (dk_at dksL_law_30 16 rfl rfl)
theorem dL_law_871 : decode cL_law 871 = .ok (.iload_n 3, 1) := dk_29 (dk_at dksL_law_30 17 rfl rfl)
theorem dL_law_872 : decode cL_law 872 = .ok (.iconst 3, 1) := dk_6 (dk_at dksL_law_30 18 rfl rfl)
theorem dL_law_873 : decode cL_law 873 = .ok (.iadd, 1) := dk_96 (dk_at dksL_law_30 19 rfl rfl)
theorem dL_law_874 : decode cL_law 874 = .ok (.iaload, 1) := dk_46 (dk_at dksL_law_30 20 rfl rfl)
theorem dL_law_875 : decode cL_law 875 = .ok (.invokevirtual 97, 3) := dk_182 0 97 (dk_at dksL_law_30 21 rfl rfl)
theorem dL_law_878 : decode cL_law 878 = .ok (.aload_n 2, 1) := dk_44 (dk_at dksL_law_31 0 rfl rfl)
theorem dL_law_879 : decode cL_law 879 = .ok (.aload_n 0, 1) := dk_42 (dk_at dksL_law_31 1 rfl rfl)
theorem dL_law_880 : decode cL_law 880 = .ok (.iload_n 3, 1) := dk_29 (dk_at dksL_law_31 2 rfl rfl)
theorem dL_law_881 : decode cL_law 881 = .ok (.iconst 1, 1) := dk_4 (dk_at dksL_law_31 3 rfl rfl)
theorem dL_law_882 : decode cL_law 882 = .ok (.iadd, 1) := dk_96 (dk_at dksL_law_31 4 rfl rfl)
theorem dL_law_883 : decode cL_law 883 = .ok (.iaload, 1) := dk_46 (dk_at dksL_law_31 5 rfl rfl)
theorem dL_law_884 : decode cL_law 884 = .ok (.aload_n 0, 1) := dk_42 (dk_at dksL_law_31 6 rfl rfl)
theorem dL_law_885 : decode cL_law 885 = .ok (.iload_n 3, 1) := dk_29 (dk_at dksL_law_31 7 rfl rfl)
theorem dL_law_886 : decode cL_law 886 = .ok (.iconst 2, 1) := dk_5 (dk_at dksL_law_31 8 rfl rfl)
theorem dL_law_887 : decode cL_law 887 = .ok (.iadd, 1) := dk_96 (dk_at dksL_law_31 9 rfl rfl)
theorem dL_law_888 : decode cL_law 888 = .ok (.iaload, 1) := dk_46 (dk_at dksL_law_31 10 rfl rfl)
theorem dL_law_889 : decode cL_law 889 = .ok (.aload_n 0, 1) := dk_42 (dk_at dksL_law_31 11 rfl rfl)
theorem dL_law_890 : decode cL_law 890 = .ok (.iload_n 3, 1) := dk_29 (dk_at dksL_law_31 12 rfl rfl)
theorem dL_law_891 : decode cL_law 891 = .ok (.iconst 3, 1) := dk_6 (dk_at dksL_law_31 13 rfl rfl)
theorem dL_law_892 : decode cL_law 892 = .ok (.iadd, 1) := dk_96 (dk_at dksL_law_31 14 rfl rfl)
theorem dL_law_893 : decode cL_law 893 = .ok (.iaload, 1) := dk_46 (dk_at dksL_law_31 15 rfl rfl)
theorem dL_law_894 : decode cL_law 894 = .ok (.invokevirtual 100, 3) := dk_182 0 100 (dk_at dksL_law_31 16 rfl rfl)
theorem dL_law_897 : decode cL_law 897 = .ok (.if_icmp .eq 628, 3) := dk_159 2 116 (dk_at dksL_law_31 19 rfl rfl)
theorem dL_law_900 : decode cL_law 900 = .ok (.iconst 0, 1) := dk_3 (dk_at dksL_law_31 22 rfl rfl)
theorem dL_law_901 : decode cL_law 901 = .ok (.ireturn, 1) := dk_172 (dk_at dksL_law_31 23 rfl rfl)
theorem dL_law_902 : decode cL_law 902 = .ok (.aload_n 1, 1) := dk_43 (dk_at dksL_law_32 0 rfl rfl)
theorem dL_law_903 : decode cL_law 903 = .ok (.aload_n 0, 1) := dk_42 (dk_at dksL_law_32 1 rfl rfl)
theorem dL_law_904 : decode cL_law 904 = .ok (.iload_n 3, 1) := dk_29 (dk_at dksL_law_32 2 rfl rfl)
theorem dL_law_905 : decode cL_law 905 = .ok (.iconst 1, 1) := dk_4 (dk_at dksL_law_32 3 rfl rfl)
theorem dL_law_906 : decode cL_law 906 = .ok (.iadd, 1) := dk_96 (dk_at dksL_law_32 4 rfl rfl)
theorem dL_law_907 : decode cL_law 907 = .ok (.iaload, 1) := dk_46 (dk_at dksL_law_32 5 rfl rfl)
theorem dL_law_908 : decode cL_law 908 = .ok (.aload_n 0, 1) := dk_42 (dk_at dksL_law_32 6 rfl rfl)
theorem dL_law_909 : decode cL_law 909 = .ok (.iload_n 3, 1) := dk_29 (dk_at dksL_law_32 7 rfl rfl)
theorem dL_law_910 : decode cL_law 910 = .ok (.iconst 2, 1) := dk_5 (dk_at dksL_law_32 8 rfl rfl)
theorem dL_law_911 : decode cL_law 911 = .ok (.iadd, 1) := dk_96 (dk_at dksL_law_32 9 rfl rfl)
theorem dL_law_912 : decode cL_law 912 = .ok (.iaload, 1) := dk_46 (dk_at dksL_law_32 10 rfl rfl)
theorem dL_law_913 : decode cL_law 913 = .ok (.aload_n 0, 1) := dk_42 (dk_at dksL_law_32 11 rfl rfl)
theorem dL_law_914 : decode cL_law 914 = .ok (.iload_n 3, 1) := dk_29 (dk_at dksL_law_32 12 rfl rfl)
theorem dL_law_915 : decode cL_law 915 = .ok (.iconst 3, 1) := dk_6 (dk_at dksL_law_32 13 rfl rfl)
theorem dL_law_916 : decode cL_law 916 = .ok (.iadd, 1) := dk_96 (dk_at dksL_law_32 14 rfl rfl)
theorem dL_law_917 : decode cL_law 917 = .ok (.iaload, 1) := dk_46 (dk_at dksL_law_32 15 rfl rfl)
theorem dL_law_918 : decode cL_law 918 = .ok (.invokevirtual 101, 3) := dk_182 0 101 (dk_at dksL_law_32 16 rfl rfl)
theorem dL_law_921 : decode cL_law 921 = .ok (.aload_n 2, 1) := dk_44 (dk_at dksL_law_32 19 rfl rfl)
theorem dL_law_922 : decode cL_law 922 = .ok (.aload_n 0, 1) := dk_42 (dk_at dksL_law_32 20 rfl rfl)
theorem dL_law_923 : decode cL_law 923 = .ok (.iload_n 3, 1) := dk_29 (dk_at dksL_law_32 21 rfl rfl)
theorem dL_law_924 : decode cL_law 924 = .ok (.iconst 1, 1) := dk_4 (dk_at dksL_law_32 22 rfl rfl)
theorem dL_law_925 : decode cL_law 925 = .ok (.iadd, 1) := dk_96 (dk_at dksL_law_32 23 rfl rfl)
theorem dL_law_926 : decode cL_law 926 = .ok (.iaload, 1) := dk_46 (dk_at dksL_law_33 0 rfl rfl)
theorem dL_law_927 : decode cL_law 927 = .ok (.aload_n 0, 1) := dk_42 (dk_at dksL_law_33 1 rfl rfl)
theorem dL_law_928 : decode cL_law 928 = .ok (.iload_n 3, 1) := dk_29 (dk_at dksL_law_33 2 rfl rfl)
theorem dL_law_929 : decode cL_law 929 = .ok (.iconst 2, 1) := dk_5 (dk_at dksL_law_33 3 rfl rfl)
theorem dL_law_930 : decode cL_law 930 = .ok (.iadd, 1) := dk_96 (dk_at dksL_law_33 4 rfl rfl)
theorem dL_law_931 : decode cL_law 931 = .ok (.iaload, 1) := dk_46 (dk_at dksL_law_33 5 rfl rfl)
theorem dL_law_932 : decode cL_law 932 = .ok (.aload_n 0, 1) := dk_42 (dk_at dksL_law_33 6 rfl rfl)
theorem dL_law_933 : decode cL_law 933 = .ok (.iload_n 3, 1) := dk_29 (dk_at dksL_law_33 7 rfl rfl)
theorem dL_law_934 : decode cL_law 934 = .ok (.iconst 3, 1) := dk_6 (dk_at dksL_law_33 8 rfl rfl)
theorem dL_law_935 : decode cL_law 935 = .ok (.iadd, 1) := dk_96 (dk_at dksL_law_33 9 rfl rfl)
theorem dL_law_936 : decode cL_law 936 = .ok (.iaload, 1) := dk_46 (dk_at dksL_law_33 10 rfl rfl)
theorem dL_law_937 : decode cL_law 937 = .ok (.invokevirtual 104, 3) := dk_182 0 104 (dk_at dksL_law_33 11 rfl rfl)
theorem dL_law_940 : decode cL_law 940 = .ok (.if_icmp .eq 585, 3) := dk_159 2 73 (dk_at dksL_law_33 14 rfl rfl)
theorem dL_law_943 : decode cL_law 943 = .ok (.iconst 0, 1) := dk_3 (dk_at dksL_law_33 17 rfl rfl)
theorem dL_law_944 : decode cL_law 944 = .ok (.ireturn, 1) := dk_172 (dk_at dksL_law_33 18 rfl rfl)
theorem dL_law_945 : decode cL_law 945 = .ok (.aload_n 1, 1) := dk_43 (dk_at dksL_law_33 19 rfl rfl)
theorem dL_law_946 : decode cL_law 946 = .ok (.aload_n 0, 1) := dk_42 (dk_at dksL_law_33 20 rfl rfl)
theorem dL_law_947 : decode cL_law 947 = .ok (.iload_n 3, 1) := dk_29 (dk_at dksL_law_33 21 rfl rfl)
theorem dL_law_948 : decode cL_law 948 = .ok (.iconst 1, 1) := dk_4 (dk_at dksL_law_33 22 rfl rfl)
theorem dL_law_949 : decode cL_law 949 = .ok (.iadd, 1) := dk_96 (dk_at dksL_law_33 23 rfl rfl)
theorem dL_law_950 : decode cL_law 950 = .ok (.iaload, 1) := dk_46 (dk_at dksL_law_34 0 rfl rfl)
theorem dL_law_951 : decode cL_law 951 = .ok (.aload_n 0, 1) := dk_42 (dk_at dksL_law_34 1 rfl rfl)
theorem dL_law_952 : decode cL_law 952 = .ok (.iload_n 3, 1) := dk_29 (dk_at dksL_law_34 2 rfl rfl)
theorem dL_law_953 : decode cL_law 953 = .ok (.iconst 2, 1) := dk_5 (dk_at dksL_law_34 3 rfl rfl)
theorem dL_law_954 : decode cL_law 954 = .ok (.iadd, 1) := dk_96 (dk_at dksL_law_34 4 rfl rfl)
theorem dL_law_955 : decode cL_law 955 = .ok (.iaload, 1) := dk_46 (dk_at dksL_law_34 5 rfl rfl)
theorem dL_law_956 : decode cL_law 956 = .ok (.invokevirtual 105, 3) := dk_182 0 105 (dk_at dksL_law_34 6 rfl rfl)
theorem dL_law_959 : decode cL_law 959 = .ok (.aload_n 2, 1) := dk_44 (dk_at dksL_law_34 9 rfl rfl)
theorem dL_law_960 : decode cL_law 960 = .ok (.aload_n 0, 1) := dk_42 (dk_at dksL_law_34 10 rfl rfl)
theorem dL_law_961 : decode cL_law 961 = .ok (.iload_n 3, 1) := dk_29 (dk_at dksL_law_34 11 rfl rfl)
theorem dL_law_962 : decode cL_law 962 = .ok (.iconst 1, 1) := dk_4 (dk_at dksL_law_34 12 rfl rfl)
theorem dL_law_963 : decode cL_law 963 = .ok (.iadd, 1) := dk_96 (dk_at dksL_law_34 13 rfl rfl)
theorem dL_law_964 : decode cL_law 964 = .ok (.iaload, 1) := dk_46 (dk_at dksL_law_34 14 rfl rfl)
theorem dL_law_965 : decode cL_law 965 = .ok (.aload_n 0, 1) := dk_42 (dk_at dksL_law_34 15 rfl rfl)
theorem dL_law_966 : decode cL_law 966 = .ok (.iload_n 3, 1) := dk_29 (dk_at dksL_law_34 16 rfl rfl)
theorem dL_law_967 : decode cL_law 967 = .ok (.iconst 2, 1) := dk_5 (dk_at dksL_law_34 17 rfl rfl)
theorem dL_law_968 : decode cL_law 968 = .ok (.iadd, 1) := dk_96 (dk_at dksL_law_34 18 rfl rfl)
theorem dL_law_969 : decode cL_law 969 = .ok (.iaload, 1) := dk_46 (dk_at dksL_law_34 19 rfl rfl)
theorem dL_law_970 : decode cL_law 970 = .ok (.invokevirtual 108, 3) := dk_182 0 108 (dk_at dksL_law_34 20 rfl rfl)
theorem dL_law_973 : decode cL_law 973 = .ok (.if_icmp .eq 552, 3) := dk_159 2 40 (dk_at dksL_law_35 0 rfl rfl)
theorem dL_law_976 : decode cL_law 976 = .ok (.iconst 0, 1) := dk_3 (dk_at dksL_law_35 3 rfl rfl)
theorem dL_law_977 : decode cL_law 977 = .ok (.ireturn, 1) := dk_172 (dk_at dksL_law_35 4 rfl rfl)
theorem dL_law_978 : decode cL_law 978 = .ok (.aload_n 1, 1) := dk_43 (dk_at dksL_law_35 5 rfl rfl)
theorem dL_law_979 : decode cL_law 979 = .ok (.invokevirtual 109, 3) := dk_182 0 109 (dk_at dksL_law_35 6 rfl rfl)
theorem dL_law_982 : decode cL_law 982 = .ok (.aload_n 2, 1) := dk_44 (dk_at dksL_law_35 9 rfl rfl)
theorem dL_law_983 : decode cL_law 983 = .ok (.invokevirtual 112, 3) := dk_182 0 112 (dk_at dksL_law_35 10 rfl rfl)
theorem dL_law_986 : decode cL_law 986 = .ok (.if_icmp .eq 539, 3) := dk_159 2 27 (dk_at dksL_law_35 13 rfl rfl)
theorem dL_law_989 : decode cL_law 989 = .ok (.iconst 0, 1) := dk_3 (dk_at dksL_law_35 16 rfl rfl)
theorem dL_law_990 : decode cL_law 990 = .ok (.ireturn, 1) := dk_172 (dk_at dksL_law_35 17 rfl rfl)
theorem dL_law_991 : decode cL_law 991 = .ok (.aload_n 1, 1) := dk_43 (dk_at dksL_law_35 18 rfl rfl)
theorem dL_law_992 : decode cL_law 992 = .ok (.aload_n 0, 1) := dk_42 (dk_at dksL_law_35 19 rfl rfl)
theorem dL_law_993 : decode cL_law 993 = .ok (.iload_n 3, 1) := dk_29 (dk_at dksL_law_35 20 rfl rfl)
theorem dL_law_994 : decode cL_law 994 = .ok (.iconst 1, 1) := dk_4 (dk_at dksL_law_35 21 rfl rfl)
theorem dL_law_995 : decode cL_law 995 = .ok (.iadd, 1) := dk_96 (dk_at dksL_law_35 22 rfl rfl)
theorem dL_law_996 : decode cL_law 996 = .ok (.iaload, 1) := dk_46 (dk_at dksL_law_35 23 rfl rfl)
theorem dL_law_997 : decode cL_law 997 = .ok (.aload_n 0, 1) := dk_42 (dk_at dksL_law_36 0 rfl rfl)
theorem dL_law_998 : decode cL_law 998 = .ok (.iload_n 3, 1) := dk_29 (dk_at dksL_law_36 1 rfl rfl)
theorem dL_law_999 : decode cL_law 999 = .ok (.iconst 2, 1) := dk_5 (dk_at dksL_law_36 2 rfl rfl)
theorem dL_law_1000 : decode cL_law 1000 = .ok (.iadd, 1) := dk_96 (dk_at dksL_law_36 3 rfl rfl)
theorem dL_law_1001 : decode cL_law 1001 = .ok (.iaload, 1) := dk_46 (dk_at dksL_law_36 4 rfl rfl)
theorem dL_law_1002 : decode cL_law 1002 = .ok (.invokevirtual 113, 3) := dk_182 0 113 (dk_at dksL_law_36 5 rfl rfl)
theorem dL_law_1005 : decode cL_law 1005 = .ok (.aload_n 2, 1) := dk_44 (dk_at dksL_law_36 8 rfl rfl)
theorem dL_law_1006 : decode cL_law 1006 = .ok (.aload_n 0, 1) := dk_42 (dk_at dksL_law_36 9 rfl rfl)
theorem dL_law_1007 : decode cL_law 1007 = .ok (.iload_n 3, 1) := dk_29 (dk_at dksL_law_36 10 rfl rfl)
theorem dL_law_1008 : decode cL_law 1008 = .ok (.iconst 1, 1) := dk_4 (dk_at dksL_law_36 11 rfl rfl)
theorem dL_law_1009 : decode cL_law 1009 = .ok (.iadd, 1) := dk_96 (dk_at dksL_law_36 12 rfl rfl)
theorem dL_law_1010 : decode cL_law 1010 = .ok (.iaload, 1) := dk_46 (dk_at dksL_law_36 13 rfl rfl)
theorem dL_law_1011 : decode cL_law 1011 = .ok (.aload_n 0, 1) := dk_42 (dk_at dksL_law_36 14 rfl rfl)
theorem dL_law_1012 : decode cL_law 1012 = .ok (.iload_n 3, 1) := dk_29 (dk_at dksL_law_36 15 rfl rfl)
theorem dL_law_1013 : decode cL_law 1013 = .ok (.iconst 2, 1) := dk_5 (dk_at dksL_law_36 16 rfl rfl)
theorem dL_law_1014 : decode cL_law 1014 = .ok (.iadd, 1) := dk_96 (dk_at dksL_law_36 17 rfl rfl)
theorem dL_law_1015 : decode cL_law 1015 = .ok (.iaload, 1) := dk_46 (dk_at dksL_law_36 18 rfl rfl)
theorem dL_law_1016 : decode cL_law 1016 = .ok (.invokevirtual 116, 3) := dk_182 0 116 (dk_at dksL_law_36 19 rfl rfl)
theorem dL_law_1019 : decode cL_law 1019 = .ok (.if_icmp .eq 506, 3) := dk_159 1 250 (dk_at dksL_law_37 0 rfl rfl)
theorem dL_law_1022 : decode cL_law 1022 = .ok (.iconst 0, 1) := dk_3 (dk_at dksL_law_37 3 rfl rfl)
theorem dL_law_1023 : decode cL_law 1023 = .ok (.ireturn, 1) := dk_172 (dk_at dksL_law_37 4 rfl rfl)
theorem dL_law_1024 : decode cL_law 1024 = .ok (.aload_n 1, 1) := dk_43 (dk_at dksL_law_37 5 rfl rfl)
theorem dL_law_1025 : decode cL_law 1025 = .ok (.aload_n 0, 1) := dk_42 (dk_at dksL_law_37 6 rfl rfl)
theorem dL_law_1026 : decode cL_law 1026 = .ok (.iload_n 3, 1) := dk_29 (dk_at dksL_law_37 7 rfl rfl)
theorem dL_law_1027 : decode cL_law 1027 = .ok (.iconst 1, 1) := dk_4 (dk_at dksL_law_37 8 rfl rfl)
theorem dL_law_1028 : decode cL_law 1028 = .ok (.iadd, 1) := dk_96 (dk_at dksL_law_37 9 rfl rfl)
theorem dL_law_1029 : decode cL_law 1029 = .ok (.iaload, 1) := dk_46 (dk_at dksL_law_37 10 rfl rfl)
theorem dL_law_1030 : decode cL_law 1030 = .ok (.invokevirtual 117, 3) := dk_182 0 117 (dk_at dksL_law_37 11 rfl rfl)
theorem dL_law_1033 : decode cL_law 1033 = .ok (.aload_n 2, 1) := dk_44 (dk_at dksL_law_37 14 rfl rfl)
theorem dL_law_1034 : decode cL_law 1034 = .ok (.aload_n 0, 1) := dk_42 (dk_at dksL_law_37 15 rfl rfl)
theorem dL_law_1035 : decode cL_law 1035 = .ok (.iload_n 3, 1) := dk_29 (dk_at dksL_law_37 16 rfl rfl)
theorem dL_law_1036 : decode cL_law 1036 = .ok (.iconst 1, 1) := dk_4 (dk_at dksL_law_37 17 rfl rfl)
theorem dL_law_1037 : decode cL_law 1037 = .ok (.iadd, 1) := dk_96 (dk_at dksL_law_37 18 rfl rfl)
theorem dL_law_1038 : decode cL_law 1038 = .ok (.iaload, 1) := dk_46 (dk_at dksL_law_37 19 rfl rfl)
theorem dL_law_1039 : decode cL_law 1039 = .ok (.invokevirtual 120, 3) := dk_182 0 120 (dk_at dksL_law_37 20 rfl rfl)
theorem dL_law_1042 : decode cL_law 1042 = .ok (.if_icmp .eq 483, 3) := dk_159 1 227 (dk_at dksL_law_38 0 rfl rfl)
theorem dL_law_1045 : decode cL_law 1045 = .ok (.iconst 0, 1) := dk_3 (dk_at dksL_law_38 3 rfl rfl)
theorem dL_law_1046 : decode cL_law 1046 = .ok (.ireturn, 1) := dk_172 (dk_at dksL_law_38 4 rfl rfl)
theorem dL_law_1047 : decode cL_law 1047 = .ok (.aload_n 1, 1) := dk_43 (dk_at dksL_law_38 5 rfl rfl)
theorem dL_law_1048 : decode cL_law 1048 = .ok (.aload_n 0, 1) := dk_42 (dk_at dksL_law_38 6 rfl rfl)
theorem dL_law_1049 : decode cL_law 1049 = .ok (.iload_n 3, 1) := dk_29 (dk_at dksL_law_38 7 rfl rfl)
theorem dL_law_1050 : decode cL_law 1050 = .ok (.iconst 1, 1) := dk_4 (dk_at dksL_law_38 8 rfl rfl)
theorem dL_law_1051 : decode cL_law 1051 = .ok (.iadd, 1) := dk_96 (dk_at dksL_law_38 9 rfl rfl)
theorem dL_law_1052 : decode cL_law 1052 = .ok (.iaload, 1) := dk_46 (dk_at dksL_law_38 10 rfl rfl)
theorem dL_law_1053 : decode cL_law 1053 = .ok (.aload_n 0, 1) := dk_42 (dk_at dksL_law_38 11 rfl rfl)
theorem dL_law_1054 : decode cL_law 1054 = .ok (.iload_n 3, 1) := dk_29 (dk_at dksL_law_38 12 rfl rfl)
theorem dL_law_1055 : decode cL_law 1055 = .ok (.iconst 2, 1) := dk_5 (dk_at dksL_law_38 13 rfl rfl)
theorem dL_law_1056 : decode cL_law 1056 = .ok (.iadd, 1) := dk_96 (dk_at dksL_law_38 14 rfl rfl)
theorem dL_law_1057 : decode cL_law 1057 = .ok (.iaload, 1) := dk_46 (dk_at dksL_law_38 15 rfl rfl)
theorem dL_law_1058 : decode cL_law 1058 = .ok (.aload_n 0, 1) := dk_42 (dk_at dksL_law_38 16 rfl rfl)
theorem dL_law_1059 : decode cL_law 1059 = .ok (.iload_n 3, 1) := dk_29 (dk_at dksL_law_38 17 rfl rfl)
theorem dL_law_1060 : decode cL_law 1060 = .ok (.iconst 3, 1) := dk_6 (dk_at dksL_law_38 18 rfl rfl)
theorem dL_law_1061 : decode cL_law 1061 = .ok (.iadd, 1) := dk_96 (dk_at dksL_law_38 19 rfl rfl)
theorem dL_law_1062 : decode cL_law 1062 = .ok (.iaload, 1) := dk_46 (dk_at dksL_law_38 20 rfl rfl)
theorem dL_law_1063 : decode cL_law 1063 = .ok (.invokevirtual 121, 3) := dk_182 0 121 (dk_at dksL_law_38 21 rfl rfl)
theorem dL_law_1066 : decode cL_law 1066 = .ok (.aload_n 2, 1) := dk_44 (dk_at dksL_law_39 0 rfl rfl)
theorem dL_law_1067 : decode cL_law 1067 = .ok (.aload_n 0, 1) := dk_42 (dk_at dksL_law_39 1 rfl rfl)
theorem dL_law_1068 : decode cL_law 1068 = .ok (.iload_n 3, 1) := dk_29 (dk_at dksL_law_39 2 rfl rfl)
theorem dL_law_1069 : decode cL_law 1069 = .ok (.iconst 1, 1) := dk_4 (dk_at dksL_law_39 3 rfl rfl)
theorem dL_law_1070 : decode cL_law 1070 = .ok (.iadd, 1) := dk_96 (dk_at dksL_law_39 4 rfl rfl)
theorem dL_law_1071 : decode cL_law 1071 = .ok (.iaload, 1) := dk_46 (dk_at dksL_law_39 5 rfl rfl)
theorem dL_law_1072 : decode cL_law 1072 = .ok (.aload_n 0, 1) := dk_42 (dk_at dksL_law_39 6 rfl rfl)
theorem dL_law_1073 : decode cL_law 1073 = .ok (.iload_n 3, 1) := dk_29 (dk_at dksL_law_39 7 rfl rfl)
theorem dL_law_1074 : decode cL_law 1074 = .ok (.iconst 2, 1) := dk_5 (dk_at dksL_law_39 8 rfl rfl)
theorem dL_law_1075 : decode cL_law 1075 = .ok (.iadd, 1) := dk_96 (dk_at dksL_law_39 9 rfl rfl)
theorem dL_law_1076 : decode cL_law 1076 = .ok (.iaload, 1) := dk_46 (dk_at dksL_law_39 10 rfl rfl)
theorem dL_law_1077 : decode cL_law 1077 = .ok (.aload_n 0, 1) := dk_42 (dk_at dksL_law_39 11 rfl rfl)
theorem dL_law_1078 : decode cL_law 1078 = .ok (.iload_n 3, 1) := dk_29 (dk_at dksL_law_39 12 rfl rfl)
theorem dL_law_1079 : decode cL_law 1079 = .ok (.iconst 3, 1) := dk_6 (dk_at dksL_law_39 13 rfl rfl)
theorem dL_law_1080 : decode cL_law 1080 = .ok (.iadd, 1) := dk_96 (dk_at dksL_law_39 14 rfl rfl)
theorem dL_law_1081 : decode cL_law 1081 = .ok (.iaload, 1) := dk_46 (dk_at dksL_law_39 15 rfl rfl)
theorem dL_law_1082 : decode cL_law 1082 = .ok (.invokevirtual 124, 3) := dk_182 0 124 (dk_at dksL_law_39 16 rfl rfl)
theorem dL_law_1085 : decode cL_law 1085 = .ok (.if_icmp .eq 440, 3) := dk_159 1 184 (dk_at dksL_law_39 19 rfl rfl)
theorem dL_law_1088 : decode cL_law 1088 = .ok (.iconst 0, 1) := dk_3 (dk_at dksL_law_39 22 rfl rfl)
theorem dL_law_1089 : decode cL_law 1089 = .ok (.ireturn, 1) := dk_172 (dk_at dksL_law_39 23 rfl rfl)
theorem dL_law_1090 : decode cL_law 1090 = .ok (.aload_n 1, 1) := dk_43 (dk_at dksL_law_40 0 rfl rfl)
theorem dL_law_1091 : decode cL_law 1091 = .ok (.aload_n 0, 1) := dk_42 (dk_at dksL_law_40 1 rfl rfl)
theorem dL_law_1092 : decode cL_law 1092 = .ok (.iload_n 3, 1) := dk_29 (dk_at dksL_law_40 2 rfl rfl)
theorem dL_law_1093 : decode cL_law 1093 = .ok (.iconst 1, 1) := dk_4 (dk_at dksL_law_40 3 rfl rfl)
theorem dL_law_1094 : decode cL_law 1094 = .ok (.iadd, 1) := dk_96 (dk_at dksL_law_40 4 rfl rfl)
theorem dL_law_1095 : decode cL_law 1095 = .ok (.iaload, 1) := dk_46 (dk_at dksL_law_40 5 rfl rfl)
theorem dL_law_1096 : decode cL_law 1096 = .ok (.aload_n 0, 1) := dk_42 (dk_at dksL_law_40 6 rfl rfl)
theorem dL_law_1097 : decode cL_law 1097 = .ok (.iload_n 3, 1) := dk_29 (dk_at dksL_law_40 7 rfl rfl)
theorem dL_law_1098 : decode cL_law 1098 = .ok (.iconst 2, 1) := dk_5 (dk_at dksL_law_40 8 rfl rfl)
theorem dL_law_1099 : decode cL_law 1099 = .ok (.iadd, 1) := dk_96 (dk_at dksL_law_40 9 rfl rfl)
theorem dL_law_1100 : decode cL_law 1100 = .ok (.iaload, 1) := dk_46 (dk_at dksL_law_40 10 rfl rfl)
theorem dL_law_1101 : decode cL_law 1101 = .ok (.aload_n 0, 1) := dk_42 (dk_at dksL_law_40 11 rfl rfl)
theorem dL_law_1102 : decode cL_law 1102 = .ok (.iload_n 3, 1) := dk_29 (dk_at dksL_law_40 12 rfl rfl)
theorem dL_law_1103 : decode cL_law 1103 = .ok (.iconst 3, 1) := dk_6 (dk_at dksL_law_40 13 rfl rfl)
theorem dL_law_1104 : decode cL_law 1104 = .ok (.iadd, 1) := dk_96 (dk_at dksL_law_40 14 rfl rfl)
theorem dL_law_1105 : decode cL_law 1105 = .ok (.iaload, 1) := dk_46 (dk_at dksL_law_40 15 rfl rfl)
theorem dL_law_1106 : decode cL_law 1106 = .ok (.invokevirtual 125, 3) := dk_182 0 125 (dk_at dksL_law_40 16 rfl rfl)
theorem dL_law_1109 : decode cL_law 1109 = .ok (.aload_n 2, 1) := dk_44 (dk_at dksL_law_40 19 rfl rfl)
theorem dL_law_1110 : decode cL_law 1110 = .ok (.aload_n 0, 1) := dk_42 (dk_at dksL_law_40 20 rfl rfl)
theorem dL_law_1111 : decode cL_law 1111 = .ok (.iload_n 3, 1) := dk_29 (dk_at dksL_law_40 21 rfl rfl)
theorem dL_law_1112 : decode cL_law 1112 = .ok (.iconst 1, 1) := dk_4 (dk_at dksL_law_40 22 rfl rfl)
theorem dL_law_1113 : decode cL_law 1113 = .ok (.iadd, 1) := dk_96 (dk_at dksL_law_40 23 rfl rfl)
theorem dL_law_1114 : decode cL_law 1114 = .ok (.iaload, 1) := dk_46 (dk_at dksL_law_41 0 rfl rfl)
theorem dL_law_1115 : decode cL_law 1115 = .ok (.aload_n 0, 1) := dk_42 (dk_at dksL_law_41 1 rfl rfl)
theorem dL_law_1116 : decode cL_law 1116 = .ok (.iload_n 3, 1) := dk_29 (dk_at dksL_law_41 2 rfl rfl)
theorem dL_law_1117 : decode cL_law 1117 = .ok (.iconst 2, 1) := dk_5 (dk_at dksL_law_41 3 rfl rfl)
theorem dL_law_1118 : decode cL_law 1118 = .ok (.iadd, 1) := dk_96 (dk_at dksL_law_41 4 rfl rfl)
theorem dL_law_1119 : decode cL_law 1119 = .ok (.iaload, 1) := dk_46 (dk_at dksL_law_41 5 rfl rfl)
theorem dL_law_1120 : decode cL_law 1120 = .ok (.aload_n 0, 1) := dk_42 (dk_at dksL_law_41 6 rfl rfl)
theorem dL_law_1121 : decode cL_law 1121 = .ok (.iload_n 3, 1) := dk_29 (dk_at dksL_law_41 7 rfl rfl)
theorem dL_law_1122 : decode cL_law 1122 = .ok (.iconst 3, 1) := dk_6 (dk_at dksL_law_41 8 rfl rfl)
theorem dL_law_1123 : decode cL_law 1123 = .ok (.iadd, 1) := dk_96 (dk_at dksL_law_41 9 rfl rfl)
theorem dL_law_1124 : decode cL_law 1124 = .ok (.iaload, 1) := dk_46 (dk_at dksL_law_41 10 rfl rfl)
theorem dL_law_1125 : decode cL_law 1125 = .ok (.invokevirtual 128, 3) := dk_182 0 128 (dk_at dksL_law_41 11 rfl rfl)
theorem dL_law_1128 : decode cL_law 1128 = .ok (.if_icmp .eq 397, 3) := dk_159 1 141 (dk_at dksL_law_41 14 rfl rfl)
theorem dL_law_1131 : decode cL_law 1131 = .ok (.iconst 0, 1) := dk_3 (dk_at dksL_law_41 17 rfl rfl)
theorem dL_law_1132 : decode cL_law 1132 = .ok (.ireturn, 1) := dk_172 (dk_at dksL_law_41 18 rfl rfl)
theorem dL_law_1133 : decode cL_law 1133 = .ok (.aload_n 1, 1) := dk_43 (dk_at dksL_law_41 19 rfl rfl)
theorem dL_law_1134 : decode cL_law 1134 = .ok (.aload_n 0, 1) := dk_42 (dk_at dksL_law_41 20 rfl rfl)
theorem dL_law_1135 : decode cL_law 1135 = .ok (.iload_n 3, 1) := dk_29 (dk_at dksL_law_41 21 rfl rfl)
theorem dL_law_1136 : decode cL_law 1136 = .ok (.iconst 1, 1) := dk_4 (dk_at dksL_law_41 22 rfl rfl)
theorem dL_law_1137 : decode cL_law 1137 = .ok (.iadd, 1) := dk_96 (dk_at dksL_law_41 23 rfl rfl)
theorem dL_law_1138 : decode cL_law 1138 = .ok (.iaload, 1) := dk_46 (dk_at dksL_law_42 0 rfl rfl)
theorem dL_law_1139 : decode cL_law 1139 = .ok (.invokevirtual 129, 3) := dk_182 0 129 (dk_at dksL_law_42 1 rfl rfl)
theorem dL_law_1142 : decode cL_law 1142 = .ok (.aload_n 2, 1) := dk_44 (dk_at dksL_law_42 4 rfl rfl)
theorem dL_law_1143 : decode cL_law 1143 = .ok (.aload_n 0, 1) := dk_42 (dk_at dksL_law_42 5 rfl rfl)
theorem dL_law_1144 : decode cL_law 1144 = .ok (.iload_n 3, 1) := dk_29 (dk_at dksL_law_42 6 rfl rfl)
theorem dL_law_1145 : decode cL_law 1145 = .ok (.iconst 1, 1) := dk_4 (dk_at dksL_law_42 7 rfl rfl)
theorem dL_law_1146 : decode cL_law 1146 = .ok (.iadd, 1) := dk_96 (dk_at dksL_law_42 8 rfl rfl)
theorem dL_law_1147 : decode cL_law 1147 = .ok (.iaload, 1) := dk_46 (dk_at dksL_law_42 9 rfl rfl)
theorem dL_law_1148 : decode cL_law 1148 = .ok (.invokevirtual 132, 3) := dk_182 0 132 (dk_at dksL_law_42 10 rfl rfl)
theorem dL_law_1151 : decode cL_law 1151 = .ok (.if_icmp .eq 374, 3) := dk_159 1 118 (dk_at dksL_law_42 13 rfl rfl)
theorem dL_law_1154 : decode cL_law 1154 = .ok (.iconst 0, 1) := dk_3 (dk_at dksL_law_42 16 rfl rfl)
theorem dL_law_1155 : decode cL_law 1155 = .ok (.ireturn, 1) := dk_172 (dk_at dksL_law_42 17 rfl rfl)
theorem dL_law_1156 : decode cL_law 1156 = .ok (.aload_n 1, 1) := dk_43 (dk_at dksL_law_42 18 rfl rfl)
theorem dL_law_1157 : decode cL_law 1157 = .ok (.aload_n 0, 1) := dk_42 (dk_at dksL_law_42 19 rfl rfl)
theorem dL_law_1158 : decode cL_law 1158 = .ok (.iload_n 3, 1) := dk_29 (dk_at dksL_law_42 20 rfl rfl)
theorem dL_law_1159 : decode cL_law 1159 = .ok (.iconst 1, 1) := dk_4 (dk_at dksL_law_42 21 rfl rfl)
theorem dL_law_1160 : decode cL_law 1160 = .ok (.iadd, 1) := dk_96 (dk_at dksL_law_42 22 rfl rfl)
theorem dL_law_1161 : decode cL_law 1161 = .ok (.iaload, 1) := dk_46 (dk_at dksL_law_42 23 rfl rfl)
theorem dL_law_1162 : decode cL_law 1162 = .ok (.aload_n 0, 1) := dk_42 (dk_at dksL_law_43 0 rfl rfl)
theorem dL_law_1163 : decode cL_law 1163 = .ok (.iload_n 3, 1) := dk_29 (dk_at dksL_law_43 1 rfl rfl)
theorem dL_law_1164 : decode cL_law 1164 = .ok (.iconst 2, 1) := dk_5 (dk_at dksL_law_43 2 rfl rfl)
theorem dL_law_1165 : decode cL_law 1165 = .ok (.iadd, 1) := dk_96 (dk_at dksL_law_43 3 rfl rfl)
theorem dL_law_1166 : decode cL_law 1166 = .ok (.iaload, 1) := dk_46 (dk_at dksL_law_43 4 rfl rfl)
theorem dL_law_1167 : decode cL_law 1167 = .ok (.aload_n 0, 1) := dk_42 (dk_at dksL_law_43 5 rfl rfl)
theorem dL_law_1168 : decode cL_law 1168 = .ok (.iload_n 3, 1) := dk_29 (dk_at dksL_law_43 6 rfl rfl)
theorem dL_law_1169 : decode cL_law 1169 = .ok (.iconst 3, 1) := dk_6 (dk_at dksL_law_43 7 rfl rfl)
theorem dL_law_1170 : decode cL_law 1170 = .ok (.iadd, 1) := dk_96 (dk_at dksL_law_43 8 rfl rfl)
theorem dL_law_1171 : decode cL_law 1171 = .ok (.iaload, 1) := dk_46 (dk_at dksL_law_43 9 rfl rfl)
theorem dL_law_1172 : decode cL_law 1172 = .ok (.invokevirtual 133, 3) := dk_182 0 133 (dk_at dksL_law_43 10 rfl rfl)
theorem dL_law_1175 : decode cL_law 1175 = .ok (.aload_n 2, 1) := dk_44 (dk_at dksL_law_43 13 rfl rfl)
theorem dL_law_1176 : decode cL_law 1176 = .ok (.aload_n 0, 1) := dk_42 (dk_at dksL_law_43 14 rfl rfl)
theorem dL_law_1177 : decode cL_law 1177 = .ok (.iload_n 3, 1) := dk_29 (dk_at dksL_law_43 15 rfl rfl)
theorem dL_law_1178 : decode cL_law 1178 = .ok (.iconst 1, 1) := dk_4 (dk_at dksL_law_43 16 rfl rfl)
theorem dL_law_1179 : decode cL_law 1179 = .ok (.iadd, 1) := dk_96 (dk_at dksL_law_43 17 rfl rfl)
theorem dL_law_1180 : decode cL_law 1180 = .ok (.iaload, 1) := dk_46 (dk_at dksL_law_43 18 rfl rfl)
theorem dL_law_1181 : decode cL_law 1181 = .ok (.aload_n 0, 1) := dk_42 (dk_at dksL_law_43 19 rfl rfl)
theorem dL_law_1182 : decode cL_law 1182 = .ok (.iload_n 3, 1) := dk_29 (dk_at dksL_law_43 20 rfl rfl)
theorem dL_law_1183 : decode cL_law 1183 = .ok (.iconst 2, 1) := dk_5 (dk_at dksL_law_43 21 rfl rfl)
theorem dL_law_1184 : decode cL_law 1184 = .ok (.iadd, 1) := dk_96 (dk_at dksL_law_43 22 rfl rfl)
theorem dL_law_1185 : decode cL_law 1185 = .ok (.iaload, 1) := dk_46 (dk_at dksL_law_43 23 rfl rfl)
theorem dL_law_1186 : decode cL_law 1186 = .ok (.aload_n 0, 1) := dk_42 (dk_at dksL_law_44 0 rfl rfl)
theorem dL_law_1187 : decode cL_law 1187 = .ok (.iload_n 3, 1) := dk_29 (dk_at dksL_law_44 1 rfl rfl)
theorem dL_law_1188 : decode cL_law 1188 = .ok (.iconst 3, 1) := dk_6 (dk_at dksL_law_44 2 rfl rfl)
theorem dL_law_1189 : decode cL_law 1189 = .ok (.iadd, 1) := dk_96 (dk_at dksL_law_44 3 rfl rfl)
theorem dL_law_1190 : decode cL_law 1190 = .ok (.iaload, 1) := dk_46 (dk_at dksL_law_44 4 rfl rfl)
theorem dL_law_1191 : decode cL_law 1191 = .ok (.invokevirtual 136, 3) := dk_182 0 136 (dk_at dksL_law_44 5 rfl rfl)
theorem dL_law_1194 : decode cL_law 1194 = .ok (.if_icmp .eq 331, 3) := dk_159 1 75 (dk_at dksL_law_44 8 rfl rfl)
theorem dL_law_1197 : decode cL_law 1197 = .ok (.iconst 0, 1) := dk_3 (dk_at dksL_law_44 11 rfl rfl)
theorem dL_law_1198 : decode cL_law 1198 = .ok (.ireturn, 1) := dk_172 (dk_at dksL_law_44 12 rfl rfl)
theorem dL_law_1199 : decode cL_law 1199 = .ok (.aload_n 1, 1) := dk_43 (dk_at dksL_law_44 13 rfl rfl)
theorem dL_law_1200 : decode cL_law 1200 = .ok (.aload_n 0, 1) := dk_42 (dk_at dksL_law_44 14 rfl rfl)
theorem dL_law_1201 : decode cL_law 1201 = .ok (.iload_n 3, 1) := dk_29 (dk_at dksL_law_44 15 rfl rfl)
theorem dL_law_1202 : decode cL_law 1202 = .ok (.iconst 1, 1) := dk_4 (dk_at dksL_law_44 16 rfl rfl)
theorem dL_law_1203 : decode cL_law 1203 = .ok (.iadd, 1) := dk_96 (dk_at dksL_law_44 17 rfl rfl)
theorem dL_law_1204 : decode cL_law 1204 = .ok (.iaload, 1) := dk_46 (dk_at dksL_law_44 18 rfl rfl)
theorem dL_law_1205 : decode cL_law 1205 = .ok (.invokevirtual 137, 3) := dk_182 0 137 (dk_at dksL_law_44 19 rfl rfl)
theorem dL_law_1208 : decode cL_law 1208 = .ok (.aload_n 2, 1) := dk_44 (dk_at dksL_law_44 22 rfl rfl)
theorem dL_law_1209 : decode cL_law 1209 = .ok (.aload_n 0, 1) := dk_42 (dk_at dksL_law_44 23 rfl rfl)
theorem dL_law_1210 : decode cL_law 1210 = .ok (.iload_n 3, 1) := dk_29 (dk_at dksL_law_45 0 rfl rfl)
theorem dL_law_1211 : decode cL_law 1211 = .ok (.iconst 1, 1) := dk_4 (dk_at dksL_law_45 1 rfl rfl)
theorem dL_law_1212 : decode cL_law 1212 = .ok (.iadd, 1) := dk_96 (dk_at dksL_law_45 2 rfl rfl)
theorem dL_law_1213 : decode cL_law 1213 = .ok (.iaload, 1) := dk_46 (dk_at dksL_law_45 3 rfl rfl)
theorem dL_law_1214 : decode cL_law 1214 = .ok (.invokevirtual 140, 3) := dk_182 0 140 (dk_at dksL_law_45 4 rfl rfl)
theorem dL_law_1217 : decode cL_law 1217 = .ok (.if_icmp .eq 308, 3) := dk_159 1 52 (dk_at dksL_law_45 7 rfl rfl)
theorem dL_law_1220 : decode cL_law 1220 = .ok (.iconst 0, 1) := dk_3 (dk_at dksL_law_45 10 rfl rfl)
theorem dL_law_1221 : decode cL_law 1221 = .ok (.ireturn, 1) := dk_172 (dk_at dksL_law_45 11 rfl rfl)
theorem dL_law_1222 : decode cL_law 1222 = .ok (.aload_n 1, 1) := dk_43 (dk_at dksL_law_45 12 rfl rfl)
theorem dL_law_1223 : decode cL_law 1223 = .ok (.aload_n 0, 1) := dk_42 (dk_at dksL_law_45 13 rfl rfl)
theorem dL_law_1224 : decode cL_law 1224 = .ok (.iload_n 3, 1) := dk_29 (dk_at dksL_law_45 14 rfl rfl)
theorem dL_law_1225 : decode cL_law 1225 = .ok (.iconst 1, 1) := dk_4 (dk_at dksL_law_45 15 rfl rfl)
theorem dL_law_1226 : decode cL_law 1226 = .ok (.iadd, 1) := dk_96 (dk_at dksL_law_45 16 rfl rfl)
theorem dL_law_1227 : decode cL_law 1227 = .ok (.iaload, 1) := dk_46 (dk_at dksL_law_45 17 rfl rfl)
theorem dL_law_1228 : decode cL_law 1228 = .ok (.aload_n 0, 1) := dk_42 (dk_at dksL_law_45 18 rfl rfl)
theorem dL_law_1229 : decode cL_law 1229 = .ok (.iload_n 3, 1) := dk_29 (dk_at dksL_law_45 19 rfl rfl)
theorem dL_law_1230 : decode cL_law 1230 = .ok (.iconst 2, 1) := dk_5 (dk_at dksL_law_45 20 rfl rfl)
theorem dL_law_1231 : decode cL_law 1231 = .ok (.iadd, 1) := dk_96 (dk_at dksL_law_45 21 rfl rfl)
theorem dL_law_1232 : decode cL_law 1232 = .ok (.iaload, 1) := dk_46 (dk_at dksL_law_45 22 rfl rfl)
theorem dL_law_1233 : decode cL_law 1233 = .ok (.aload_n 0, 1) := dk_42 (dk_at dksL_law_45 23 rfl rfl)
theorem dL_law_1234 : decode cL_law 1234 = .ok (.iload_n 3, 1) := dk_29 (dk_at dksL_law_46 0 rfl rfl)
theorem dL_law_1235 : decode cL_law 1235 = .ok (.iconst 3, 1) := dk_6 (dk_at dksL_law_46 1 rfl rfl)
theorem dL_law_1236 : decode cL_law 1236 = .ok (.iadd, 1) := dk_96 (dk_at dksL_law_46 2 rfl rfl)
theorem dL_law_1237 : decode cL_law 1237 = .ok (.iaload, 1) := dk_46 (dk_at dksL_law_46 3 rfl rfl)
theorem dL_law_1238 : decode cL_law 1238 = .ok (.invokevirtual 141, 3) := dk_182 0 141 (dk_at dksL_law_46 4 rfl rfl)
theorem dL_law_1241 : decode cL_law 1241 = .ok (.aload_n 2, 1) := dk_44 (dk_at dksL_law_46 7 rfl rfl)
theorem dL_law_1242 : decode cL_law 1242 = .ok (.aload_n 0, 1) := dk_42 (dk_at dksL_law_46 8 rfl rfl)
theorem dL_law_1243 : decode cL_law 1243 = .ok (.iload_n 3, 1) := dk_29 (dk_at dksL_law_46 9 rfl rfl)
theorem dL_law_1244 : decode cL_law 1244 = .ok (.iconst 1, 1) := dk_4 (dk_at dksL_law_46 10 rfl rfl)
theorem dL_law_1245 : decode cL_law 1245 = .ok (.iadd, 1) := dk_96 (dk_at dksL_law_46 11 rfl rfl)
theorem dL_law_1246 : decode cL_law 1246 = .ok (.iaload, 1) := dk_46 (dk_at dksL_law_46 12 rfl rfl)
theorem dL_law_1247 : decode cL_law 1247 = .ok (.aload_n 0, 1) := dk_42 (dk_at dksL_law_46 13 rfl rfl)
theorem dL_law_1248 : decode cL_law 1248 = .ok (.iload_n 3, 1) := dk_29 (dk_at dksL_law_46 14 rfl rfl)
theorem dL_law_1249 : decode cL_law 1249 = .ok (.iconst 2, 1) := dk_5 (dk_at dksL_law_46 15 rfl rfl)
theorem dL_law_1250 : decode cL_law 1250 = .ok (.iadd, 1) := dk_96 (dk_at dksL_law_46 16 rfl rfl)
theorem dL_law_1251 : decode cL_law 1251 = .ok (.iaload, 1) := dk_46 (dk_at dksL_law_46 17 rfl rfl)
theorem dL_law_1252 : decode cL_law 1252 = .ok (.aload_n 0, 1) := dk_42 (dk_at dksL_law_46 18 rfl rfl)
theorem dL_law_1253 : decode cL_law 1253 = .ok (.iload_n 3, 1) := dk_29 (dk_at dksL_law_46 19 rfl rfl)
theorem dL_law_1254 : decode cL_law 1254 = .ok (.iconst 3, 1) := dk_6 (dk_at dksL_law_46 20 rfl rfl)
theorem dL_law_1255 : decode cL_law 1255 = .ok (.iadd, 1) := dk_96 (dk_at dksL_law_46 21 rfl rfl)
theorem dL_law_1256 : decode cL_law 1256 = .ok (.iaload, 1) := dk_46 (dk_at dksL_law_46 22 rfl rfl)
theorem dL_law_1257 : decode cL_law 1257 = .ok (.invokevirtual 144, 3) := dk_182 0 144 (dk_at dksL_law_47 0 rfl rfl)
theorem dL_law_1260 : decode cL_law 1260 = .ok (.if_icmp .eq 265, 3) := dk_159 1 9 (dk_at dksL_law_47 3 rfl rfl)
theorem dL_law_1263 : decode cL_law 1263 = .ok (.iconst 0, 1) := dk_3 (dk_at dksL_law_47 6 rfl rfl)
theorem dL_law_1264 : decode cL_law 1264 = .ok (.ireturn, 1) := dk_172 (dk_at dksL_law_47 7 rfl rfl)
theorem dL_law_1265 : decode cL_law 1265 = .ok (.aload_n 1, 1) := dk_43 (dk_at dksL_law_47 8 rfl rfl)
theorem dL_law_1266 : decode cL_law 1266 = .ok (.aload_n 0, 1) := dk_42 (dk_at dksL_law_47 9 rfl rfl)
theorem dL_law_1267 : decode cL_law 1267 = .ok (.iload_n 3, 1) := dk_29 (dk_at dksL_law_47 10 rfl rfl)
theorem dL_law_1268 : decode cL_law 1268 = .ok (.iconst 1, 1) := dk_4 (dk_at dksL_law_47 11 rfl rfl)
theorem dL_law_1269 : decode cL_law 1269 = .ok (.iadd, 1) := dk_96 (dk_at dksL_law_47 12 rfl rfl)
theorem dL_law_1270 : decode cL_law 1270 = .ok (.iaload, 1) := dk_46 (dk_at dksL_law_47 13 rfl rfl)
theorem dL_law_1271 : decode cL_law 1271 = .ok (.aload_n 0, 1) := dk_42 (dk_at dksL_law_47 14 rfl rfl)
theorem dL_law_1272 : decode cL_law 1272 = .ok (.iload_n 3, 1) := dk_29 (dk_at dksL_law_47 15 rfl rfl)
theorem dL_law_1273 : decode cL_law 1273 = .ok (.iconst 2, 1) := dk_5 (dk_at dksL_law_47 16 rfl rfl)
theorem dL_law_1274 : decode cL_law 1274 = .ok (.iadd, 1) := dk_96 (dk_at dksL_law_47 17 rfl rfl)
theorem dL_law_1275 : decode cL_law 1275 = .ok (.iaload, 1) := dk_46 (dk_at dksL_law_47 18 rfl rfl)
theorem dL_law_1276 : decode cL_law 1276 = .ok (.aload_n 0, 1) := dk_42 (dk_at dksL_law_47 19 rfl rfl)
theorem dL_law_1277 : decode cL_law 1277 = .ok (.iload_n 3, 1) := dk_29 (dk_at dksL_law_47 20 rfl rfl)
theorem dL_law_1278 : decode cL_law 1278 = .ok (.iconst 3, 1) := dk_6 (dk_at dksL_law_47 21 rfl rfl)
theorem dL_law_1279 : decode cL_law 1279 = .ok (.iadd, 1) := dk_96 (dk_at dksL_law_47 22 rfl rfl)
theorem dL_law_1280 : decode cL_law 1280 = .ok (.iaload, 1) := dk_46 (dk_at dksL_law_47 23 rfl rfl)
theorem dL_law_1281 : decode cL_law 1281 = .ok (.invokevirtual 145, 3) := dk_182 0 145 (dk_at dksL_law_48 0 rfl rfl)
theorem dL_law_1284 : decode cL_law 1284 = .ok (.aload_n 2, 1) := dk_44 (dk_at dksL_law_48 3 rfl rfl)
theorem dL_law_1285 : decode cL_law 1285 = .ok (.aload_n 0, 1) := dk_42 (dk_at dksL_law_48 4 rfl rfl)
theorem dL_law_1286 : decode cL_law 1286 = .ok (.iload_n 3, 1) := dk_29 (dk_at dksL_law_48 5 rfl rfl)
theorem dL_law_1287 : decode cL_law 1287 = .ok (.iconst 1, 1) := dk_4 (dk_at dksL_law_48 6 rfl rfl)
theorem dL_law_1288 : decode cL_law 1288 = .ok (.iadd, 1) := dk_96 (dk_at dksL_law_48 7 rfl rfl)
theorem dL_law_1289 : decode cL_law 1289 = .ok (.iaload, 1) := dk_46 (dk_at dksL_law_48 8 rfl rfl)
theorem dL_law_1290 : decode cL_law 1290 = .ok (.aload_n 0, 1) := dk_42 (dk_at dksL_law_48 9 rfl rfl)
theorem dL_law_1291 : decode cL_law 1291 = .ok (.iload_n 3, 1) := dk_29 (dk_at dksL_law_48 10 rfl rfl)
theorem dL_law_1292 : decode cL_law 1292 = .ok (.iconst 2, 1) := dk_5 (dk_at dksL_law_48 11 rfl rfl)
theorem dL_law_1293 : decode cL_law 1293 = .ok (.iadd, 1) := dk_96 (dk_at dksL_law_48 12 rfl rfl)
theorem dL_law_1294 : decode cL_law 1294 = .ok (.iaload, 1) := dk_46 (dk_at dksL_law_48 13 rfl rfl)
theorem dL_law_1295 : decode cL_law 1295 = .ok (.aload_n 0, 1) := dk_42 (dk_at dksL_law_48 14 rfl rfl)
theorem dL_law_1296 : decode cL_law 1296 = .ok (.iload_n 3, 1) := dk_29 (dk_at dksL_law_48 15 rfl rfl)
theorem dL_law_1297 : decode cL_law 1297 = .ok (.iconst 3, 1) := dk_6 (dk_at dksL_law_48 16 rfl rfl)
theorem dL_law_1298 : decode cL_law 1298 = .ok (.iadd, 1) := dk_96 (dk_at dksL_law_48 17 rfl rfl)
theorem dL_law_1299 : decode cL_law 1299 = .ok (.iaload, 1) := dk_46 (dk_at dksL_law_48 18 rfl rfl)
theorem dL_law_1300 : decode cL_law 1300 = .ok (.invokevirtual 148, 3) := dk_182 0 148 (dk_at dksL_law_48 19 rfl rfl)
theorem dL_law_1303 : decode cL_law 1303 = .ok (.if_icmp .eq 222, 3) := dk_159 0 222 (dk_at dksL_law_49 0 rfl rfl)
theorem dL_law_1306 : decode cL_law 1306 = .ok (.iconst 0, 1) := dk_3 (dk_at dksL_law_49 3 rfl rfl)
theorem dL_law_1307 : decode cL_law 1307 = .ok (.ireturn, 1) := dk_172 (dk_at dksL_law_49 4 rfl rfl)
theorem dL_law_1308 : decode cL_law 1308 = .ok (.aload_n 1, 1) := dk_43 (dk_at dksL_law_49 5 rfl rfl)
theorem dL_law_1309 : decode cL_law 1309 = .ok (.aload_n 0, 1) := dk_42 (dk_at dksL_law_49 6 rfl rfl)
theorem dL_law_1310 : decode cL_law 1310 = .ok (.iload_n 3, 1) := dk_29 (dk_at dksL_law_49 7 rfl rfl)
theorem dL_law_1311 : decode cL_law 1311 = .ok (.iconst 1, 1) := dk_4 (dk_at dksL_law_49 8 rfl rfl)
theorem dL_law_1312 : decode cL_law 1312 = .ok (.iadd, 1) := dk_96 (dk_at dksL_law_49 9 rfl rfl)
theorem dL_law_1313 : decode cL_law 1313 = .ok (.iaload, 1) := dk_46 (dk_at dksL_law_49 10 rfl rfl)
theorem dL_law_1314 : decode cL_law 1314 = .ok (.aload_n 0, 1) := dk_42 (dk_at dksL_law_49 11 rfl rfl)
theorem dL_law_1315 : decode cL_law 1315 = .ok (.iload_n 3, 1) := dk_29 (dk_at dksL_law_49 12 rfl rfl)
theorem dL_law_1316 : decode cL_law 1316 = .ok (.iconst 2, 1) := dk_5 (dk_at dksL_law_49 13 rfl rfl)
theorem dL_law_1317 : decode cL_law 1317 = .ok (.iadd, 1) := dk_96 (dk_at dksL_law_49 14 rfl rfl)
theorem dL_law_1318 : decode cL_law 1318 = .ok (.iaload, 1) := dk_46 (dk_at dksL_law_49 15 rfl rfl)
theorem dL_law_1319 : decode cL_law 1319 = .ok (.aload_n 0, 1) := dk_42 (dk_at dksL_law_49 16 rfl rfl)
theorem dL_law_1320 : decode cL_law 1320 = .ok (.iload_n 3, 1) := dk_29 (dk_at dksL_law_49 17 rfl rfl)
theorem dL_law_1321 : decode cL_law 1321 = .ok (.iconst 3, 1) := dk_6 (dk_at dksL_law_49 18 rfl rfl)
theorem dL_law_1322 : decode cL_law 1322 = .ok (.iadd, 1) := dk_96 (dk_at dksL_law_49 19 rfl rfl)
theorem dL_law_1323 : decode cL_law 1323 = .ok (.iaload, 1) := dk_46 (dk_at dksL_law_49 20 rfl rfl)
theorem dL_law_1324 : decode cL_law 1324 = .ok (.aload_n 0, 1) := dk_42 (dk_at dksL_law_49 21 rfl rfl)
theorem dL_law_1325 : decode cL_law 1325 = .ok (.iload_n 3, 1) := dk_29 (dk_at dksL_law_49 22 rfl rfl)
theorem dL_law_1326 : decode cL_law 1326 = .ok (.iconst 4, 1) := dk_7 (dk_at dksL_law_49 23 rfl rfl)
theorem dL_law_1327 : decode cL_law 1327 = .ok (.iadd, 1) := dk_96 (dk_at dksL_law_50 0 rfl rfl)
theorem dL_law_1328 : decode cL_law 1328 = .ok (.iaload, 1) := dk_46 (dk_at dksL_law_50 1 rfl rfl)
theorem dL_law_1329 : decode cL_law 1329 = .ok (.aload_n 0, 1) := dk_42 (dk_at dksL_law_50 2 rfl rfl)
theorem dL_law_1330 : decode cL_law 1330 = .ok (.iload_n 3, 1) := dk_29 (dk_at dksL_law_50 3 rfl rfl)
theorem dL_law_1331 : decode cL_law 1331 = .ok (.iconst 5, 1) := dk_8 (dk_at dksL_law_50 4 rfl rfl)
theorem dL_law_1332 : decode cL_law 1332 = .ok (.iadd, 1) := dk_96 (dk_at dksL_law_50 5 rfl rfl)
theorem dL_law_1333 : decode cL_law 1333 = .ok (.iaload, 1) := dk_46 (dk_at dksL_law_50 6 rfl rfl)
theorem dL_law_1334 : decode cL_law 1334 = .ok (.invokevirtual 149, 3) := dk_182 0 149 (dk_at dksL_law_50 7 rfl rfl)
theorem dL_law_1337 : decode cL_law 1337 = .ok (.aload_n 2, 1) := dk_44 (dk_at dksL_law_50 10 rfl rfl)
theorem dL_law_1338 : decode cL_law 1338 = .ok (.aload_n 0, 1) := dk_42 (dk_at dksL_law_50 11 rfl rfl)
theorem dL_law_1339 : decode cL_law 1339 = .ok (.iload_n 3, 1) := dk_29 (dk_at dksL_law_50 12 rfl rfl)
theorem dL_law_1340 : decode cL_law 1340 = .ok (.iconst 1, 1) := dk_4 (dk_at dksL_law_50 13 rfl rfl)
theorem dL_law_1341 : decode cL_law 1341 = .ok (.iadd, 1) := dk_96 (dk_at dksL_law_50 14 rfl rfl)
theorem dL_law_1342 : decode cL_law 1342 = .ok (.iaload, 1) := dk_46 (dk_at dksL_law_50 15 rfl rfl)
theorem dL_law_1343 : decode cL_law 1343 = .ok (.aload_n 0, 1) := dk_42 (dk_at dksL_law_50 16 rfl rfl)
theorem dL_law_1344 : decode cL_law 1344 = .ok (.iload_n 3, 1) := dk_29 (dk_at dksL_law_50 17 rfl rfl)
theorem dL_law_1345 : decode cL_law 1345 = .ok (.iconst 2, 1) := dk_5 (dk_at dksL_law_50 18 rfl rfl)
theorem dL_law_1346 : decode cL_law 1346 = .ok (.iadd, 1) := dk_96 (dk_at dksL_law_50 19 rfl rfl)
theorem dL_law_1347 : decode cL_law 1347 = .ok (.iaload, 1) := dk_46 (dk_at dksL_law_50 20 rfl rfl)
theorem dL_law_1348 : decode cL_law 1348 = .ok (.aload_n 0, 1) := dk_42 (dk_at dksL_law_50 21 rfl rfl)
theorem dL_law_1349 : decode cL_law 1349 = .ok (.iload_n 3, 1) := dk_29 (dk_at dksL_law_50 22 rfl rfl)
theorem dL_law_1350 : decode cL_law 1350 = .ok (.iconst 3, 1) := dk_6 (dk_at dksL_law_50 23 rfl rfl)
theorem dL_law_1351 : decode cL_law 1351 = .ok (.iadd, 1) := dk_96 (dk_at dksL_law_51 0 rfl rfl)
theorem dL_law_1352 : decode cL_law 1352 = .ok (.iaload, 1) := dk_46 (dk_at dksL_law_51 1 rfl rfl)
theorem dL_law_1353 : decode cL_law 1353 = .ok (.aload_n 0, 1) := dk_42 (dk_at dksL_law_51 2 rfl rfl)
theorem dL_law_1354 : decode cL_law 1354 = .ok (.iload_n 3, 1) := dk_29 (dk_at dksL_law_51 3 rfl rfl)
theorem dL_law_1355 : decode cL_law 1355 = .ok (.iconst 4, 1) := dk_7 (dk_at dksL_law_51 4 rfl rfl)
theorem dL_law_1356 : decode cL_law 1356 = .ok (.iadd, 1) := dk_96 (dk_at dksL_law_51 5 rfl rfl)
theorem dL_law_1357 : decode cL_law 1357 = .ok (.iaload, 1) := dk_46 (dk_at dksL_law_51 6 rfl rfl)
theorem dL_law_1358 : decode cL_law 1358 = .ok (.aload_n 0, 1) := dk_42 (dk_at dksL_law_51 7 rfl rfl)
theorem dL_law_1359 : decode cL_law 1359 = .ok (.iload_n 3, 1) := dk_29 (dk_at dksL_law_51 8 rfl rfl)
theorem dL_law_1360 : decode cL_law 1360 = .ok (.iconst 5, 1) := dk_8 (dk_at dksL_law_51 9 rfl rfl)
theorem dL_law_1361 : decode cL_law 1361 = .ok (.iadd, 1) := dk_96 (dk_at dksL_law_51 10 rfl rfl)
theorem dL_law_1362 : decode cL_law 1362 = .ok (.iaload, 1) := dk_46 (dk_at dksL_law_51 11 rfl rfl)
theorem dL_law_1363 : decode cL_law 1363 = .ok (.invokevirtual 153, 3) := dk_182 0 153 (dk_at dksL_law_51 12 rfl rfl)
theorem dL_law_1366 : decode cL_law 1366 = .ok (.if_icmp .eq 159, 3) := dk_159 0 159 (dk_at dksL_law_51 15 rfl rfl)
theorem dL_law_1369 : decode cL_law 1369 = .ok (.iconst 0, 1) := dk_3 (dk_at dksL_law_51 18 rfl rfl)
theorem dL_law_1370 : decode cL_law 1370 = .ok (.ireturn, 1) := dk_172 (dk_at dksL_law_51 19 rfl rfl)
theorem dL_law_1371 : decode cL_law 1371 = .ok (.aload_n 1, 1) := dk_43 (dk_at dksL_law_51 20 rfl rfl)
theorem dL_law_1372 : decode cL_law 1372 = .ok (.aload_n 0, 1) := dk_42 (dk_at dksL_law_51 21 rfl rfl)
theorem dL_law_1373 : decode cL_law 1373 = .ok (.iload_n 3, 1) := dk_29 (dk_at dksL_law_51 22 rfl rfl)
theorem dL_law_1374 : decode cL_law 1374 = .ok (.iconst 1, 1) := dk_4 (dk_at dksL_law_51 23 rfl rfl)
theorem dL_law_1375 : decode cL_law 1375 = .ok (.iadd, 1) := dk_96 (dk_at dksL_law_52 0 rfl rfl)
theorem dL_law_1376 : decode cL_law 1376 = .ok (.iaload, 1) := dk_46 (dk_at dksL_law_52 1 rfl rfl)
theorem dL_law_1377 : decode cL_law 1377 = .ok (.invokevirtual 154, 3) := dk_182 0 154 (dk_at dksL_law_52 2 rfl rfl)
theorem dL_law_1380 : decode cL_law 1380 = .ok (.aload_n 2, 1) := dk_44 (dk_at dksL_law_52 5 rfl rfl)
theorem dL_law_1381 : decode cL_law 1381 = .ok (.aload_n 0, 1) := dk_42 (dk_at dksL_law_52 6 rfl rfl)
theorem dL_law_1382 : decode cL_law 1382 = .ok (.iload_n 3, 1) := dk_29 (dk_at dksL_law_52 7 rfl rfl)
theorem dL_law_1383 : decode cL_law 1383 = .ok (.iconst 1, 1) := dk_4 (dk_at dksL_law_52 8 rfl rfl)
theorem dL_law_1384 : decode cL_law 1384 = .ok (.iadd, 1) := dk_96 (dk_at dksL_law_52 9 rfl rfl)
theorem dL_law_1385 : decode cL_law 1385 = .ok (.iaload, 1) := dk_46 (dk_at dksL_law_52 10 rfl rfl)
theorem dL_law_1386 : decode cL_law 1386 = .ok (.invokevirtual 157, 3) := dk_182 0 157 (dk_at dksL_law_52 11 rfl rfl)
theorem dL_law_1389 : decode cL_law 1389 = .ok (.if_icmp .eq 136, 3) := dk_159 0 136 (dk_at dksL_law_52 14 rfl rfl)
theorem dL_law_1392 : decode cL_law 1392 = .ok (.iconst 0, 1) := dk_3 (dk_at dksL_law_52 17 rfl rfl)
theorem dL_law_1393 : decode cL_law 1393 = .ok (.ireturn, 1) := dk_172 (dk_at dksL_law_52 18 rfl rfl)
theorem dL_law_1394 : decode cL_law 1394 = .ok (.aload_n 1, 1) := dk_43 (dk_at dksL_law_52 19 rfl rfl)
theorem dL_law_1395 : decode cL_law 1395 = .ok (.aload_n 0, 1) := dk_42 (dk_at dksL_law_52 20 rfl rfl)
theorem dL_law_1396 : decode cL_law 1396 = .ok (.iload_n 3, 1) := dk_29 (dk_at dksL_law_52 21 rfl rfl)
theorem dL_law_1397 : decode cL_law 1397 = .ok (.iconst 1, 1) := dk_4 (dk_at dksL_law_52 22 rfl rfl)
theorem dL_law_1398 : decode cL_law 1398 = .ok (.iadd, 1) := dk_96 (dk_at dksL_law_52 23 rfl rfl)
theorem dL_law_1399 : decode cL_law 1399 = .ok (.iaload, 1) := dk_46 (dk_at dksL_law_53 0 rfl rfl)
theorem dL_law_1400 : decode cL_law 1400 = .ok (.invokevirtual 158, 3) := dk_182 0 158 (dk_at dksL_law_53 1 rfl rfl)
theorem dL_law_1403 : decode cL_law 1403 = .ok (.aload_n 2, 1) := dk_44 (dk_at dksL_law_53 4 rfl rfl)
theorem dL_law_1404 : decode cL_law 1404 = .ok (.aload_n 0, 1) := dk_42 (dk_at dksL_law_53 5 rfl rfl)
theorem dL_law_1405 : decode cL_law 1405 = .ok (.iload_n 3, 1) := dk_29 (dk_at dksL_law_53 6 rfl rfl)
theorem dL_law_1406 : decode cL_law 1406 = .ok (.iconst 1, 1) := dk_4 (dk_at dksL_law_53 7 rfl rfl)
theorem dL_law_1407 : decode cL_law 1407 = .ok (.iadd, 1) := dk_96 (dk_at dksL_law_53 8 rfl rfl)
theorem dL_law_1408 : decode cL_law 1408 = .ok (.iaload, 1) := dk_46 (dk_at dksL_law_53 9 rfl rfl)
theorem dL_law_1409 : decode cL_law 1409 = .ok (.invokevirtual 161, 3) := dk_182 0 161 (dk_at dksL_law_53 10 rfl rfl)
theorem dL_law_1412 : decode cL_law 1412 = .ok (.if_icmp .eq 113, 3) := dk_159 0 113 (dk_at dksL_law_53 13 rfl rfl)
theorem dL_law_1415 : decode cL_law 1415 = .ok (.iconst 0, 1) := dk_3 (dk_at dksL_law_53 16 rfl rfl)
theorem dL_law_1416 : decode cL_law 1416 = .ok (.ireturn, 1) := dk_172 (dk_at dksL_law_53 17 rfl rfl)
theorem dL_law_1417 : decode cL_law 1417 = .ok (.aload_n 1, 1) := dk_43 (dk_at dksL_law_53 18 rfl rfl)
theorem dL_law_1418 : decode cL_law 1418 = .ok (.invokevirtual 162, 3) := dk_182 0 162 (dk_at dksL_law_53 19 rfl rfl)
theorem dL_law_1421 : decode cL_law 1421 = .ok (.aload_n 2, 1) := dk_44 (dk_at dksL_law_53 22 rfl rfl)
theorem dL_law_1422 : decode cL_law 1422 = .ok (.invokevirtual 165, 3) := dk_182 0 165 (dk_at dksL_law_54 0 rfl rfl)
theorem dL_law_1425 : decode cL_law 1425 = .ok (.if_icmp .eq 100, 3) := dk_159 0 100 (dk_at dksL_law_54 3 rfl rfl)
theorem dL_law_1428 : decode cL_law 1428 = .ok (.iconst 0, 1) := dk_3 (dk_at dksL_law_54 6 rfl rfl)
theorem dL_law_1429 : decode cL_law 1429 = .ok (.ireturn, 1) := dk_172 (dk_at dksL_law_54 7 rfl rfl)
theorem dL_law_1430 : decode cL_law 1430 = .ok (.aload_n 1, 1) := dk_43 (dk_at dksL_law_54 8 rfl rfl)
theorem dL_law_1431 : decode cL_law 1431 = .ok (.invokevirtual 166, 3) := dk_182 0 166 (dk_at dksL_law_54 9 rfl rfl)
theorem dL_law_1434 : decode cL_law 1434 = .ok (.aload_n 2, 1) := dk_44 (dk_at dksL_law_54 12 rfl rfl)
theorem dL_law_1435 : decode cL_law 1435 = .ok (.invokevirtual 169, 3) := dk_182 0 169 (dk_at dksL_law_54 13 rfl rfl)
theorem dL_law_1438 : decode cL_law 1438 = .ok (.if_icmp .eq 87, 3) := dk_159 0 87 (dk_at dksL_law_54 16 rfl rfl)
theorem dL_law_1441 : decode cL_law 1441 = .ok (.iconst 0, 1) := dk_3 (dk_at dksL_law_54 19 rfl rfl)
theorem dL_law_1442 : decode cL_law 1442 = .ok (.ireturn, 1) := dk_172 (dk_at dksL_law_54 20 rfl rfl)
theorem dL_law_1443 : decode cL_law 1443 = .ok (.aload_n 1, 1) := dk_43 (dk_at dksL_law_54 21 rfl rfl)
theorem dL_law_1444 : decode cL_law 1444 = .ok (.aload_n 0, 1) := dk_42 (dk_at dksL_law_54 22 rfl rfl)
theorem dL_law_1445 : decode cL_law 1445 = .ok (.iload_n 3, 1) := dk_29 (dk_at dksL_law_54 23 rfl rfl)
theorem dL_law_1446 : decode cL_law 1446 = .ok (.iconst 1, 1) := dk_4 (dk_at dksL_law_55 0 rfl rfl)
theorem dL_law_1447 : decode cL_law 1447 = .ok (.iadd, 1) := dk_96 (dk_at dksL_law_55 1 rfl rfl)
theorem dL_law_1448 : decode cL_law 1448 = .ok (.iaload, 1) := dk_46 (dk_at dksL_law_55 2 rfl rfl)
theorem dL_law_1449 : decode cL_law 1449 = .ok (.invokevirtual 170, 3) := dk_182 0 170 (dk_at dksL_law_55 3 rfl rfl)
theorem dL_law_1452 : decode cL_law 1452 = .ok (.aload_n 2, 1) := dk_44 (dk_at dksL_law_55 6 rfl rfl)
theorem dL_law_1453 : decode cL_law 1453 = .ok (.aload_n 0, 1) := dk_42 (dk_at dksL_law_55 7 rfl rfl)
theorem dL_law_1454 : decode cL_law 1454 = .ok (.iload_n 3, 1) := dk_29 (dk_at dksL_law_55 8 rfl rfl)
theorem dL_law_1455 : decode cL_law 1455 = .ok (.iconst 1, 1) := dk_4 (dk_at dksL_law_55 9 rfl rfl)
theorem dL_law_1456 : decode cL_law 1456 = .ok (.iadd, 1) := dk_96 (dk_at dksL_law_55 10 rfl rfl)
theorem dL_law_1457 : decode cL_law 1457 = .ok (.iaload, 1) := dk_46 (dk_at dksL_law_55 11 rfl rfl)
theorem dL_law_1458 : decode cL_law 1458 = .ok (.invokevirtual 173, 3) := dk_182 0 173 (dk_at dksL_law_55 12 rfl rfl)
theorem dL_law_1461 : decode cL_law 1461 = .ok (.if_icmp .eq 64, 3) := dk_159 0 64 (dk_at dksL_law_55 15 rfl rfl)
theorem dL_law_1464 : decode cL_law 1464 = .ok (.iconst 0, 1) := dk_3 (dk_at dksL_law_55 18 rfl rfl)
theorem dL_law_1465 : decode cL_law 1465 = .ok (.ireturn, 1) := dk_172 (dk_at dksL_law_55 19 rfl rfl)
theorem dL_law_1466 : decode cL_law 1466 = .ok (.aload_n 1, 1) := dk_43 (dk_at dksL_law_55 20 rfl rfl)
theorem dL_law_1467 : decode cL_law 1467 = .ok (.invokevirtual 174, 3) := dk_182 0 174 (dk_at dksL_law_55 21 rfl rfl)
theorem dL_law_1470 : decode cL_law 1470 = .ok (.aload_n 2, 1) := dk_44 (dk_at dksL_law_56 0 rfl rfl)
theorem dL_law_1471 : decode cL_law 1471 = .ok (.invokevirtual 177, 3) := dk_182 0 177 (dk_at dksL_law_56 1 rfl rfl)
theorem dL_law_1474 : decode cL_law 1474 = .ok (.if_icmp .eq 51, 3) := dk_159 0 51 (dk_at dksL_law_56 4 rfl rfl)
theorem dL_law_1477 : decode cL_law 1477 = .ok (.iconst 0, 1) := dk_3 (dk_at dksL_law_56 7 rfl rfl)
theorem dL_law_1478 : decode cL_law 1478 = .ok (.ireturn, 1) := dk_172 (dk_at dksL_law_56 8 rfl rfl)
theorem dL_law_1479 : decode cL_law 1479 = .ok (.aload_n 1, 1) := dk_43 (dk_at dksL_law_56 9 rfl rfl)
theorem dL_law_1480 : decode cL_law 1480 = .ok (.aload_n 0, 1) := dk_42 (dk_at dksL_law_56 10 rfl rfl)
theorem dL_law_1481 : decode cL_law 1481 = .ok (.iload_n 3, 1) := dk_29 (dk_at dksL_law_56 11 rfl rfl)
theorem dL_law_1482 : decode cL_law 1482 = .ok (.iconst 1, 1) := dk_4 (dk_at dksL_law_56 12 rfl rfl)
theorem dL_law_1483 : decode cL_law 1483 = .ok (.iadd, 1) := dk_96 (dk_at dksL_law_56 13 rfl rfl)
theorem dL_law_1484 : decode cL_law 1484 = .ok (.iaload, 1) := dk_46 (dk_at dksL_law_56 14 rfl rfl)
theorem dL_law_1485 : decode cL_law 1485 = .ok (.invokevirtual 178, 3) := dk_182 0 178 (dk_at dksL_law_56 15 rfl rfl)
theorem dL_law_1488 : decode cL_law 1488 = .ok (.aload_n 2, 1) := dk_44 (dk_at dksL_law_56 18 rfl rfl)
theorem dL_law_1489 : decode cL_law 1489 = .ok (.aload_n 0, 1) := dk_42 (dk_at dksL_law_56 19 rfl rfl)
theorem dL_law_1490 : decode cL_law 1490 = .ok (.iload_n 3, 1) := dk_29 (dk_at dksL_law_56 20 rfl rfl)
theorem dL_law_1491 : decode cL_law 1491 = .ok (.iconst 1, 1) := dk_4 (dk_at dksL_law_56 21 rfl rfl)
theorem dL_law_1492 : decode cL_law 1492 = .ok (.iadd, 1) := dk_96 (dk_at dksL_law_56 22 rfl rfl)
theorem dL_law_1493 : decode cL_law 1493 = .ok (.iaload, 1) := dk_46 (dk_at dksL_law_56 23 rfl rfl)
theorem dL_law_1494 : decode cL_law 1494 = .ok (.invokevirtual 181, 3) := dk_182 0 181 (dk_at dksL_law_57 0 rfl rfl)
theorem dL_law_1497 : decode cL_law 1497 = .ok (.if_icmp .eq 28, 3) := dk_159 0 28 (dk_at dksL_law_57 3 rfl rfl)
theorem dL_law_1500 : decode cL_law 1500 = .ok (.iconst 0, 1) := dk_3 (dk_at dksL_law_57 6 rfl rfl)
theorem dL_law_1501 : decode cL_law 1501 = .ok (.ireturn, 1) := dk_172 (dk_at dksL_law_57 7 rfl rfl)
theorem dL_law_1502 : decode cL_law 1502 = .ok (.aload_n 1, 1) := dk_43 (dk_at dksL_law_57 8 rfl rfl)
theorem dL_law_1503 : decode cL_law 1503 = .ok (.aload_n 0, 1) := dk_42 (dk_at dksL_law_57 9 rfl rfl)
theorem dL_law_1504 : decode cL_law 1504 = .ok (.iload_n 3, 1) := dk_29 (dk_at dksL_law_57 10 rfl rfl)
theorem dL_law_1505 : decode cL_law 1505 = .ok (.iconst 1, 1) := dk_4 (dk_at dksL_law_57 11 rfl rfl)
theorem dL_law_1506 : decode cL_law 1506 = .ok (.iadd, 1) := dk_96 (dk_at dksL_law_57 12 rfl rfl)
theorem dL_law_1507 : decode cL_law 1507 = .ok (.iaload, 1) := dk_46 (dk_at dksL_law_57 13 rfl rfl)
theorem dL_law_1508 : decode cL_law 1508 = .ok (.invokevirtual 182, 3) := dk_182 0 182 (dk_at dksL_law_57 14 rfl rfl)
theorem dL_law_1511 : decode cL_law 1511 = .ok (.aload_n 2, 1) := dk_44 (dk_at dksL_law_57 17 rfl rfl)
theorem dL_law_1512 : decode cL_law 1512 = .ok (.aload_n 0, 1) := dk_42 (dk_at dksL_law_57 18 rfl rfl)
theorem dL_law_1513 : decode cL_law 1513 = .ok (.iload_n 3, 1) := dk_29 (dk_at dksL_law_57 19 rfl rfl)
theorem dL_law_1514 : decode cL_law 1514 = .ok (.iconst 1, 1) := dk_4 (dk_at dksL_law_57 20 rfl rfl)
theorem dL_law_1515 : decode cL_law 1515 = .ok (.iadd, 1) := dk_96 (dk_at dksL_law_57 21 rfl rfl)
theorem dL_law_1516 : decode cL_law 1516 = .ok (.iaload, 1) := dk_46 (dk_at dksL_law_57 22 rfl rfl)
theorem dL_law_1517 : decode cL_law 1517 = .ok (.invokevirtual 185, 3) := dk_182 0 185 (dk_at dksL_law_58 0 rfl rfl)
theorem dL_law_1520 : decode cL_law 1520 = .ok (.if_icmp .eq 5, 3) := dk_159 0 5 (dk_at dksL_law_58 3 rfl rfl)
theorem dL_law_1523 : decode cL_law 1523 = .ok (.iconst 0, 1) := dk_3 (dk_at dksL_law_58 6 rfl rfl)
theorem dL_law_1524 : decode cL_law 1524 = .ok (.ireturn, 1) := dk_172 (dk_at dksL_law_58 7 rfl rfl)
theorem dL_law_1525 : decode cL_law 1525 = .ok (.iinc 3 6, 3) := dk_132 3 6 (dk_at dksL_law_58 8 rfl rfl)
theorem dL_law_1528 : decode cL_law 1528 = .ok (.goto (-1510), 3) := dk_167 250 26 (dk_at dksL_law_58 11 rfl rfl)
theorem dL_law_1531 : decode cL_law 1531 = .ok (.iconst 1, 1) := dk_4 (dk_at dksL_law_58 14 rfl rfl)
theorem dL_law_1532 : decode cL_law 1532 = .ok (.ireturn, 1) := dk_172 (dk_at dksL_law_58 15 rfl rfl)

theorem q79 : (Jvm.Cond.initialized "WellNamesLaw") ∈ lw_all := lw_g (lw_at lw_m1 0 rfl) rfl
set_option maxRecDepth 100000
theorem q116 : (Jvm.Cond.classLink "WellNamesLaw" (7 : Nat) "WellNames") ∈ lw_all := lw_g (lw_at lw_m1 37 rfl) rfl
theorem q118 : (Jvm.Cond.methodLink "WellNamesLaw" (9 : Nat) ({ cls := "WellNames", name := "<init>", desc := "()V" } : Jvm.MethodName)) ∈ lw_all := lw_g (lw_at lw_m1 39 rfl) rfl
theorem q357 : (Jvm.Cond.methodLink "WellNamesLaw" (13 : Nat) ({ cls := "WellNames", name := "water", desc := "(II)I" } : Jvm.MethodName)) ∈ lw_all := lw_g (lw_at lw_m2 38 rfl) rfl
theorem q380 : (Jvm.Cond.methodLink "WellNamesLaw" (18 : Nat) ({ cls := "WellNames", name := "road", desc := "(III)I" } : Jvm.MethodName)) ∈ lw_all := lw_g (lw_at lw_m2 61 rfl) rfl
theorem q391 : (Jvm.Cond.methodLink "WellNamesLaw" (23 : Nat) ({ cls := "WellNames", name := "owe", desc := "(III)I" } : Jvm.MethodName)) ∈ lw_all := lw_g (lw_at lw_m2 72 rfl) rfl
theorem q395 : (Jvm.Cond.methodLink "WellNamesLaw" (27 : Nat) ({ cls := "WellNames", name := "ofWell", desc := "(II)I" } : Jvm.MethodName)) ∈ lw_all := lw_g (lw_at lw_m2 76 rfl) rfl
theorem q403 : (Jvm.Cond.methodLink "WellNamesLaw" (31 : Nat) ({ cls := "WellNames", name := "rain", desc := "(I)I" } : Jvm.MethodName)) ∈ lw_all := lw_g (lw_at lw_m2 84 rfl) rfl
theorem q407 : (Jvm.Cond.methodLink "WellNamesLaw" (36 : Nat) ({ cls := "WellNames", name := "person", desc := "(II)I" } : Jvm.MethodName)) ∈ lw_all := lw_g (lw_at lw_m2 88 rfl) rfl
theorem q517 : (Jvm.Cond.methodLink "WellNamesLaw" (40 : Nat) ({ cls := "WellNames", name := "ofPerson", desc := "(II)I" } : Jvm.MethodName)) ∈ lw_all := lw_g (lw_at lw_m2 198 rfl) rfl
theorem q631 : (Jvm.Cond.methodLink "WellNamesLaw" (44 : Nat) ({ cls := "WellNames", name := "become", desc := "(II)I" } : Jvm.MethodName)) ∈ lw_all := lw_g (lw_at lw_m3 72 rfl) rfl
theorem q635 : (Jvm.Cond.methodLink "WellNamesLaw" (48 : Nat) ({ cls := "WellNames", name := "as", desc := "(II)I" } : Jvm.MethodName)) ∈ lw_all := lw_g (lw_at lw_m3 76 rfl) rfl
theorem q668 : (Jvm.Cond.methodLink "WellNamesLaw" (54 : Nat) ({ cls := "WellNames", name := "feed", desc := "(JI)I" } : Jvm.MethodName)) ∈ lw_all := lw_g (lw_at lw_m3 109 rfl) rfl
theorem q672 : (Jvm.Cond.methodLink "WellNamesLaw" (59 : Nat) ({ cls := "WellNames", name := "text", desc := "(I)I" } : Jvm.MethodName)) ∈ lw_all := lw_g (lw_at lw_m3 113 rfl) rfl
theorem q903 : (Jvm.Cond.methodLink "WellNamesLaw" (63 : Nat) ({ cls := "WellNames", name := "law", desc := "(IIII)I" } : Jvm.MethodName)) ∈ lw_all := lw_g (lw_at lw_m4 104 rfl) rfl
theorem q912 : (Jvm.Cond.methodLink "WellNamesLaw" (68 : Nat) ({ cls := "WellNames", name := "drink", desc := "(I)I" } : Jvm.MethodName)) ∈ lw_all := lw_g (lw_at lw_m4 113 rfl) rfl
theorem q948 : (Jvm.Cond.methodLink "WellNamesLaw" (72 : Nat) ({ cls := "WellNames", name := "go", desc := "(II)I" } : Jvm.MethodName)) ∈ lw_all := lw_g (lw_at lw_m4 149 rfl) rfl
theorem q968 : (Jvm.Cond.methodLink "WellNamesLaw" (76 : Nat) ({ cls := "WellNames", name := "pay", desc := "(III)I" } : Jvm.MethodName)) ∈ lw_all := lw_g (lw_at lw_m4 169 rfl) rfl
theorem q972 : (Jvm.Cond.methodLink "WellNamesLaw" (80 : Nat) ({ cls := "WellNames", name := "days", desc := "(I)I" } : Jvm.MethodName)) ∈ lw_all := lw_g (lw_at lw_m4 173 rfl) rfl
theorem q988 : (Jvm.Cond.methodLink "WellNamesLaw" (84 : Nat) ({ cls := "WellNames", name := "loose", desc := "(I)I" } : Jvm.MethodName)) ∈ lw_all := lw_g (lw_at lw_m4 189 rfl) rfl
theorem q1002 : (Jvm.Cond.methodLink "WellNamesLaw" (88 : Nat) ({ cls := "WellNames", name := "same", desc := "()I" } : Jvm.MethodName)) ∈ lw_all := lw_g (lw_at lw_m4 203 rfl) rfl
theorem q1006 : (Jvm.Cond.methodLink "WellNamesLaw" (93 : Nat) ({ cls := "WellNames", name := "soonest", desc := "(III)I" } : Jvm.MethodName)) ∈ lw_all := lw_g (lw_at lw_m4 207 rfl) rfl
theorem q1044 : (Jvm.Cond.methodLink "WellNamesLaw" (97 : Nat) ({ cls := "WellNames", name := "drinks", desc := "(III)I" } : Jvm.MethodName)) ∈ lw_all := lw_g (lw_at lw_m5 5 rfl) rfl
theorem q1048 : (Jvm.Cond.methodLink "WellNamesLaw" (101 : Nat) ({ cls := "WellNames", name := "reach", desc := "(III)I" } : Jvm.MethodName)) ∈ lw_all := lw_g (lw_at lw_m5 9 rfl) rfl
theorem q1056 : (Jvm.Cond.methodLink "WellNamesLaw" (105 : Nat) ({ cls := "WellNames", name := "dry", desc := "(II)I" } : Jvm.MethodName)) ∈ lw_all := lw_g (lw_at lw_m5 17 rfl) rfl
theorem q1066 : (Jvm.Cond.methodLink "WellNamesLaw" (109 : Nat) ({ cls := "WellNames", name := "net", desc := "()I" } : Jvm.MethodName)) ∈ lw_all := lw_g (lw_at lw_m5 27 rfl) rfl
theorem q1070 : (Jvm.Cond.methodLink "WellNamesLaw" (113 : Nat) ({ cls := "WellNames", name := "shortest", desc := "(II)I" } : Jvm.MethodName)) ∈ lw_all := lw_g (lw_at lw_m5 31 rfl) rfl
theorem q1074 : (Jvm.Cond.methodLink "WellNamesLaw" (117 : Nat) ({ cls := "WellNames", name := "walked", desc := "(I)I" } : Jvm.MethodName)) ∈ lw_all := lw_g (lw_at lw_m5 35 rfl) rfl
theorem q1114 : (Jvm.Cond.methodLink "WellNamesLaw" (121 : Nat) ({ cls := "WellNames", name := "alive", desc := "(III)I" } : Jvm.MethodName)) ∈ lw_all := lw_g (lw_at lw_m5 75 rfl) rfl
theorem q1118 : (Jvm.Cond.methodLink "WellNamesLaw" (125 : Nat) ({ cls := "WellNames", name := "grown", desc := "(III)I" } : Jvm.MethodName)) ∈ lw_all := lw_g (lw_at lw_m5 79 rfl) rfl
theorem q1122 : (Jvm.Cond.methodLink "WellNamesLaw" (129 : Nat) ({ cls := "WellNames", name := "seed", desc := "(I)I" } : Jvm.MethodName)) ∈ lw_all := lw_g (lw_at lw_m5 83 rfl) rfl
theorem q1126 : (Jvm.Cond.methodLink "WellNamesLaw" (133 : Nat) ({ cls := "WellNames", name := "voice", desc := "(III)I" } : Jvm.MethodName)) ∈ lw_all := lw_g (lw_at lw_m5 87 rfl) rfl
theorem q1299 : (Jvm.Cond.methodLink "WellNamesLaw" (137 : Nat) ({ cls := "WellNames", name := "trace", desc := "(I)I" } : Jvm.MethodName)) ∈ lw_all := lw_g (lw_at lw_m6 20 rfl) rfl
theorem q1303 : (Jvm.Cond.methodLink "WellNamesLaw" (154 : Nat) ({ cls := "WellNames", name := "waters", desc := "(I)I" } : Jvm.MethodName)) ∈ lw_all := lw_g (lw_at lw_m6 24 rfl) rfl
theorem q1307 : (Jvm.Cond.methodLink "WellNamesLaw" (158 : Nat) ({ cls := "WellNames", name := "judge", desc := "(I)I" } : Jvm.MethodName)) ∈ lw_all := lw_g (lw_at lw_m6 28 rfl) rfl
theorem q1311 : (Jvm.Cond.methodLink "WellNamesLaw" (141 : Nat) ({ cls := "WellNames", name := "sheet", desc := "(III)I" } : Jvm.MethodName)) ∈ lw_all := lw_g (lw_at lw_m6 32 rfl) rfl
theorem q1352 : (Jvm.Cond.methodLink "WellNamesLaw" (145 : Nat) ({ cls := "WellNames", name := "put", desc := "(III)I" } : Jvm.MethodName)) ∈ lw_all := lw_g (lw_at lw_m6 73 rfl) rfl
theorem q1368 : (Jvm.Cond.methodLink "WellNamesLaw" (149 : Nat) ({ cls := "WellNames", name := "move", desc := "(IIIII)I" } : Jvm.MethodName)) ∈ lw_all := lw_g (lw_at lw_m6 89 rfl) rfl
theorem q1393 : (Jvm.Cond.methodLink "WellNamesLaw" (162 : Nat) ({ cls := "WellNames", name := "image", desc := "()I" } : Jvm.MethodName)) ∈ lw_all := lw_g (lw_at lw_m6 114 rfl) rfl
theorem q1404 : (Jvm.Cond.methodLink "WellNamesLaw" (166 : Nat) ({ cls := "WellNames", name := "restore", desc := "()I" } : Jvm.MethodName)) ∈ lw_all := lw_g (lw_at lw_m6 125 rfl) rfl
theorem q1408 : (Jvm.Cond.methodLink "WellNamesLaw" (170 : Nat) ({ cls := "WellNames", name := "tell", desc := "(I)I" } : Jvm.MethodName)) ∈ lw_all := lw_g (lw_at lw_m6 129 rfl) rfl
theorem q1412 : (Jvm.Cond.methodLink "WellNamesLaw" (174 : Nat) ({ cls := "WellNames", name := "check", desc := "()I" } : Jvm.MethodName)) ∈ lw_all := lw_g (lw_at lw_m6 133 rfl) rfl
theorem q1416 : (Jvm.Cond.methodLink "WellNamesLaw" (178 : Nat) ({ cls := "WellNames", name := "count", desc := "(I)I" } : Jvm.MethodName)) ∈ lw_all := lw_g (lw_at lw_m6 137 rfl) rfl
theorem q1420 : (Jvm.Cond.methodLink "WellNamesLaw" (182 : Nat) ({ cls := "WellNames", name := "told", desc := "(I)I" } : Jvm.MethodName)) ∈ lw_all := lw_g (lw_at lw_m6 141 rfl) rfl
theorem q1424 : (Jvm.Cond.classLink "WellNamesLaw" (10 : Nat) "WellNamesModel") ∈ lw_all := lw_g (lw_at lw_m6 145 rfl) rfl
theorem q1426 : (Jvm.Cond.methodLink "WellNamesLaw" (12 : Nat) ({ cls := "WellNamesModel", name := "<init>", desc := "()V" } : Jvm.MethodName)) ∈ lw_all := lw_g (lw_at lw_m6 147 rfl) rfl
theorem q1506 : (Jvm.Cond.methodLink "WellNamesLaw" (17 : Nat) ({ cls := "WellNamesModel", name := "water", desc := "(II)I" } : Jvm.MethodName)) ∈ lw_all := lw_g (lw_at lw_m6 227 rfl) rfl
theorem q1528 : (Jvm.Cond.methodLink "WellNamesLaw" (22 : Nat) ({ cls := "WellNamesModel", name := "road", desc := "(III)I" } : Jvm.MethodName)) ∈ lw_all := lw_g (lw_at lw_m7 9 rfl) rfl
theorem q1533 : (Jvm.Cond.methodLink "WellNamesLaw" (26 : Nat) ({ cls := "WellNamesModel", name := "owe", desc := "(III)I" } : Jvm.MethodName)) ∈ lw_all := lw_g (lw_at lw_m7 14 rfl) rfl
theorem q1538 : (Jvm.Cond.methodLink "WellNamesLaw" (30 : Nat) ({ cls := "WellNamesModel", name := "ofWell", desc := "(II)I" } : Jvm.MethodName)) ∈ lw_all := lw_g (lw_at lw_m7 19 rfl) rfl
theorem q1566 : (Jvm.Cond.methodLink "WellNamesLaw" (35 : Nat) ({ cls := "WellNamesModel", name := "rain", desc := "(I)I" } : Jvm.MethodName)) ∈ lw_all := lw_g (lw_at lw_m7 47 rfl) rfl
theorem q1571 : (Jvm.Cond.methodLink "WellNamesLaw" (39 : Nat) ({ cls := "WellNamesModel", name := "person", desc := "(II)I" } : Jvm.MethodName)) ∈ lw_all := lw_g (lw_at lw_m7 52 rfl) rfl
theorem q1580 : (Jvm.Cond.methodLink "WellNamesLaw" (43 : Nat) ({ cls := "WellNamesModel", name := "ofPerson", desc := "(II)I" } : Jvm.MethodName)) ∈ lw_all := lw_g (lw_at lw_m7 61 rfl) rfl
theorem q1653 : (Jvm.Cond.methodLink "WellNamesLaw" (47 : Nat) ({ cls := "WellNamesModel", name := "become", desc := "(II)I" } : Jvm.MethodName)) ∈ lw_all := lw_g (lw_at lw_m7 134 rfl) rfl
theorem q1657 : (Jvm.Cond.methodLink "WellNamesLaw" (51 : Nat) ({ cls := "WellNamesModel", name := "as", desc := "(II)I" } : Jvm.MethodName)) ∈ lw_all := lw_g (lw_at lw_m7 138 rfl) rfl
theorem q1666 : (Jvm.Cond.methodLink "WellNamesLaw" (58 : Nat) ({ cls := "WellNamesModel", name := "feed", desc := "(JI)I" } : Jvm.MethodName)) ∈ lw_all := lw_g (lw_at lw_m7 147 rfl) rfl
theorem q1671 : (Jvm.Cond.methodLink "WellNamesLaw" (62 : Nat) ({ cls := "WellNamesModel", name := "text", desc := "(I)I" } : Jvm.MethodName)) ∈ lw_all := lw_g (lw_at lw_m7 152 rfl) rfl
theorem q1675 : (Jvm.Cond.methodLink "WellNamesLaw" (67 : Nat) ({ cls := "WellNamesModel", name := "law", desc := "(IIII)I" } : Jvm.MethodName)) ∈ lw_all := lw_g (lw_at lw_m7 156 rfl) rfl
theorem q1683 : (Jvm.Cond.methodLink "WellNamesLaw" (71 : Nat) ({ cls := "WellNamesModel", name := "drink", desc := "(I)I" } : Jvm.MethodName)) ∈ lw_all := lw_g (lw_at lw_m7 164 rfl) rfl
theorem q1692 : (Jvm.Cond.methodLink "WellNamesLaw" (75 : Nat) ({ cls := "WellNamesModel", name := "go", desc := "(II)I" } : Jvm.MethodName)) ∈ lw_all := lw_g (lw_at lw_m7 173 rfl) rfl
theorem q1705 : (Jvm.Cond.methodLink "WellNamesLaw" (79 : Nat) ({ cls := "WellNamesModel", name := "pay", desc := "(III)I" } : Jvm.MethodName)) ∈ lw_all := lw_g (lw_at lw_m7 186 rfl) rfl
theorem q1709 : (Jvm.Cond.methodLink "WellNamesLaw" (83 : Nat) ({ cls := "WellNamesModel", name := "days", desc := "(I)I" } : Jvm.MethodName)) ∈ lw_all := lw_g (lw_at lw_m7 190 rfl) rfl
theorem q1725 : (Jvm.Cond.methodLink "WellNamesLaw" (87 : Nat) ({ cls := "WellNamesModel", name := "loose", desc := "(I)I" } : Jvm.MethodName)) ∈ lw_all := lw_g (lw_at lw_m7 206 rfl) rfl
theorem q1734 : (Jvm.Cond.methodLink "WellNamesLaw" (92 : Nat) ({ cls := "WellNamesModel", name := "same", desc := "()I" } : Jvm.MethodName)) ∈ lw_all := lw_g (lw_at lw_m7 215 rfl) rfl
theorem q1741 : (Jvm.Cond.methodLink "WellNamesLaw" (96 : Nat) ({ cls := "WellNamesModel", name := "soonest", desc := "(III)I" } : Jvm.MethodName)) ∈ lw_all := lw_g (lw_at lw_m7 222 rfl) rfl
theorem q1774 : (Jvm.Cond.methodLink "WellNamesLaw" (100 : Nat) ({ cls := "WellNamesModel", name := "drinks", desc := "(III)I" } : Jvm.MethodName)) ∈ lw_all := lw_g (lw_at lw_m8 15 rfl) rfl
theorem q1778 : (Jvm.Cond.methodLink "WellNamesLaw" (104 : Nat) ({ cls := "WellNamesModel", name := "reach", desc := "(III)I" } : Jvm.MethodName)) ∈ lw_all := lw_g (lw_at lw_m8 19 rfl) rfl
theorem q1786 : (Jvm.Cond.methodLink "WellNamesLaw" (108 : Nat) ({ cls := "WellNamesModel", name := "dry", desc := "(II)I" } : Jvm.MethodName)) ∈ lw_all := lw_g (lw_at lw_m8 27 rfl) rfl
theorem q1790 : (Jvm.Cond.methodLink "WellNamesLaw" (112 : Nat) ({ cls := "WellNamesModel", name := "net", desc := "()I" } : Jvm.MethodName)) ∈ lw_all := lw_g (lw_at lw_m8 31 rfl) rfl
theorem q1794 : (Jvm.Cond.methodLink "WellNamesLaw" (116 : Nat) ({ cls := "WellNamesModel", name := "shortest", desc := "(II)I" } : Jvm.MethodName)) ∈ lw_all := lw_g (lw_at lw_m8 35 rfl) rfl
theorem q1798 : (Jvm.Cond.methodLink "WellNamesLaw" (120 : Nat) ({ cls := "WellNamesModel", name := "walked", desc := "(I)I" } : Jvm.MethodName)) ∈ lw_all := lw_g (lw_at lw_m8 39 rfl) rfl
theorem q1810 : (Jvm.Cond.methodLink "WellNamesLaw" (124 : Nat) ({ cls := "WellNamesModel", name := "alive", desc := "(III)I" } : Jvm.MethodName)) ∈ lw_all := lw_g (lw_at lw_m8 51 rfl) rfl
theorem q1814 : (Jvm.Cond.methodLink "WellNamesLaw" (128 : Nat) ({ cls := "WellNamesModel", name := "grown", desc := "(III)I" } : Jvm.MethodName)) ∈ lw_all := lw_g (lw_at lw_m8 55 rfl) rfl
theorem q1819 : (Jvm.Cond.methodLink "WellNamesLaw" (132 : Nat) ({ cls := "WellNamesModel", name := "seed", desc := "(I)I" } : Jvm.MethodName)) ∈ lw_all := lw_g (lw_at lw_m8 60 rfl) rfl
theorem q1823 : (Jvm.Cond.methodLink "WellNamesLaw" (136 : Nat) ({ cls := "WellNamesModel", name := "voice", desc := "(III)I" } : Jvm.MethodName)) ∈ lw_all := lw_g (lw_at lw_m8 64 rfl) rfl
theorem q1871 : (Jvm.Cond.methodLink "WellNamesLaw" (140 : Nat) ({ cls := "WellNamesModel", name := "trace", desc := "(I)I" } : Jvm.MethodName)) ∈ lw_all := lw_g (lw_at lw_m8 112 rfl) rfl
theorem q1875 : (Jvm.Cond.methodLink "WellNamesLaw" (144 : Nat) ({ cls := "WellNamesModel", name := "sheet", desc := "(III)I" } : Jvm.MethodName)) ∈ lw_all := lw_g (lw_at lw_m8 116 rfl) rfl
theorem q1879 : (Jvm.Cond.methodLink "WellNamesLaw" (148 : Nat) ({ cls := "WellNamesModel", name := "put", desc := "(III)I" } : Jvm.MethodName)) ∈ lw_all := lw_g (lw_at lw_m8 120 rfl) rfl
theorem q1887 : (Jvm.Cond.methodLink "WellNamesLaw" (153 : Nat) ({ cls := "WellNamesModel", name := "move", desc := "(IIIII)I" } : Jvm.MethodName)) ∈ lw_all := lw_g (lw_at lw_m8 128 rfl) rfl
theorem q1891 : (Jvm.Cond.methodLink "WellNamesLaw" (157 : Nat) ({ cls := "WellNamesModel", name := "waters", desc := "(I)I" } : Jvm.MethodName)) ∈ lw_all := lw_g (lw_at lw_m8 132 rfl) rfl
theorem q1895 : (Jvm.Cond.methodLink "WellNamesLaw" (161 : Nat) ({ cls := "WellNamesModel", name := "judge", desc := "(I)I" } : Jvm.MethodName)) ∈ lw_all := lw_g (lw_at lw_m8 136 rfl) rfl
theorem q1899 : (Jvm.Cond.methodLink "WellNamesLaw" (165 : Nat) ({ cls := "WellNamesModel", name := "image", desc := "()I" } : Jvm.MethodName)) ∈ lw_all := lw_g (lw_at lw_m8 140 rfl) rfl
theorem q1903 : (Jvm.Cond.methodLink "WellNamesLaw" (169 : Nat) ({ cls := "WellNamesModel", name := "restore", desc := "()I" } : Jvm.MethodName)) ∈ lw_all := lw_g (lw_at lw_m8 144 rfl) rfl
theorem q1907 : (Jvm.Cond.methodLink "WellNamesLaw" (173 : Nat) ({ cls := "WellNamesModel", name := "tell", desc := "(I)I" } : Jvm.MethodName)) ∈ lw_all := lw_g (lw_at lw_m8 148 rfl) rfl
theorem q1911 : (Jvm.Cond.methodLink "WellNamesLaw" (177 : Nat) ({ cls := "WellNamesModel", name := "check", desc := "()I" } : Jvm.MethodName)) ∈ lw_all := lw_g (lw_at lw_m8 152 rfl) rfl
theorem q1923 : (Jvm.Cond.methodLink "WellNamesLaw" (181 : Nat) ({ cls := "WellNamesModel", name := "count", desc := "(I)I" } : Jvm.MethodName)) ∈ lw_all := lw_g (lw_at lw_m8 164 rfl) rfl
theorem q1931 : (Jvm.Cond.methodLink "WellNamesLaw" (185 : Nat) ({ cls := "WellNamesModel", name := "told", desc := "(I)I" } : Jvm.MethodName)) ∈ lw_all := lw_g (lw_at lw_m8 172 rfl) rfl
theorem q1936 : (Jvm.Cond.constantLong "WellNamesLaw" (52 : Nat) (4294967295 : Int64)) ∈ lw_all := lw_g (lw_at lw_m8 177 rfl) rfl
