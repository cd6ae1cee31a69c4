/-! the law's own entry -/
set_option maxRecDepth 100000
abbrev cL_law : ByteArray := code
def dkwL_law_50 : List UInt8 := [172, 132, 3, 6, 167, 250, 216, 4, 172]
abbrev dktL_law_50 : List UInt8 := dkwL_law_50 ++ []
def dkwL_law_49 : List UInt8 := [4, 96, 46, 182, 0, 182, 159, 0, 19, 3, 172, 43, 182, 0, 183, 44, 182, 0, 186, 148, 153, 0, 5, 3]
abbrev dktL_law_49 : List UInt8 := dkwL_law_49 ++ dktL_law_50
def dkwL_law_48 : List UInt8 := [182, 0, 175, 44, 182, 0, 178, 159, 0, 42, 3, 172, 43, 42, 29, 4, 96, 46, 182, 0, 179, 44, 42, 29]
abbrev dktL_law_48 : List UInt8 := dkwL_law_48 ++ dktL_law_49
def dkwL_law_47 : List UInt8 := [42, 29, 4, 96, 46, 182, 0, 171, 44, 42, 29, 4, 96, 46, 182, 0, 174, 159, 0, 55, 3, 172, 43]
abbrev dktL_law_47 : List UInt8 := dkwL_law_47 ++ dktL_law_48
def dkwL_law_46 : List UInt8 := [182, 0, 166, 148, 153, 0, 92, 3, 172, 43, 182, 0, 167, 44, 182, 0, 170, 148, 153, 0, 78, 3, 172, 43]
abbrev dktL_law_46 : List UInt8 := dkwL_law_46 ++ dktL_law_47
def dkwL_law_45 : List UInt8 := [159, 0, 119, 3, 172, 43, 182, 0, 158, 44, 182, 0, 161, 159, 0, 106, 3, 172, 43, 182, 0, 162, 44]
abbrev dktL_law_45 : List UInt8 := dkwL_law_45 ++ dktL_law_46
def dkwL_law_44 : List UInt8 := [46, 42, 29, 5, 96, 46, 182, 0, 154, 44, 42, 29, 4, 96, 46, 42, 29, 5, 96, 46, 182, 0, 157]
abbrev dktL_law_44 : List UInt8 := dkwL_law_44 ++ dktL_law_45
def dkwL_law_43 : List UInt8 := [44, 42, 29, 4, 96, 46, 42, 29, 5, 96, 46, 182, 0, 153, 159, 0, 152, 3, 172, 43, 42, 29, 4, 96]
abbrev dktL_law_43 : List UInt8 := dkwL_law_43 ++ dktL_law_44
def dkwL_law_42 : List UInt8 := [96, 46, 182, 0, 149, 159, 0, 185, 3, 172, 43, 42, 29, 4, 96, 46, 42, 29, 5, 96, 46, 182, 0, 150]
abbrev dktL_law_42 : List UInt8 := dkwL_law_42 ++ dktL_law_43
def dkwL_law_41 : List UInt8 := [4, 96, 46, 182, 0, 145, 159, 0, 208, 3, 172, 43, 42, 29, 4, 96, 46, 182, 0, 146, 44, 42, 29, 4]
abbrev dktL_law_41 : List UInt8 := dkwL_law_41 ++ dktL_law_42
def dkwL_law_40 : List UInt8 := [29, 4, 96, 46, 182, 0, 141, 159, 0, 231, 3, 172, 43, 42, 29, 4, 96, 46, 182, 0, 142, 44, 42, 29]
abbrev dktL_law_40 : List UInt8 := dkwL_law_40 ++ dktL_law_41
def dkwL_law_39 : List UInt8 := [42, 29, 6, 96, 46, 182, 0, 137, 159, 0, 254, 3, 172, 43, 42, 29, 4, 96, 46, 182, 0, 138, 44, 42]
abbrev dktL_law_39 : List UInt8 := dkwL_law_39 ++ dktL_law_40
def dkwL_law_38 : List UInt8 := [42, 29, 5, 96, 46, 42, 29, 6, 96, 46, 182, 0, 134, 44, 42, 29, 4, 96, 46, 42, 29, 5, 96, 46]
abbrev dktL_law_38 : List UInt8 := dkwL_law_38 ++ dktL_law_39
def dkwL_law_37 : List UInt8 := [46, 182, 0, 130, 44, 42, 29, 4, 96, 46, 182, 0, 133, 159, 1, 41, 3, 172, 43, 42, 29, 4, 96, 46]
abbrev dktL_law_37 : List UInt8 := dkwL_law_37 ++ dktL_law_38
def dkwL_law_36 : List UInt8 := [44, 42, 29, 4, 96, 46, 42, 29, 5, 96, 46, 182, 0, 129, 159, 1, 64, 3, 172, 43, 42, 29, 4, 96]
abbrev dktL_law_36 : List UInt8 := dkwL_law_36 ++ dktL_law_37
def dkwL_law_35 : List UInt8 := [96, 46, 182, 0, 125, 159, 1, 97, 3, 172, 43, 42, 29, 4, 96, 46, 42, 29, 5, 96, 46, 182, 0, 126]
abbrev dktL_law_35 : List UInt8 := dkwL_law_35 ++ dktL_law_36
def dkwL_law_34 : List UInt8 := [5, 96, 46, 182, 0, 121, 159, 1, 120, 3, 172, 43, 42, 29, 4, 96, 46, 182, 0, 122, 44, 42, 29, 4]
abbrev dktL_law_34 : List UInt8 := dkwL_law_34 ++ dktL_law_35
def dkwL_law_33 : List UInt8 := [3, 172, 43, 42, 29, 4, 96, 46, 42, 29, 5, 96, 46, 182, 0, 118, 44, 42, 29, 4, 96, 46, 42, 29]
abbrev dktL_law_33 : List UInt8 := dkwL_law_33 ++ dktL_law_34
def dkwL_law_32 : List UInt8 := [29, 5, 96, 46, 182, 0, 114, 44, 42, 29, 4, 96, 46, 42, 29, 5, 96, 46, 182, 0, 117, 159, 1, 153]
abbrev dktL_law_32 : List UInt8 := dkwL_law_32 ++ dktL_law_33
def dkwL_law_31 : List UInt8 := [29, 4, 96, 46, 42, 29, 5, 96, 46, 182, 0, 113, 159, 1, 186, 3, 172, 43, 42, 29, 4, 96, 46, 42]
abbrev dktL_law_31 : List UInt8 := dkwL_law_31 ++ dktL_law_32
def dkwL_law_30 : List UInt8 := [182, 0, 109, 159, 1, 219, 3, 172, 43, 42, 29, 4, 96, 46, 42, 29, 5, 96, 46, 182, 0, 110, 44, 42]
abbrev dktL_law_30 : List UInt8 := dkwL_law_30 ++ dktL_law_31
def dkwL_law_29 : List UInt8 := [182, 0, 105, 159, 1, 242, 3, 172, 43, 42, 29, 4, 96, 46, 182, 0, 106, 44, 42, 29, 4, 96, 46]
abbrev dktL_law_29 : List UInt8 := dkwL_law_29 ++ dktL_law_30
def dkwL_law_28 : List UInt8 := [182, 0, 101, 159, 2, 9, 3, 172, 43, 42, 29, 4, 96, 46, 182, 0, 102, 44, 42, 29, 4, 96, 46]
abbrev dktL_law_28 : List UInt8 := dkwL_law_28 ++ dktL_law_29
def dkwL_law_27 : List UInt8 := [182, 0, 97, 159, 2, 32, 3, 172, 43, 42, 29, 4, 96, 46, 182, 0, 98, 44, 42, 29, 4, 96, 46]
abbrev dktL_law_27 : List UInt8 := dkwL_law_27 ++ dktL_law_28
def dkwL_law_26 : List UInt8 := [44, 182, 0, 93, 159, 2, 55, 3, 172, 43, 42, 29, 4, 96, 46, 182, 0, 94, 44, 42, 29, 4, 96, 46]
abbrev dktL_law_26 : List UInt8 := dkwL_law_26 ++ dktL_law_27
def dkwL_law_25 : List UInt8 := [4, 96, 46, 182, 0, 85, 44, 42, 29, 4, 96, 46, 182, 0, 88, 159, 2, 68, 3, 172, 43, 182, 0, 89]
abbrev dktL_law_25 : List UInt8 := dkwL_law_25 ++ dktL_law_26
def dkwL_law_24 : List UInt8 := [29, 4, 96, 46, 182, 0, 81, 44, 42, 29, 4, 96, 46, 182, 0, 84, 159, 2, 91, 3, 172, 43, 42, 29]
abbrev dktL_law_24 : List UInt8 := dkwL_law_24 ++ dktL_law_25
def dkwL_law_23 : List UInt8 := [42, 29, 4, 96, 46, 182, 0, 77, 44, 42, 29, 4, 96, 46, 182, 0, 80, 159, 2, 114, 3, 172, 43, 42]
abbrev dktL_law_23 : List UInt8 := dkwL_law_23 ++ dktL_law_24
def dkwL_law_22 : List UInt8 := [43, 42, 29, 4, 96, 46, 182, 0, 73, 44, 42, 29, 4, 96, 46, 182, 0, 76, 159, 2, 137, 3, 172, 43]
abbrev dktL_law_22 : List UInt8 := dkwL_law_22 ++ dktL_law_23
def dkwL_law_21 : List UInt8 := [172, 43, 42, 29, 4, 96, 46, 182, 0, 69, 44, 42, 29, 4, 96, 46, 182, 0, 72, 159, 2, 160, 3, 172]
abbrev dktL_law_21 : List UInt8 := dkwL_law_21 ++ dktL_law_22
def dkwL_law_20 : List UInt8 := [3, 172, 43, 42, 29, 4, 96, 46, 182, 0, 65, 44, 42, 29, 4, 96, 46, 182, 0, 68, 159, 2, 183, 3]
abbrev dktL_law_20 : List UInt8 := dkwL_law_20 ++ dktL_law_21
def dkwL_law_19 : List UInt8 := [29, 5, 96, 46, 182, 0, 61, 44, 42, 29, 4, 96, 46, 42, 29, 5, 96, 46, 182, 0, 64, 159, 2, 206]
abbrev dktL_law_19 : List UInt8 := dkwL_law_19 ++ dktL_law_20
def dkwL_law_18 : List UInt8 := [29, 4, 96, 46, 42, 29, 5, 96, 46, 182, 0, 60, 159, 2, 239, 3, 172, 43, 42, 29, 4, 96, 46, 42]
abbrev dktL_law_18 : List UInt8 := dkwL_law_18 ++ dktL_law_19
def dkwL_law_17 : List UInt8 := [182, 0, 56, 159, 3, 16, 3, 172, 43, 42, 29, 4, 96, 46, 42, 29, 5, 96, 46, 182, 0, 57, 44, 42]
abbrev dktL_law_17 : List UInt8 := dkwL_law_17 ++ dktL_law_18
def dkwL_law_16 : List UInt8 := [182, 0, 52, 159, 3, 39, 3, 172, 43, 42, 29, 4, 96, 46, 182, 0, 53, 44, 42, 29, 4, 96, 46]
abbrev dktL_law_16 : List UInt8 := dkwL_law_16 ++ dktL_law_17
def dkwL_law_15 : List UInt8 := [46, 182, 0, 48, 159, 3, 62, 3, 172, 43, 42, 29, 4, 96, 46, 182, 0, 49, 44, 42, 29, 4, 96, 46]
abbrev dktL_law_15 : List UInt8 := dkwL_law_15 ++ dktL_law_16
def dkwL_law_14 : List UInt8 := [46, 42, 29, 6, 96, 46, 182, 0, 45, 44, 42, 29, 4, 96, 46, 42, 29, 5, 96, 46, 42, 29, 6, 96]
abbrev dktL_law_14 : List UInt8 := dkwL_law_14 ++ dktL_law_15
def dkwL_law_13 : List UInt8 := [46, 42, 29, 5, 96, 46, 182, 0, 44, 159, 3, 105, 3, 172, 43, 42, 29, 4, 96, 46, 42, 29, 5, 96]
abbrev dktL_law_13 : List UInt8 := dkwL_law_13 ++ dktL_law_14
def dkwL_law_12 : List UInt8 := [159, 3, 138, 3, 172, 43, 42, 29, 4, 96, 46, 42, 29, 5, 96, 46, 182, 0, 41, 44, 42, 29, 4, 96]
abbrev dktL_law_12 : List UInt8 := dkwL_law_12 ++ dktL_law_13
def dkwL_law_11 : List UInt8 := [159, 3, 161, 3, 172, 43, 42, 29, 4, 96, 46, 182, 0, 37, 44, 42, 29, 4, 96, 46, 182, 0, 40]
abbrev dktL_law_11 : List UInt8 := dkwL_law_11 ++ dktL_law_12
def dkwL_law_10 : List UInt8 := [42, 29, 5, 96, 46, 42, 29, 6, 96, 46, 42, 29, 7, 96, 46, 42, 29, 8, 96, 46, 182, 0, 36]
abbrev dktL_law_10 : List UInt8 := dkwL_law_10 ++ dktL_law_11
def dkwL_law_9 : List UInt8 := [42, 29, 6, 96, 46, 42, 29, 7, 96, 46, 42, 29, 8, 96, 46, 182, 0, 32, 44, 42, 29, 4, 96, 46]
abbrev dktL_law_9 : List UInt8 := dkwL_law_9 ++ dktL_law_10
def dkwL_law_8 : List UInt8 := [42, 29, 4, 96, 46, 182, 0, 31, 159, 3, 224, 3, 172, 43, 42, 29, 4, 96, 46, 42, 29, 5, 96, 46]
abbrev dktL_law_8 : List UInt8 := dkwL_law_8 ++ dktL_law_9
def dkwL_law_7 : List UInt8 := [46, 42, 29, 5, 96, 46, 182, 0, 26, 159, 3, 247, 3, 172, 43, 42, 29, 4, 96, 46, 182, 0, 27, 44]
abbrev dktL_law_7 : List UInt8 := dkwL_law_7 ++ dktL_law_8
def dkwL_law_6 : List UInt8 := [159, 4, 24, 3, 172, 43, 42, 29, 4, 96, 46, 42, 29, 5, 96, 46, 182, 0, 23, 44, 42, 29, 4, 96]
abbrev dktL_law_6 : List UInt8 := dkwL_law_6 ++ dktL_law_7
def dkwL_law_5 : List UInt8 := [46, 182, 0, 18, 44, 42, 29, 4, 96, 46, 42, 29, 5, 96, 46, 42, 29, 6, 96, 46, 182, 0, 22]
abbrev dktL_law_5 : List UInt8 := dkwL_law_5 ++ dktL_law_6
def dkwL_law_4 : List UInt8 := [46, 182, 0, 17, 159, 4, 67, 3, 172, 43, 42, 29, 4, 96, 46, 42, 29, 5, 96, 46, 42, 29, 6, 96]
abbrev dktL_law_4 : List UInt8 := dkwL_law_4 ++ dktL_law_5
def dkwL_law_3 : List UInt8 := [43, 42, 29, 4, 96, 46, 42, 29, 5, 96, 46, 182, 0, 13, 44, 42, 29, 4, 96, 46, 42, 29, 5, 96]
abbrev dktL_law_3 : List UInt8 := dkwL_law_3 ++ dktL_law_4
def dkwL_law_2 : List UInt8 := [170, 0, 0, 0, 0, 5, 22, 0, 0, 0, 0, 0, 0, 0, 41, 0, 0, 0, 183, 0, 0, 0, 216, 0, 0, 1, 3, 0, 0, 1, 36, 0, 0, 1, 59, 0, 0, 1, 122, 0, 0, 1, 145, 0, 0, 1, 178, 0, 0, 1, 221, 0, 0, 1, 244, 0, 0, 2, 11, 0, 0, 2, 44, 0, 0, 2, 77, 0, 0, 2, 100, 0, 0, 2, 123, 0, 0, 2, 146, 0, 0, 2, 169, 0, 0, 2, 192, 0, 0, 2, 215, 0, 0, 2, 228, 0, 0, 2, 251, 0, 0, 3, 18, 0, 0, 3, 41, 0, 0, 3, 64, 0, 0, 3, 97, 0, 0, 3, 130, 0, 0, 3, 163, 0, 0, 3, 186, 0, 0, 3, 219, 0, 0, 3, 242, 0, 0, 4, 29, 0, 0, 4, 52, 0, 0, 4, 75, 0, 0, 4, 98, 0, 0, 4, 131, 0, 0, 4, 164, 0, 0, 4, 177, 0, 0, 4, 191, 0, 0, 4, 205, 0, 0, 4, 228, 0, 0, 4, 241, 0, 0, 5, 8]
abbrev dktL_law_2 : List UInt8 := dkwL_law_2 ++ dktL_law_3
def dkwL_law_1 : List UInt8 := [163, 5, 37, 42, 29, 46, 16, 63, 126]
abbrev dktL_law_1 : List UInt8 := dkwL_law_1 ++ dktL_law_2
def dkwL_law_0 : List UInt8 := [187, 0, 7, 89, 183, 0, 9, 76, 187, 0, 10, 89, 183, 0, 12, 77, 3, 62, 29, 42, 190, 16, 6, 100]
abbrev dktL_law_0 : List UInt8 := dkwL_law_0 ++ dktL_law_1
theorem dksL_law_0 : cL_law.data.toList.drop 0 = dktL_law_0 := by decide +kernel
theorem dksL_law_1 : cL_law.data.toList.drop 24 = dktL_law_1 := dk_seg dksL_law_0 24 rfl rfl
theorem dksL_law_2 : cL_law.data.toList.drop 33 = dktL_law_2 := dk_seg dksL_law_1 9 rfl rfl
theorem dksL_law_3 : cL_law.data.toList.drop 216 = dktL_law_3 := dk_seg dksL_law_2 183 rfl rfl
theorem dksL_law_4 : cL_law.data.toList.drop 240 = dktL_law_4 := dk_seg dksL_law_3 24 rfl rfl
theorem dksL_law_5 : cL_law.data.toList.drop 264 = dktL_law_5 := dk_seg dksL_law_4 24 rfl rfl
theorem dksL_law_6 : cL_law.data.toList.drop 287 = dktL_law_6 := dk_seg dksL_law_5 23 rfl rfl
theorem dksL_law_7 : cL_law.data.toList.drop 311 = dktL_law_7 := dk_seg dksL_law_6 24 rfl rfl
theorem dksL_law_8 : cL_law.data.toList.drop 335 = dktL_law_8 := dk_seg dksL_law_7 24 rfl rfl
theorem dksL_law_9 : cL_law.data.toList.drop 359 = dktL_law_9 := dk_seg dksL_law_8 24 rfl rfl
theorem dksL_law_10 : cL_law.data.toList.drop 383 = dktL_law_10 := dk_seg dksL_law_9 24 rfl rfl
theorem dksL_law_11 : cL_law.data.toList.drop 406 = dktL_law_11 := dk_seg dksL_law_10 23 rfl rfl
theorem dksL_law_12 : cL_law.data.toList.drop 429 = dktL_law_12 := dk_seg dksL_law_11 23 rfl rfl
theorem dksL_law_13 : cL_law.data.toList.drop 453 = dktL_law_13 := dk_seg dksL_law_12 24 rfl rfl
theorem dksL_law_14 : cL_law.data.toList.drop 477 = dktL_law_14 := dk_seg dksL_law_13 24 rfl rfl
theorem dksL_law_15 : cL_law.data.toList.drop 501 = dktL_law_15 := dk_seg dksL_law_14 24 rfl rfl
theorem dksL_law_16 : cL_law.data.toList.drop 525 = dktL_law_16 := dk_seg dksL_law_15 24 rfl rfl
theorem dksL_law_17 : cL_law.data.toList.drop 548 = dktL_law_17 := dk_seg dksL_law_16 23 rfl rfl
theorem dksL_law_18 : cL_law.data.toList.drop 572 = dktL_law_18 := dk_seg dksL_law_17 24 rfl rfl
theorem dksL_law_19 : cL_law.data.toList.drop 596 = dktL_law_19 := dk_seg dksL_law_18 24 rfl rfl
theorem dksL_law_20 : cL_law.data.toList.drop 620 = dktL_law_20 := dk_seg dksL_law_19 24 rfl rfl
theorem dksL_law_21 : cL_law.data.toList.drop 644 = dktL_law_21 := dk_seg dksL_law_20 24 rfl rfl
theorem dksL_law_22 : cL_law.data.toList.drop 668 = dktL_law_22 := dk_seg dksL_law_21 24 rfl rfl
theorem dksL_law_23 : cL_law.data.toList.drop 692 = dktL_law_23 := dk_seg dksL_law_22 24 rfl rfl
theorem dksL_law_24 : cL_law.data.toList.drop 716 = dktL_law_24 := dk_seg dksL_law_23 24 rfl rfl
theorem dksL_law_25 : cL_law.data.toList.drop 740 = dktL_law_25 := dk_seg dksL_law_24 24 rfl rfl
theorem dksL_law_26 : cL_law.data.toList.drop 764 = dktL_law_26 := dk_seg dksL_law_25 24 rfl rfl
theorem dksL_law_27 : cL_law.data.toList.drop 788 = dktL_law_27 := dk_seg dksL_law_26 24 rfl rfl
theorem dksL_law_28 : cL_law.data.toList.drop 811 = dktL_law_28 := dk_seg dksL_law_27 23 rfl rfl
theorem dksL_law_29 : cL_law.data.toList.drop 834 = dktL_law_29 := dk_seg dksL_law_28 23 rfl rfl
theorem dksL_law_30 : cL_law.data.toList.drop 857 = dktL_law_30 := dk_seg dksL_law_29 23 rfl rfl
theorem dksL_law_31 : cL_law.data.toList.drop 881 = dktL_law_31 := dk_seg dksL_law_30 24 rfl rfl
theorem dksL_law_32 : cL_law.data.toList.drop 905 = dktL_law_32 := dk_seg dksL_law_31 24 rfl rfl
theorem dksL_law_33 : cL_law.data.toList.drop 929 = dktL_law_33 := dk_seg dksL_law_32 24 rfl rfl
theorem dksL_law_34 : cL_law.data.toList.drop 953 = dktL_law_34 := dk_seg dksL_law_33 24 rfl rfl
theorem dksL_law_35 : cL_law.data.toList.drop 977 = dktL_law_35 := dk_seg dksL_law_34 24 rfl rfl
theorem dksL_law_36 : cL_law.data.toList.drop 1001 = dktL_law_36 := dk_seg dksL_law_35 24 rfl rfl
theorem dksL_law_37 : cL_law.data.toList.drop 1025 = dktL_law_37 := dk_seg dksL_law_36 24 rfl rfl
theorem dksL_law_38 : cL_law.data.toList.drop 1049 = dktL_law_38 := dk_seg dksL_law_37 24 rfl rfl
theorem dksL_law_39 : cL_law.data.toList.drop 1073 = dktL_law_39 := dk_seg dksL_law_38 24 rfl rfl
theorem dksL_law_40 : cL_law.data.toList.drop 1097 = dktL_law_40 := dk_seg dksL_law_39 24 rfl rfl
theorem dksL_law_41 : cL_law.data.toList.drop 1121 = dktL_law_41 := dk_seg dksL_law_40 24 rfl rfl
theorem dksL_law_42 : cL_law.data.toList.drop 1145 = dktL_law_42 := dk_seg dksL_law_41 24 rfl rfl
theorem dksL_law_43 : cL_law.data.toList.drop 1169 = dktL_law_43 := dk_seg dksL_law_42 24 rfl rfl
theorem dksL_law_44 : cL_law.data.toList.drop 1193 = dktL_law_44 := dk_seg dksL_law_43 24 rfl rfl
theorem dksL_law_45 : cL_law.data.toList.drop 1216 = dktL_law_45 := dk_seg dksL_law_44 23 rfl rfl
theorem dksL_law_46 : cL_law.data.toList.drop 1239 = dktL_law_46 := dk_seg dksL_law_45 23 rfl rfl
theorem dksL_law_47 : cL_law.data.toList.drop 1263 = dktL_law_47 := dk_seg dksL_law_46 24 rfl rfl
theorem dksL_law_48 : cL_law.data.toList.drop 1286 = dktL_law_48 := dk_seg dksL_law_47 23 rfl rfl
theorem dksL_law_49 : cL_law.data.toList.drop 1310 = dktL_law_49 := dk_seg dksL_law_48 24 rfl rfl
theorem dksL_law_50 : cL_law.data.toList.drop 1334 = dktL_law_50 := dk_seg dksL_law_49 24 rfl rfl
theorem dL_law_0 : decode cL_law 0 = .ok (.new 7, 3) := dk_187 0 7 (dk_at dksL_law_0 0 rfl rfl)
theorem dL_law_3 : decode cL_law 3 = .ok (.dup, 1) := dk_89 (dk_at dksL_law_0 3 rfl rfl)
theorem dL_law_4 : decode cL_law 4 = .ok (.invokespecial 9, 3) := dk_183 0 9 (dk_at dksL_law_0 4 rfl rfl)
theorem dL_law_7 : decode cL_law 7 = .ok (.astore_n 1, 1) := dk_76 (dk_at dksL_law_0 7 rfl rfl)
theorem dL_law_8 : decode cL_law 8 = .ok (.new 10, 3) := dk_187 0 10 (dk_at dksL_law_0 8 rfl rfl)
theorem dL_law_11 : decode cL_law 11 = .ok (.dup, 1) := dk_89 (dk_at dksL_law_0 11 rfl rfl)
theorem dL_law_12 : decode cL_law 12 = .ok (.invokespecial 12, 3) := dk_183 0 12 (dk_at dksL_law_0 12 rfl rfl)
theorem dL_law_15 : decode cL_law 15 = .ok (.astore_n 2, 1) := dk_77 (dk_at dksL_law_0 15 rfl rfl)
theorem dL_law_16 : decode cL_law 16 = .ok (.iconst 0, 1) := dk_3 (dk_at dksL_law_0 16 rfl rfl)
theorem dL_law_17 : decode cL_law 17 = .ok (.istore_n 3, 1) := dk_62 (dk_at dksL_law_0 17 rfl rfl)
theorem dL_law_18 : decode cL_law 18 = .ok (.iload_n 3, 1) := dk_29 (dk_at dksL_law_0 18 rfl rfl)
theorem dL_law_19 : decode cL_law 19 = .ok (.aload_n 0, 1) := dk_42 (dk_at dksL_law_0 19 rfl rfl)
theorem dL_law_20 : decode cL_law 20 = .ok (.arraylength, 1) := dk_190 (dk_at dksL_law_0 20 rfl rfl)
theorem dL_law_21 : decode cL_law 21 = .ok (.bipush 6, 2) := dk_16 6 (dk_at dksL_law_0 21 rfl rfl)
theorem dL_law_23 : decode cL_law 23 = .ok (.isub, 1) := dk_100 (dk_at dksL_law_0 23 rfl rfl)
theorem dL_law_24 : decode cL_law 24 = .ok (.if_icmp .gt 1317, 3) := dk_163 5 37 (dk_at dksL_law_1 0 rfl rfl)
theorem dL_law_27 : decode cL_law 27 = .ok (.aload_n 0, 1) := dk_42 (dk_at dksL_law_1 3 rfl rfl)
theorem dL_law_28 : decode cL_law 28 = .ok (.iload_n 3, 1) := dk_29 (dk_at dksL_law_1 4 rfl rfl)
theorem dL_law_29 : decode cL_law 29 = .ok (.iaload, 1) := dk_46 (dk_at dksL_law_1 5 rfl rfl)
theorem dL_law_30 : decode cL_law 30 = .ok (.bipush 63, 2) := dk_16 63 (dk_at dksL_law_1 6 rfl rfl)
theorem dL_law_32 : decode cL_law 32 = .ok (.iand, 1) := dk_126 (dk_at dksL_law_1 8 rfl rfl)
theorem dL_law_33 : decode cL_law 33 = .ok (.tableswitch 1302 0 41 #[183, 216, 259, 292, 315, 378, 401, 434, 477, 500, 523, 556, 589, 612, 635, 658, 681, 704, 727, 740, 763, 786, 809, 832, 865, 898, 931, 954, 987, 1010, 1053, 1076, 1099, 1122, 1155, 1188, 1201, 1215, 1229, 1252, 1265, 1288], 183) := by decide +kernel
theorem dL_law_216 : decode cL_law 216 = .ok (.aload_n 1, 1) := dk_43 (dk_at dksL_law_3 0 rfl rfl)
theorem dL_law_217 : decode cL_law 217 = .ok (.aload_n 0, 1) := dk_42 (dk_at dksL_law_3 1 rfl rfl)
theorem dL_law_218 : decode cL_law 218 = .ok (.iload_n 3, 1) := dk_29 (dk_at dksL_law_3 2 rfl rfl)
theorem dL_law_219 : decode cL_law 219 = .ok (.iconst 1, 1) := dk_4 (dk_at dksL_law_3 3 rfl rfl)
theorem dL_law_220 : decode cL_law 220 = .ok (.iadd, 1) := dk_96 (dk_at dksL_law_3 4 rfl rfl)
theorem dL_law_221 : decode cL_law 221 = .ok (.iaload, 1) := dk_46 (dk_at dksL_law_3 5 rfl rfl)
theorem dL_law_222 : decode cL_law 222 = .ok (.aload_n 0, 1) := dk_42 (dk_at dksL_law_3 6 rfl rfl)
theorem dL_law_223 : decode cL_law 223 = .ok (.iload_n 3, 1) := dk_29 (dk_at dksL_law_3 7 rfl rfl)
theorem dL_law_224 : decode cL_law 224 = .ok (.iconst 2, 1) := dk_5 (dk_at dksL_law_3 8 rfl rfl)
theorem dL_law_225 : decode cL_law 225 = .ok (.iadd, 1) := dk_96 (dk_at dksL_law_3 9 rfl rfl)
theorem dL_law_226 : decode cL_law 226 = .ok (.iaload, 1) := dk_46 (dk_at dksL_law_3 10 rfl rfl)
theorem dL_law_227 : decode cL_law 227 = .ok (.invokevirtual 13, 3) := dk_182 0 13 (dk_at dksL_law_3 11 rfl rfl)
theorem dL_law_230 : decode cL_law 230 = .ok (.aload_n 2, 1) := dk_44 (dk_at dksL_law_3 14 rfl rfl)
theorem dL_law_231 : decode cL_law 231 = .ok (.aload_n 0, 1) := dk_42 (dk_at dksL_law_3 15 rfl rfl)
theorem dL_law_232 : decode cL_law 232 = .ok (.iload_n 3, 1) := dk_29 (dk_at dksL_law_3 16 rfl rfl)
theorem dL_law_233 : decode cL_law 233 = .ok (.iconst 1, 1) := dk_4 (dk_at dksL_law_3 17 rfl rfl)
theorem dL_law_234 : decode cL_law 234 = .ok (.iadd, 1) := dk_96 (dk_at dksL_law_3 18 rfl rfl)
theorem dL_law_235 : decode cL_law 235 = .ok (.iaload, 1) := dk_46 (dk_at dksL_law_3 19 rfl rfl)
theorem dL_law_236 : decode cL_law 236 = .ok (.aload_n 0, 1) := dk_42 (dk_at dksL_law_3 20 rfl rfl)
theorem dL_law_237 : decode cL_law 237 = .ok (.iload_n 3, 1) := dk_29 (dk_at dksL_law_3 21 rfl rfl)
theorem dL_law_238 : decode cL_law 238 = .ok (.iconst 2, 1) := dk_5 (dk_at dksL_law_3 22 rfl rfl)
theorem dL_law_239 : decode cL_law 239 = .ok (.iadd, 1) := dk_96 (dk_at dksL_law_3 23 rfl rfl)
theorem dL_law_240 : decode cL_law 240 = .ok (.iaload, 1) := dk_46 (dk_at dksL_law_4 0 rfl rfl)
theorem dL_law_241 : decode cL_law 241 = .ok (.invokevirtual 17, 3) := dk_182 0 17 (dk_at dksL_law_4 1 rfl rfl)
theorem dL_law_244 : decode cL_law 244 = .ok (.if_icmp .eq 1091, 3) := dk_159 4 67 (dk_at dksL_law_4 4 rfl rfl)
theorem dL_law_247 : decode cL_law 247 = .ok (.iconst 0, 1) := dk_3 (dk_at dksL_law_4 7 rfl rfl)
theorem dL_law_248 : decode cL_law 248 = .ok (.ireturn, 1) := dk_172 (dk_at dksL_law_4 8 rfl rfl)
theorem dL_law_249 : decode cL_law 249 = .ok (.aload_n 1, 1) := dk_43 (dk_at dksL_law_4 9 rfl rfl)
theorem dL_law_250 : decode cL_law 250 = .ok (.aload_n 0, 1) := dk_42 (dk_at dksL_law_4 10 rfl rfl)
theorem dL_law_251 : decode cL_law 251 = .ok (.iload_n 3, 1) := dk_29 (dk_at dksL_law_4 11 rfl rfl)
theorem dL_law_252 : decode cL_law 252 = .ok (.iconst 1, 1) := dk_4 (dk_at dksL_law_4 12 rfl rfl)
theorem dL_law_253 : decode cL_law 253 = .ok (.iadd, 1) := dk_96 (dk_at dksL_law_4 13 rfl rfl)
theorem dL_law_254 : decode cL_law 254 = .ok (.iaload, 1) := dk_46 (dk_at dksL_law_4 14 rfl rfl)
theorem dL_law_255 : decode cL_law 255 = .ok (.aload_n 0, 1) := dk_42 (dk_at dksL_law_4 15 rfl rfl)
theorem dL_law_256 : decode cL_law 256 = .ok (.iload_n 3, 1) := dk_29 (dk_at dksL_law_4 16 rfl rfl)
theorem dL_law_257 : decode cL_law 257 = .ok (.iconst 2, 1) := dk_5 (dk_at dksL_law_4 17 rfl rfl)
theorem dL_law_258 : decode cL_law 258 = .ok (.iadd, 1) := dk_96 (dk_at dksL_law_4 18 rfl rfl)
theorem dL_law_259 : decode cL_law 259 = .ok (.iaload, 1) := dk_46 (dk_at dksL_law_4 19 rfl rfl)
theorem dL_law_260 : decode cL_law 260 = .ok (.aload_n 0, 1) := dk_42 (dk_at dksL_law_4 20 rfl rfl)
theorem dL_law_261 : decode cL_law 261 = .ok (.iload_n 3, 1) := dk_29 (dk_at dksL_law_4 21 rfl rfl)
theorem dL_law_262 : decode cL_law 262 = .ok (.iconst 3, 1) := dk_6 (dk_at dksL_law_4 22 rfl rfl)
theorem dL_law_263 : decode cL_law 263 = .ok (.iadd, 1) := dk_96 (dk_at dksL_law_4 23 rfl rfl)
theorem dL_law_264 : decode cL_law 264 = .ok (.iaload, 1) := dk_46 (dk_at dksL_law_5 0 rfl rfl)
theorem dL_law_265 : decode cL_law 265 = .ok (.invokevirtual 18, 3) := dk_182 0 18 (dk_at dksL_law_5 1 rfl rfl)
theorem dL_law_268 : decode cL_law 268 = .ok (.aload_n 2, 1) := dk_44 (dk_at dksL_law_5 4 rfl rfl)
theorem dL_law_269 : decode cL_law 269 = .ok (.aload_n 0, 1) := dk_42 (dk_at dksL_law_5 5 rfl rfl)
theorem dL_law_270 : decode cL_law 270 = .ok (.iload_n 3, 1) := dk_29 (dk_at dksL_law_5 6 rfl rfl)
theorem dL_law_271 : decode cL_law 271 = .ok (.iconst 1, 1) := dk_4 (dk_at dksL_law_5 7 rfl rfl)
theorem dL_law_272 : decode cL_law 272 = .ok (.iadd, 1) := dk_96 (dk_at dksL_law_5 8 rfl rfl)
theorem dL_law_273 : decode cL_law 273 = .ok (.iaload, 1) := dk_46 (dk_at dksL_law_5 9 rfl rfl)
theorem dL_law_274 : decode cL_law 274 = .ok (.aload_n 0, 1) := dk_42 (dk_at dksL_law_5 10 rfl rfl)
theorem dL_law_275 : decode cL_law 275 = .ok (.iload_n 3, 1) := dk_29 (dk_at dksL_law_5 11 rfl rfl)
theorem dL_law_276 : decode cL_law 276 = .ok (.iconst 2, 1) := dk_5 (dk_at dksL_law_5 12 rfl rfl)
theorem dL_law_277 : decode cL_law 277 = .ok (.iadd, 1) := dk_96 (dk_at dksL_law_5 13 rfl rfl)
theorem dL_law_278 : decode cL_law 278 = .ok (.iaload, 1) := dk_46 (dk_at dksL_law_5 14 rfl rfl)
theorem dL_law_279 : decode cL_law 279 = .ok (.aload_n 0, 1) := dk_42 (dk_at dksL_law_5 15 rfl rfl)
theorem dL_law_280 : decode cL_law 280 = .ok (.iload_n 3, 1) := dk_29 (dk_at dksL_law_5 16 rfl rfl)
theorem dL_law_281 : decode cL_law 281 = .ok (.iconst 3, 1) := dk_6 (dk_at dksL_law_5 17 rfl rfl)
theorem dL_law_282 : decode cL_law 282 = .ok (.iadd, 1) := dk_96 (dk_at dksL_law_5 18 rfl rfl)
theorem dL_law_283 : decode cL_law 283 = .ok (.iaload, 1) := dk_46 (dk_at dksL_law_5 19 rfl rfl)
theorem dL_law_284 : decode cL_law 284 = .ok (.invokevirtual 22, 3) := dk_182 0 22 (dk_at dksL_law_5 20 rfl rfl)
theorem dL_law_287 : decode cL_law 287 = .ok (.if_icmp .eq 1048, 3) := dk_159 4 24 (dk_at dksL_law_6 0 rfl rfl)
theorem dL_law_290 : decode cL_law 290 = .ok (.iconst 0, 1) := dk_3 (dk_at dksL_law_6 3 rfl rfl)
theorem dL_law_291 : decode cL_law 291 = .ok (.ireturn, 1) := dk_172 (dk_at dksL_law_6 4 rfl rfl)
theorem dL_law_292 : decode cL_law 292 = .ok (.aload_n 1, 1) := dk_43 (dk_at dksL_law_6 5 rfl rfl)
theorem dL_law_293 : decode cL_law 293 = .ok (.aload_n 0, 1) := dk_42 (dk_at dksL_law_6 6 rfl rfl)
theorem dL_law_294 : decode cL_law 294 = .ok (.iload_n 3, 1) := dk_29 (dk_at dksL_law_6 7 rfl rfl)
theorem dL_law_295 : decode cL_law 295 = .ok (.iconst 1, 1) := dk_4 (dk_at dksL_law_6 8 rfl rfl)
theorem dL_law_296 : decode cL_law 296 = .ok (.iadd, 1) := dk_96 (dk_at dksL_law_6 9 rfl rfl)
theorem dL_law_297 : decode cL_law 297 = .ok (.iaload, 1) := dk_46 (dk_at dksL_law_6 10 rfl rfl)
theorem dL_law_298 : decode cL_law 298 = .ok (.aload_n 0, 1) := dk_42 (dk_at dksL_law_6 11 rfl rfl)
theorem dL_law_299 : decode cL_law 299 = .ok (.iload_n 3, 1) := dk_29 (dk_at dksL_law_6 12 rfl rfl)
theorem dL_law_300 : decode cL_law 300 = .ok (.iconst 2, 1) := dk_5 (dk_at dksL_law_6 13 rfl rfl)
theorem dL_law_301 : decode cL_law 301 = .ok (.iadd, 1) := dk_96 (dk_at dksL_law_6 14 rfl rfl)
theorem dL_law_302 : decode cL_law 302 = .ok (.iaload, 1) := dk_46 (dk_at dksL_law_6 15 rfl rfl)
theorem dL_law_303 : decode cL_law 303 = .ok (.invokevirtual 23, 3) := dk_182 0 23 (dk_at dksL_law_6 16 rfl rfl)
theorem dL_law_306 : decode cL_law 306 = .ok (.aload_n 2, 1) := dk_44 (dk_at dksL_law_6 19 rfl rfl)
theorem dL_law_307 : decode cL_law 307 = .ok (.aload_n 0, 1) := dk_42 (dk_at dksL_law_6 20 rfl rfl)
theorem dL_law_308 : decode cL_law 308 = .ok (.iload_n 3, 1) := dk_29 (dk_at dksL_law_6 21 rfl rfl)
theorem dL_law_309 : decode cL_law 309 = .ok (.iconst 1, 1) := dk_4 (dk_at dksL_law_6 22 rfl rfl)
theorem dL_law_310 : decode cL_law 310 = .ok (.iadd, 1) := dk_96 (dk_at dksL_law_6 23 rfl rfl)
theorem dL_law_311 : decode cL_law 311 = .ok (.iaload, 1) := dk_46 (dk_at dksL_law_7 0 rfl rfl)
theorem dL_law_312 : decode cL_law 312 = .ok (.aload_n 0, 1) := dk_42 (dk_at dksL_law_7 1 rfl rfl)
theorem dL_law_313 : decode cL_law 313 = .ok (.iload_n 3, 1) := dk_29 (dk_at dksL_law_7 2 rfl rfl)
theorem dL_law_314 : decode cL_law 314 = .ok (.iconst 2, 1) := dk_5 (dk_at dksL_law_7 3 rfl rfl)
theorem dL_law_315 : decode cL_law 315 = .ok (.iadd, 1) := dk_96 (dk_at dksL_law_7 4 rfl rfl)
theorem dL_law_316 : decode cL_law 316 = .ok (.iaload, 1) := dk_46 (dk_at dksL_law_7 5 rfl rfl)
theorem dL_law_317 : decode cL_law 317 = .ok (.invokevirtual 26, 3) := dk_182 0 26 (dk_at dksL_law_7 6 rfl rfl)
theorem dL_law_320 : decode cL_law 320 = .ok (.if_icmp .eq 1015, 3) := dk_159 3 247 (dk_at dksL_law_7 9 rfl rfl)
theorem dL_law_323 : decode cL_law 323 = .ok (.iconst 0, 1) := dk_3 (dk_at dksL_law_7 12 rfl rfl)
theorem dL_law_324 : decode cL_law 324 = .ok (.ireturn, 1) := dk_172 (dk_at dksL_law_7 13 rfl rfl)
theorem dL_law_325 : decode cL_law 325 = .ok (.aload_n 1, 1) := dk_43 (dk_at dksL_law_7 14 rfl rfl)
theorem dL_law_326 : decode cL_law 326 = .ok (.aload_n 0, 1) := dk_42 (dk_at dksL_law_7 15 rfl rfl)
theorem dL_law_327 : decode cL_law 327 = .ok (.iload_n 3, 1) := dk_29 (dk_at dksL_law_7 16 rfl rfl)
theorem dL_law_328 : decode cL_law 328 = .ok (.iconst 1, 1) := dk_4 (dk_at dksL_law_7 17 rfl rfl)
theorem dL_law_329 : decode cL_law 329 = .ok (.iadd, 1) := dk_96 (dk_at dksL_law_7 18 rfl rfl)
theorem dL_law_330 : decode cL_law 330 = .ok (.iaload, 1) := dk_46 (dk_at dksL_law_7 19 rfl rfl)
theorem dL_law_331 : decode cL_law 331 = .ok (.invokevirtual 27, 3) := dk_182 0 27 (dk_at dksL_law_7 20 rfl rfl)
theorem dL_law_334 : decode cL_law 334 = .ok (.aload_n 2, 1) := dk_44 (dk_at dksL_law_7 23 rfl rfl)
theorem dL_law_335 : decode cL_law 335 = .ok (.aload_n 0, 1) := dk_42 (dk_at dksL_law_8 0 rfl rfl)
theorem dL_law_336 : decode cL_law 336 = .ok (.iload_n 3, 1) := dk_29 (dk_at dksL_law_8 1 rfl rfl)
theorem dL_law_337 : decode cL_law 337 = .ok (.iconst 1, 1) := dk_4 (dk_at dksL_law_8 2 rfl rfl)
theorem dL_law_338 : decode cL_law 338 = .ok (.iadd, 1) := dk_96 (dk_at dksL_law_8 3 rfl rfl)
theorem dL_law_339 : decode cL_law 339 = .ok (.iaload, 1) := dk_46 (dk_at dksL_law_8 4 rfl rfl)
theorem dL_law_340 : decode cL_law 340 = .ok (.invokevirtual 31, 3) := dk_182 0 31 (dk_at dksL_law_8 5 rfl rfl)
theorem dL_law_343 : decode cL_law 343 = .ok (.if_icmp .eq 992, 3) := dk_159 3 224 (dk_at dksL_law_8 8 rfl rfl)
theorem dL_law_346 : decode cL_law 346 = .ok (.iconst 0, 1) := dk_3 (dk_at dksL_law_8 11 rfl rfl)
theorem dL_law_347 : decode cL_law 347 = .ok (.ireturn, 1) := dk_172 (dk_at dksL_law_8 12 rfl rfl)
theorem dL_law_348 : decode cL_law 348 = .ok (.aload_n 1, 1) := dk_43 (dk_at dksL_law_8 13 rfl rfl)
theorem dL_law_349 : decode cL_law 349 = .ok (.aload_n 0, 1) := dk_42 (dk_at dksL_law_8 14 rfl rfl)
theorem dL_law_350 : decode cL_law 350 = .ok (.iload_n 3, 1) := dk_29 (dk_at dksL_law_8 15 rfl rfl)
theorem dL_law_351 : decode cL_law 351 = .ok (.iconst 1, 1) := dk_4 (dk_at dksL_law_8 16 rfl rfl)
theorem dL_law_352 : decode cL_law 352 = .ok (.iadd, 1) := dk_96 (dk_at dksL_law_8 17 rfl rfl)
theorem dL_law_353 : decode cL_law 353 = .ok (.iaload, 1) := dk_46 (dk_at dksL_law_8 18 rfl rfl)
theorem dL_law_354 : decode cL_law 354 = .ok (.aload_n 0, 1) := dk_42 (dk_at dksL_law_8 19 rfl rfl)
theorem dL_law_355 : decode cL_law 355 = .ok (.iload_n 3, 1) := dk_29 (dk_at dksL_law_8 20 rfl rfl)
theorem dL_law_356 : decode cL_law 356 = .ok (.iconst 2, 1) := dk_5 (dk_at dksL_law_8 21 rfl rfl)
theorem dL_law_357 : decode cL_law 357 = .ok (.iadd, 1) := dk_96 (dk_at dksL_law_8 22 rfl rfl)
theorem dL_law_358 : decode cL_law 358 = .ok (.iaload, 1) := dk_46 (dk_at dksL_law_8 23 rfl rfl)
theorem dL_law_359 : decode cL_law 359 = .ok (.aload_n 0, 1) := dk_42 (dk_at dksL_law_9 0 rfl rfl)
theorem dL_law_360 : decode cL_law 360 = .ok (.iload_n 3, 1) := dk_29 (dk_at dksL_law_9 1 rfl rfl)
theorem dL_law_361 : decode cL_law 361 = .ok (.iconst 3, 1) := dk_6 (dk_at dksL_law_9 2 rfl rfl)
theorem dL_law_362 : decode cL_law 362 = .ok (.iadd, 1) := dk_96 (dk_at dksL_law_9 3 rfl rfl)
theorem dL_law_363 : decode cL_law 363 = .ok (.iaload, 1) := dk_46 (dk_at dksL_law_9 4 rfl rfl)
theorem dL_law_364 : decode cL_law 364 = .ok (.aload_n 0, 1) := dk_42 (dk_at dksL_law_9 5 rfl rfl)
theorem dL_law_365 : decode cL_law 365 = .ok (.iload_n 3, 1) := dk_29 (dk_at dksL_law_9 6 rfl rfl)
theorem dL_law_366 : decode cL_law 366 = .ok (.iconst 4, 1) := dk_7 (dk_at dksL_law_9 7 rfl rfl)
theorem dL_law_367 : decode cL_law 367 = .ok (.iadd, 1) := dk_96 (dk_at dksL_law_9 8 rfl rfl)
theorem dL_law_368 : decode cL_law 368 = .ok (.iaload, 1) := dk_46 (dk_at dksL_law_9 9 rfl rfl)
theorem dL_law_369 : decode cL_law 369 = .ok (.aload_n 0, 1) := dk_42 (dk_at dksL_law_9 10 rfl rfl)
theorem dL_law_370 : decode cL_law 370 = .ok (.iload_n 3, 1) := dk_29 (dk_at dksL_law_9 11 rfl rfl)
theorem dL_law_371 : decode cL_law 371 = .ok (.iconst 5, 1) := dk_8 (dk_at dksL_law_9 12 rfl rfl)
theorem dL_law_372 : decode cL_law 372 = .ok (.iadd, 1) := dk_96 (dk_at dksL_law_9 13 rfl rfl)
theorem dL_law_373 : decode cL_law 373 = .ok (.iaload, 1) := dk_46 (dk_at dksL_law_9 14 rfl rfl)
theorem dL_law_374 : decode cL_law 374 = .ok (.invokevirtual 32, 3) := dk_182 0 32 (dk_at dksL_law_9 15 rfl rfl)
theorem dL_law_377 : decode cL_law 377 = .ok (.aload_n 2, 1) := dk_44 (dk_at dksL_law_9 18 rfl rfl)
theorem dL_law_378 : decode cL_law 378 = .ok (.aload_n 0, 1) := dk_42 (dk_at dksL_law_9 19 rfl rfl)
theorem dL_law_379 : decode cL_law 379 = .ok (.iload_n 3, 1) := dk_29 (dk_at dksL_law_9 20 rfl rfl)
theorem dL_law_380 : decode cL_law 380 = .ok (.iconst 1, 1) := dk_4 (dk_at dksL_law_9 21 rfl rfl)
theorem dL_law_381 : decode cL_law 381 = .ok (.iadd, 1) := dk_96 (dk_at dksL_law_9 22 rfl rfl)
theorem dL_law_382 : decode cL_law 382 = .ok (.iaload, 1) := dk_46 (dk_at dksL_law_9 23 rfl rfl)
theorem dL_law_383 : decode cL_law 383 = .ok (.aload_n 0, 1) := dk_42 (dk_at dksL_law_10 0 rfl rfl)
theorem dL_law_384 : decode cL_law 384 = .ok (.iload_n 3, 1) := dk_29 (dk_at dksL_law_10 1 rfl rfl)
theorem dL_law_385 : decode cL_law 385 = .ok (.iconst 2, 1) := dk_5 (dk_at dksL_law_10 2 rfl rfl)
theorem dL_law_386 : decode cL_law 386 = .ok (.iadd, 1) := dk_96 (dk_at dksL_law_10 3 rfl rfl)
theorem dL_law_387 : decode cL_law 387 = .ok (.iaload, 1) := dk_46 (dk_at dksL_law_10 4 rfl rfl)
theorem dL_law_388 : decode cL_law 388 = .ok (.aload_n 0, 1) := dk_42 (dk_at dksL_law_10 5 rfl rfl)
theorem dL_law_389 : decode cL_law 389 = .ok (.iload_n 3, 1) := dk_29 (dk_at dksL_law_10 6 rfl rfl)
theorem dL_law_390 : decode cL_law 390 = .ok (.iconst 3, 1) := dk_6 (dk_at dksL_law_10 7 rfl rfl)
theorem dL_law_391 : decode cL_law 391 = .ok (.iadd, 1) := dk_96 (dk_at dksL_law_10 8 rfl rfl)
theorem dL_law_392 : decode cL_law 392 = .ok (.iaload, 1) := dk_46 (dk_at dksL_law_10 9 rfl rfl)
theorem dL_law_393 : decode cL_law 393 = .ok (.aload_n 0, 1) := dk_42 (dk_at dksL_law_10 10 rfl rfl)
theorem dL_law_394 : decode cL_law 394 = .ok (.iload_n 3, 1) := dk_29 (dk_at dksL_law_10 11 rfl rfl)
theorem dL_law_395 : decode cL_law 395 = .ok (.iconst 4, 1) := dk_7 (dk_at dksL_law_10 12 rfl rfl)
theorem dL_law_396 : decode cL_law 396 = .ok (.iadd, 1) := dk_96 (dk_at dksL_law_10 13 rfl rfl)
theorem dL_law_397 : decode cL_law 397 = .ok (.iaload, 1) := dk_46 (dk_at dksL_law_10 14 rfl rfl)
theorem dL_law_398 : decode cL_law 398 = .ok (.aload_n 0, 1) := dk_42 (dk_at dksL_law_10 15 rfl rfl)
theorem dL_law_399 : decode cL_law 399 = .ok (.iload_n 3, 1) := dk_29 (dk_at dksL_law_10 16 rfl rfl)
theorem dL_law_400 : decode cL_law 400 = .ok (.iconst 5, 1) := dk_8 (dk_at dksL_law_10 17 rfl rfl)
theorem dL_law_401 : decode cL_law 401 = .ok (.iadd, 1) := dk_96 (dk_at dksL_law_10 18 rfl rfl)
theorem dL_law_402 : decode cL_law 402 = .ok (.iaload, 1) := dk_46 (dk_at dksL_law_10 19 rfl rfl)
theorem dL_law_403 : decode cL_law 403 = .ok (.invokevirtual 36, 3) := dk_182 0 36 (dk_at dksL_law_10 20 rfl rfl)
theorem dL_law_406 : decode cL_law 406 = .ok (.if_icmp .eq 929, 3) := dk_159 3 161 (dk_at dksL_law_11 0 rfl rfl)
theorem dL_law_409 : decode cL_law 409 = .ok (.iconst 0, 1) := dk_3 (dk_at dksL_law_11 3 rfl rfl)
theorem dL_law_410 : decode cL_law 410 = .ok (.ireturn, 1) := dk_172 (dk_at dksL_law_11 4 rfl rfl)
theorem dL_law_411 : decode cL_law 411 = .ok (.aload_n 1, 1) := dk_43 (dk_at dksL_law_11 5 rfl rfl)
theorem dL_law_412 : decode cL_law 412 = .ok (.aload_n 0, 1) := dk_42 (dk_at dksL_law_11 6 rfl rfl)
theorem dL_law_413 : decode cL_law 413 = .ok (.iload_n 3, 1) := dk_29 (dk_at dksL_law_11 7 rfl rfl)
theorem dL_law_414 : decode cL_law 414 = .ok (.iconst 1, 1) := dk_4 (dk_at dksL_law_11 8 rfl rfl)
theorem dL_law_415 : decode cL_law 415 = .ok (.iadd, 1) := dk_96 (dk_at dksL_law_11 9 rfl rfl)
theorem dL_law_416 : decode cL_law 416 = .ok (.iaload, 1) := dk_46 (dk_at dksL_law_11 10 rfl rfl)
theorem dL_law_417 : decode cL_law 417 = .ok (.invokevirtual 37, 3) := dk_182 0 37 (dk_at dksL_law_11 11 rfl rfl)
theorem dL_law_420 : decode cL_law 420 = .ok (.aload_n 2, 1) := dk_44 (dk_at dksL_law_11 14 rfl rfl)
theorem dL_law_421 : decode cL_law 421 = .ok (.aload_n 0, 1) := dk_42 (dk_at dksL_law_11 15 rfl rfl)
theorem dL_law_422 : decode cL_law 422 = .ok (.iload_n 3, 1) := dk_29 (dk_at dksL_law_11 16 rfl rfl)
theorem dL_law_423 : decode cL_law 423 = .ok (.iconst 1, 1) := dk_4 (dk_at dksL_law_11 17 rfl rfl)
theorem dL_law_424 : decode cL_law 424 = .ok (.iadd, 1) := dk_96 (dk_at dksL_law_11 18 rfl rfl)
theorem dL_law_425 : decode cL_law 425 = .ok (.iaload, 1) := dk_46 (dk_at dksL_law_11 19 rfl rfl)
theorem dL_law_426 : decode cL_law 426 = .ok (.invokevirtual 40, 3) := dk_182 0 40 (dk_at dksL_law_11 20 rfl rfl)
theorem dL_law_429 : decode cL_law 429 = .ok (.if_icmp .eq 906, 3) := dk_159 3 138 (dk_at dksL_law_12 0 rfl rfl)
theorem dL_law_432 : decode cL_law 432 = .ok (.iconst 0, 1) := dk_3 (dk_at dksL_law_12 3 rfl rfl)
theorem dL_law_433 : decode cL_law 433 = .ok (.ireturn, 1) := dk_172 (dk_at dksL_law_12 4 rfl rfl)
theorem dL_law_434 : decode cL_law 434 = .ok (.aload_n 1, 1) := dk_43 (dk_at dksL_law_12 5 rfl rfl)
theorem dL_law_435 : decode cL_law 435 = .ok (.aload_n 0, 1) := dk_42 (dk_at dksL_law_12 6 rfl rfl)
theorem dL_law_436 : decode cL_law 436 = .ok (.iload_n 3, 1) := dk_29 (dk_at dksL_law_12 7 rfl rfl)
theorem dL_law_437 : decode cL_law 437 = .ok (.iconst 1, 1) := dk_4 (dk_at dksL_law_12 8 rfl rfl)
theorem dL_law_438 : decode cL_law 438 = .ok (.iadd, 1) := dk_96 (dk_at dksL_law_12 9 rfl rfl)
theorem dL_law_439 : decode cL_law 439 = .ok (.iaload, 1) := dk_46 (dk_at dksL_law_12 10 rfl rfl)
theorem dL_law_440 : decode cL_law 440 = .ok (.aload_n 0, 1) := dk_42 (dk_at dksL_law_12 11 rfl rfl)
theorem dL_law_441 : decode cL_law 441 = .ok (.iload_n 3, 1) := dk_29 (dk_at dksL_law_12 12 rfl rfl)
theorem dL_law_442 : decode cL_law 442 = .ok (.iconst 2, 1) := dk_5 (dk_at dksL_law_12 13 rfl rfl)
theorem dL_law_443 : decode cL_law 443 = .ok (.iadd, 1) := dk_96 (dk_at dksL_law_12 14 rfl rfl)
theorem dL_law_444 : decode cL_law 444 = .ok (.iaload, 1) := dk_46 (dk_at dksL_law_12 15 rfl rfl)
theorem dL_law_445 : decode cL_law 445 = .ok (.invokevirtual 41, 3) := dk_182 0 41 (dk_at dksL_law_12 16 rfl rfl)
theorem dL_law_448 : decode cL_law 448 = .ok (.aload_n 2, 1) := dk_44 (dk_at dksL_law_12 19 rfl rfl)
theorem dL_law_449 : decode cL_law 449 = .ok (.aload_n 0, 1) := dk_42 (dk_at dksL_law_12 20 rfl rfl)
theorem dL_law_450 : decode cL_law 450 = .ok (.iload_n 3, 1) := dk_29 (dk_at dksL_law_12 21 rfl rfl)
theorem dL_law_451 : decode cL_law 451 = .ok (.iconst 1, 1) := dk_4 (dk_at dksL_law_12 22 rfl rfl)
theorem dL_law_452 : decode cL_law 452 = .ok (.iadd, 1) := dk_96 (dk_at dksL_law_12 23 rfl rfl)
theorem dL_law_453 : decode cL_law 453 = .ok (.iaload, 1) := dk_46 (dk_at dksL_law_13 0 rfl rfl)
theorem dL_law_454 : decode cL_law 454 = .ok (.aload_n 0, 1) := dk_42 (dk_at dksL_law_13 1 rfl rfl)
theorem dL_law_455 : decode cL_law 455 = .ok (.iload_n 3, 1) := dk_29 (dk_at dksL_law_13 2 rfl rfl)
theorem dL_law_456 : decode cL_law 456 = .ok (.iconst 2, 1) := dk_5 (dk_at dksL_law_13 3 rfl rfl)
theorem dL_law_457 : decode cL_law 457 = .ok (.iadd, 1) := dk_96 (dk_at dksL_law_13 4 rfl rfl)
theorem dL_law_458 : decode cL_law 458 = .ok (.iaload, 1) := dk_46 (dk_at dksL_law_13 5 rfl rfl)
theorem dL_law_459 : decode cL_law 459 = .ok (.invokevirtual 44, 3) := dk_182 0 44 (dk_at dksL_law_13 6 rfl rfl)
theorem dL_law_462 : decode cL_law 462 = .ok (.if_icmp .eq 873, 3) := dk_159 3 105 (dk_at dksL_law_13 9 rfl rfl)
theorem dL_law_465 : decode cL_law 465 = .ok (.iconst 0, 1) := dk_3 (dk_at dksL_law_13 12 rfl rfl)
theorem dL_law_466 : decode cL_law 466 = .ok (.ireturn, 1) := dk_172 (dk_at dksL_law_13 13 rfl rfl)
theorem dL_law_467 : decode cL_law 467 = .ok (.aload_n 1, 1) := dk_43 (dk_at dksL_law_13 14 rfl rfl)
theorem dL_law_468 : decode cL_law 468 = .ok (.aload_n 0, 1) := dk_42 (dk_at dksL_law_13 15 rfl rfl)
theorem dL_law_469 : decode cL_law 469 = .ok (.iload_n 3, 1) := dk_29 (dk_at dksL_law_13 16 rfl rfl)
theorem dL_law_470 : decode cL_law 470 = .ok (.iconst 1, 1) := dk_4 (dk_at dksL_law_13 17 rfl rfl)
theorem dL_law_471 : decode cL_law 471 = .ok (.iadd, 1) := dk_96 (dk_at dksL_law_13 18 rfl rfl)
theorem dL_law_472 : decode cL_law 472 = .ok (.iaload, 1) := dk_46 (dk_at dksL_law_13 19 rfl rfl)
theorem dL_law_473 : decode cL_law 473 = .ok (.aload_n 0, 1) := dk_42 (dk_at dksL_law_13 20 rfl rfl)
theorem dL_law_474 : decode cL_law 474 = .ok (.iload_n 3, 1) := dk_29 (dk_at dksL_law_13 21 rfl rfl)
theorem dL_law_475 : decode cL_law 475 = .ok (.iconst 2, 1) := dk_5 (dk_at dksL_law_13 22 rfl rfl)
theorem dL_law_476 : decode cL_law 476 = .ok (.iadd, 1) := dk_96 (dk_at dksL_law_13 23 rfl rfl)
theorem dL_law_477 : decode cL_law 477 = .ok (.iaload, 1) := dk_46 (dk_at dksL_law_14 0 rfl rfl)
theorem dL_law_478 : decode cL_law 478 = .ok (.aload_n 0, 1) := dk_42 (dk_at dksL_law_14 1 rfl rfl)
theorem dL_law_479 : decode cL_law 479 = .ok (.iload_n 3, 1) := dk_29 (dk_at dksL_law_14 2 rfl rfl)
theorem dL_law_480 : decode cL_law 480 = .ok (.iconst 3, 1) := dk_6 (dk_at dksL_law_14 3 rfl rfl)
theorem dL_law_481 : decode cL_law 481 = .ok (.iadd, 1) := dk_96 (dk_at dksL_law_14 4 rfl rfl)
theorem dL_law_482 : decode cL_law 482 = .ok (.iaload, 1) := dk_46 (dk_at dksL_law_14 5 rfl rfl)
theorem dL_law_483 : decode cL_law 483 = .ok (.invokevirtual 45, 3) := dk_182 0 45 (dk_at dksL_law_14 6 rfl rfl)
theorem dL_law_486 : decode cL_law 486 = .ok (.aload_n 2, 1) := dk_44 (dk_at dksL_law_14 9 rfl rfl)
theorem dL_law_487 : decode cL_law 487 = .ok (.aload_n 0, 1) := dk_42 (dk_at dksL_law_14 10 rfl rfl)
theorem dL_law_488 : decode cL_law 488 = .ok (.iload_n 3, 1) := dk_29 (dk_at dksL_law_14 11 rfl rfl)
theorem dL_law_489 : decode cL_law 489 = .ok (.iconst 1, 1) := dk_4 (dk_at dksL_law_14 12 rfl rfl)
theorem dL_law_490 : decode cL_law 490 = .ok (.iadd, 1) := dk_96 (dk_at dksL_law_14 13 rfl rfl)
theorem dL_law_491 : decode cL_law 491 = .ok (.iaload, 1) := dk_46 (dk_at dksL_law_14 14 rfl rfl)
theorem dL_law_492 : decode cL_law 492 = .ok (.aload_n 0, 1) := dk_42 (dk_at dksL_law_14 15 rfl rfl)
theorem dL_law_493 : decode cL_law 493 = .ok (.iload_n 3, 1) := dk_29 (dk_at dksL_law_14 16 rfl rfl)
theorem dL_law_494 : decode cL_law 494 = .ok (.iconst 2, 1) := dk_5 (dk_at dksL_law_14 17 rfl rfl)
theorem dL_law_495 : decode cL_law 495 = .ok (.iadd, 1) := dk_96 (dk_at dksL_law_14 18 rfl rfl)
theorem dL_law_496 : decode cL_law 496 = .ok (.iaload, 1) := dk_46 (dk_at dksL_law_14 19 rfl rfl)
theorem dL_law_497 : decode cL_law 497 = .ok (.aload_n 0, 1) := dk_42 (dk_at dksL_law_14 20 rfl rfl)
theorem dL_law_498 : decode cL_law 498 = .ok (.iload_n 3, 1) := dk_29 (dk_at dksL_law_14 21 rfl rfl)
theorem dL_law_499 : decode cL_law 499 = .ok (.iconst 3, 1) := dk_6 (dk_at dksL_law_14 22 rfl rfl)
theorem dL_law_500 : decode cL_law 500 = .ok (.iadd, 1) := dk_96 (dk_at dksL_law_14 23 rfl rfl)
theorem dL_law_501 : decode cL_law 501 = .ok (.iaload, 1) := dk_46 (dk_at dksL_law_15 0 rfl rfl)
theorem dL_law_502 : decode cL_law 502 = .ok (.invokevirtual 48, 3) := dk_182 0 48 (dk_at dksL_law_15 1 rfl rfl)
theorem dL_law_505 : decode cL_law 505 = .ok (.if_icmp .eq 830, 3) := dk_159 3 62 (dk_at dksL_law_15 4 rfl rfl)
theorem dL_law_508 : decode cL_law 508 = .ok (.iconst 0, 1) := dk_3 (dk_at dksL_law_15 7 rfl rfl)
theorem dL_law_509 : decode cL_law 509 = .ok (.ireturn, 1) := dk_172 (dk_at dksL_law_15 8 rfl rfl)
theorem dL_law_510 : decode cL_law 510 = .ok (.aload_n 1, 1) := dk_43 (dk_at dksL_law_15 9 rfl rfl)
theorem dL_law_511 : decode cL_law 511 = .ok (.aload_n 0, 1) := dk_42 (dk_at dksL_law_15 10 rfl rfl)
theorem dL_law_512 : decode cL_law 512 = .ok (.iload_n 3, 1) := dk_29 (dk_at dksL_law_15 11 rfl rfl)
theorem dL_law_513 : decode cL_law 513 = .ok (.iconst 1, 1) := dk_4 (dk_at dksL_law_15 12 rfl rfl)
theorem dL_law_514 : decode cL_law 514 = .ok (.iadd, 1) := dk_96 (dk_at dksL_law_15 13 rfl rfl)
theorem dL_law_515 : decode cL_law 515 = .ok (.iaload, 1) := dk_46 (dk_at dksL_law_15 14 rfl rfl)
theorem dL_law_516 : decode cL_law 516 = .ok (.invokevirtual 49, 3) := dk_182 0 49 (dk_at dksL_law_15 15 rfl rfl)
theorem dL_law_519 : decode cL_law 519 = .ok (.aload_n 2, 1) := dk_44 (dk_at dksL_law_15 18 rfl rfl)
theorem dL_law_520 : decode cL_law 520 = .ok (.aload_n 0, 1) := dk_42 (dk_at dksL_law_15 19 rfl rfl)
theorem dL_law_521 : decode cL_law 521 = .ok (.iload_n 3, 1) := dk_29 (dk_at dksL_law_15 20 rfl rfl)
theorem dL_law_522 : decode cL_law 522 = .ok (.iconst 1, 1) := dk_4 (dk_at dksL_law_15 21 rfl rfl)
theorem dL_law_523 : decode cL_law 523 = .ok (.iadd, 1) := dk_96 (dk_at dksL_law_15 22 rfl rfl)
theorem dL_law_524 : decode cL_law 524 = .ok (.iaload, 1) := dk_46 (dk_at dksL_law_15 23 rfl rfl)
theorem dL_law_525 : decode cL_law 525 = .ok (.invokevirtual 52, 3) := dk_182 0 52 (dk_at dksL_law_16 0 rfl rfl)
theorem dL_law_528 : decode cL_law 528 = .ok (.if_icmp .eq 807, 3) := dk_159 3 39 (dk_at dksL_law_16 3 rfl rfl)
theorem dL_law_531 : decode cL_law 531 = .ok (.iconst 0, 1) := dk_3 (dk_at dksL_law_16 6 rfl rfl)
theorem dL_law_532 : decode cL_law 532 = .ok (.ireturn, 1) := dk_172 (dk_at dksL_law_16 7 rfl rfl)
theorem dL_law_533 : decode cL_law 533 = .ok (.aload_n 1, 1) := dk_43 (dk_at dksL_law_16 8 rfl rfl)
theorem dL_law_534 : decode cL_law 534 = .ok (.aload_n 0, 1) := dk_42 (dk_at dksL_law_16 9 rfl rfl)
theorem dL_law_535 : decode cL_law 535 = .ok (.iload_n 3, 1) := dk_29 (dk_at dksL_law_16 10 rfl rfl)
theorem dL_law_536 : decode cL_law 536 = .ok (.iconst 1, 1) := dk_4 (dk_at dksL_law_16 11 rfl rfl)
theorem dL_law_537 : decode cL_law 537 = .ok (.iadd, 1) := dk_96 (dk_at dksL_law_16 12 rfl rfl)
theorem dL_law_538 : decode cL_law 538 = .ok (.iaload, 1) := dk_46 (dk_at dksL_law_16 13 rfl rfl)
theorem dL_law_539 : decode cL_law 539 = .ok (.invokevirtual 53, 3) := dk_182 0 53 (dk_at dksL_law_16 14 rfl rfl)
theorem dL_law_542 : decode cL_law 542 = .ok (.aload_n 2, 1) := dk_44 (dk_at dksL_law_16 17 rfl rfl)
theorem dL_law_543 : decode cL_law 543 = .ok (.aload_n 0, 1) := dk_42 (dk_at dksL_law_16 18 rfl rfl)
theorem dL_law_544 : decode cL_law 544 = .ok (.iload_n 3, 1) := dk_29 (dk_at dksL_law_16 19 rfl rfl)
theorem dL_law_545 : decode cL_law 545 = .ok (.iconst 1, 1) := dk_4 (dk_at dksL_law_16 20 rfl rfl)
theorem dL_law_546 : decode cL_law 546 = .ok (.iadd, 1) := dk_96 (dk_at dksL_law_16 21 rfl rfl)
theorem dL_law_547 : decode cL_law 547 = .ok (.iaload, 1) := dk_46 (dk_at dksL_law_16 22 rfl rfl)
theorem dL_law_548 : decode cL_law 548 = .ok (.invokevirtual 56, 3) := dk_182 0 56 (dk_at dksL_law_17 0 rfl rfl)
theorem dL_law_551 : decode cL_law 551 = .ok (.if_icmp .eq 784, 3) := dk_159 3 16 (dk_at dksL_law_17 3 rfl rfl)
theorem dL_law_554 : decode cL_law 554 = .ok (.iconst 0, 1) := dk_3 (dk_at dksL_law_17 6 rfl rfl)
theorem dL_law_555 : decode cL_law 555 = .ok (.ireturn, 1) := dk_172 (dk_at dksL_law_17 7 rfl rfl)
theorem dL_law_556 : decode cL_law 556 = .ok (.aload_n 1, 1) := dk_43 (dk_at dksL_law_17 8 rfl rfl)
theorem dL_law_557 : decode cL_law 557 = .ok (.aload_n 0, 1) := dk_42 (dk_at dksL_law_17 9 rfl rfl)
theorem dL_law_558 : decode cL_law 558 = .ok (.iload_n 3, 1) := dk_29 (dk_at dksL_law_17 10 rfl rfl)
theorem dL_law_559 : decode cL_law 559 = .ok (.iconst 1, 1) := dk_4 (dk_at dksL_law_17 11 rfl rfl)
theorem dL_law_560 : decode cL_law 560 = .ok (.iadd, 1) := dk_96 (dk_at dksL_law_17 12 rfl rfl)
theorem dL_law_561 : decode cL_law 561 = .ok (.iaload, 1) := dk_46 (dk_at dksL_law_17 13 rfl rfl)
theorem dL_law_562 : decode cL_law 562 = .ok (.aload_n 0, 1) := dk_42 (dk_at dksL_law_17 14 rfl rfl)
theorem dL_law_563 : decode cL_law 563 = .ok (.iload_n 3, 1) := dk_29 (dk_at dksL_law_17 15 rfl rfl)
theorem dL_law_564 : decode cL_law 564 = .ok (.iconst 2, 1) := dk_5 (dk_at dksL_law_17 16 rfl rfl)
theorem dL_law_565 : decode cL_law 565 = .ok (.iadd, 1) := dk_96 (dk_at dksL_law_17 17 rfl rfl)
theorem dL_law_566 : decode cL_law 566 = .ok (.iaload, 1) := dk_46 (dk_at dksL_law_17 18 rfl rfl)
theorem dL_law_567 : decode cL_law 567 = .ok (.invokevirtual 57, 3) := dk_182 0 57 (dk_at dksL_law_17 19 rfl rfl)
theorem dL_law_570 : decode cL_law 570 = .ok (.aload_n 2, 1) := dk_44 (dk_at dksL_law_17 22 rfl rfl)
theorem dL_law_571 : decode cL_law 571 = .ok (.aload_n 0, 1) := dk_42 (dk_at dksL_law_17 23 rfl rfl)
theorem dL_law_572 : decode cL_law 572 = .ok (.iload_n 3, 1) := dk_29 (dk_at dksL_law_18 0 rfl rfl)
theorem dL_law_573 : decode cL_law 573 = .ok (.iconst 1, 1) := dk_4 (dk_at dksL_law_18 1 rfl rfl)
theorem dL_law_574 : decode cL_law 574 = .ok (.iadd, 1) := dk_96 (dk_at dksL_law_18 2 rfl rfl)
theorem dL_law_575 : decode cL_law 575 = .ok (.iaload, 1) := dk_46 (dk_at dksL_law_18 3 rfl rfl)
theorem dL_law_576 : decode cL_law 576 = .ok (.aload_n 0, 1) := dk_42 (dk_at dksL_law_18 4 rfl rfl)
theorem dL_law_577 : decode cL_law 577 = .ok (.iload_n 3, 1) := dk_29 (dk_at dksL_law_18 5 rfl rfl)
theorem dL_law_578 : decode cL_law 578 = .ok (.iconst 2, 1) := dk_5 (dk_at dksL_law_18 6 rfl rfl)
theorem dL_law_579 : decode cL_law 579 = .ok (.iadd, 1) := dk_96 (dk_at dksL_law_18 7 rfl rfl)
theorem dL_law_580 : decode cL_law 580 = .ok (.iaload, 1) := dk_46 (dk_at dksL_law_18 8 rfl rfl)
theorem dL_law_581 : decode cL_law 581 = .ok (.invokevirtual 60, 3) := dk_182 0 60 (dk_at dksL_law_18 9 rfl rfl)
theorem dL_law_584 : decode cL_law 584 = .ok (.if_icmp .eq 751, 3) := dk_159 2 239 (dk_at dksL_law_18 12 rfl rfl)
theorem dL_law_587 : decode cL_law 587 = .ok (.iconst 0, 1) := dk_3 (dk_at dksL_law_18 15 rfl rfl)
theorem dL_law_588 : decode cL_law 588 = .ok (.ireturn, 1) := dk_172 (dk_at dksL_law_18 16 rfl rfl)
theorem dL_law_589 : decode cL_law 589 = .ok (.aload_n 1, 1) := dk_43 (dk_at dksL_law_18 17 rfl rfl)
theorem dL_law_590 : decode cL_law 590 = .ok (.aload_n 0, 1) := dk_42 (dk_at dksL_law_18 18 rfl rfl)
theorem dL_law_591 : decode cL_law 591 = .ok (.iload_n 3, 1) := dk_29 (dk_at dksL_law_18 19 rfl rfl)
theorem dL_law_592 : decode cL_law 592 = .ok (.iconst 1, 1) := dk_4 (dk_at dksL_law_18 20 rfl rfl)
theorem dL_law_593 : decode cL_law 593 = .ok (.iadd, 1) := dk_96 (dk_at dksL_law_18 21 rfl rfl)
theorem dL_law_594 : decode cL_law 594 = .ok (.iaload, 1) := dk_46 (dk_at dksL_law_18 22 rfl rfl)
theorem dL_law_595 : decode cL_law 595 = .ok (.aload_n 0, 1) := dk_42 (dk_at dksL_law_18 23 rfl rfl)
theorem dL_law_596 : decode cL_law 596 = .ok (.iload_n 3, 1) := dk_29 (dk_at dksL_law_19 0 rfl rfl)
theorem dL_law_597 : decode cL_law 597 = .ok (.iconst 2, 1) := dk_5 (dk_at dksL_law_19 1 rfl rfl)
theorem dL_law_598 : decode cL_law 598 = .ok (.iadd, 1) := dk_96 (dk_at dksL_law_19 2 rfl rfl)
theorem dL_law_599 : decode cL_law 599 = .ok (.iaload, 1) := dk_46 (dk_at dksL_law_19 3 rfl rfl)
theorem dL_law_600 : decode cL_law 600 = .ok (.invokevirtual 61, 3) := dk_182 0 61 (dk_at dksL_law_19 4 rfl rfl)
theorem dL_law_603 : decode cL_law 603 = .ok (.aload_n 2, 1) := dk_44 (dk_at dksL_law_19 7 rfl rfl)
theorem dL_law_604 : decode cL_law 604 = .ok (.aload_n 0, 1) := dk_42 (dk_at dksL_law_19 8 rfl rfl)
theorem dL_law_605 : decode cL_law 605 = .ok (.iload_n 3, 1) := dk_29 (dk_at dksL_law_19 9 rfl rfl)
theorem dL_law_606 : decode cL_law 606 = .ok (.iconst 1, 1) := dk_4 (dk_at dksL_law_19 10 rfl rfl)
theorem dL_law_607 : decode cL_law 607 = .ok (.iadd, 1) := dk_96 (dk_at dksL_law_19 11 rfl rfl)
theorem dL_law_608 : decode cL_law 608 = .ok (.iaload, 1) := dk_46 (dk_at dksL_law_19 12 rfl rfl)
theorem dL_law_609 : decode cL_law 609 = .ok (.aload_n 0, 1) := dk_42 (dk_at dksL_law_19 13 rfl rfl)
theorem dL_law_610 : decode cL_law 610 = .ok (.iload_n 3, 1) := dk_29 (dk_at dksL_law_19 14 rfl rfl)
theorem dL_law_611 : decode cL_law 611 = .ok (.iconst 2, 1) := dk_5 (dk_at dksL_law_19 15 rfl rfl)
theorem dL_law_612 : decode cL_law 612 = .ok (.iadd, 1) := dk_96 (dk_at dksL_law_19 16 rfl rfl)
theorem dL_law_613 : decode cL_law 613 = .ok (.iaload, 1) := dk_46 (dk_at dksL_law_19 17 rfl rfl)
theorem dL_law_614 : decode cL_law 614 = .ok (.invokevirtual 64, 3) := dk_182 0 64 (dk_at dksL_law_19 18 rfl rfl)
theorem dL_law_617 : decode cL_law 617 = .ok (.if_icmp .eq 718, 3) := dk_159 2 206 (dk_at dksL_law_19 21 rfl rfl)
theorem dL_law_620 : decode cL_law 620 = .ok (.iconst 0, 1) := dk_3 (dk_at dksL_law_20 0 rfl rfl)
theorem dL_law_621 : decode cL_law 621 = .ok (.ireturn, 1) := dk_172 (dk_at dksL_law_20 1 rfl rfl)
theorem dL_law_622 : decode cL_law 622 = .ok (.aload_n 1, 1) := dk_43 (dk_at dksL_law_20 2 rfl rfl)
theorem dL_law_623 : decode cL_law 623 = .ok (.aload_n 0, 1) := dk_42 (dk_at dksL_law_20 3 rfl rfl)
theorem dL_law_624 : decode cL_law 624 = .ok (.iload_n 3, 1) := dk_29 (dk_at dksL_law_20 4 rfl rfl)
theorem dL_law_625 : decode cL_law 625 = .ok (.iconst 1, 1) := dk_4 (dk_at dksL_law_20 5 rfl rfl)
theorem dL_law_626 : decode cL_law 626 = .ok (.iadd, 1) := dk_96 (dk_at dksL_law_20 6 rfl rfl)
theorem dL_law_627 : decode cL_law 627 = .ok (.iaload, 1) := dk_46 (dk_at dksL_law_20 7 rfl rfl)
theorem dL_law_628 : decode cL_law 628 = .ok (.invokevirtual 65, 3) := dk_182 0 65 (dk_at dksL_law_20 8 rfl rfl)
theorem dL_law_631 : decode cL_law 631 = .ok (.aload_n 2, 1) := dk_44 (dk_at dksL_law_20 11 rfl rfl)
theorem dL_law_632 : decode cL_law 632 = .ok (.aload_n 0, 1) := dk_42 (dk_at dksL_law_20 12 rfl rfl)
theorem dL_law_633 : decode cL_law 633 = .ok (.iload_n 3, 1) := dk_29 (dk_at dksL_law_20 13 rfl rfl)
theorem dL_law_634 : decode cL_law 634 = .ok (.iconst 1, 1) := dk_4 (dk_at dksL_law_20 14 rfl rfl)
theorem dL_law_635 : decode cL_law 635 = .ok (.iadd, 1) := dk_96 (dk_at dksL_law_20 15 rfl rfl)
theorem dL_law_636 : decode cL_law 636 = .ok (.iaload, 1) := dk_46 (dk_at dksL_law_20 16 rfl rfl)
theorem dL_law_637 : decode cL_law 637 = .ok (.invokevirtual 68, 3) := dk_182 0 68 (dk_at dksL_law_20 17 rfl rfl)
theorem dL_law_640 : decode cL_law 640 = .ok (.if_icmp .eq 695, 3) := dk_159 2 183 (dk_at dksL_law_20 20 rfl rfl)
theorem dL_law_643 : decode cL_law 643 = .ok (.iconst 0, 1) := dk_3 (dk_at dksL_law_20 23 rfl rfl)
theorem dL_law_644 : decode cL_law 644 = .ok (.ireturn, 1) := dk_172 (dk_at dksL_law_21 0 rfl rfl)
theorem dL_law_645 : decode cL_law 645 = .ok (.aload_n 1, 1) := dk_43 (dk_at dksL_law_21 1 rfl rfl)
theorem dL_law_646 : decode cL_law 646 = .ok (.aload_n 0, 1) := dk_42 (dk_at dksL_law_21 2 rfl rfl)
theorem dL_law_647 : decode cL_law 647 = .ok (.iload_n 3, 1) := dk_29 (dk_at dksL_law_21 3 rfl rfl)
theorem dL_law_648 : decode cL_law 648 = .ok (.iconst 1, 1) := dk_4 (dk_at dksL_law_21 4 rfl rfl)
theorem dL_law_649 : decode cL_law 649 = .ok (.iadd, 1) := dk_96 (dk_at dksL_law_21 5 rfl rfl)
theorem dL_law_650 : decode cL_law 650 = .ok (.iaload, 1) := dk_46 (dk_at dksL_law_21 6 rfl rfl)
theorem dL_law_651 : decode cL_law 651 = .ok (.invokevirtual 69, 3) := dk_182 0 69 (dk_at dksL_law_21 7 rfl rfl)
theorem dL_law_654 : decode cL_law 654 = .ok (.aload_n 2, 1) := dk_44 (dk_at dksL_law_21 10 rfl rfl)
theorem dL_law_655 : decode cL_law 655 = .ok (.aload_n 0, 1) := dk_42 (dk_at dksL_law_21 11 rfl rfl)
theorem dL_law_656 : decode cL_law 656 = .ok (.iload_n 3, 1) := dk_29 (dk_at dksL_law_21 12 rfl rfl)
theorem dL_law_657 : decode cL_law 657 = .ok (.iconst 1, 1) := dk_4 (dk_at dksL_law_21 13 rfl rfl)
theorem dL_law_658 : decode cL_law 658 = .ok (.iadd, 1) := dk_96 (dk_at dksL_law_21 14 rfl rfl)
theorem dL_law_659 : decode cL_law 659 = .ok (.iaload, 1) := dk_46 (dk_at dksL_law_21 15 rfl rfl)
theorem dL_law_660 : decode cL_law 660 = .ok (.invokevirtual 72, 3) := dk_182 0 72 (dk_at dksL_law_21 16 rfl rfl)
theorem dL_law_663 : decode cL_law 663 = .ok (.if_icmp .eq 672, 3) := dk_159 2 160 (dk_at dksL_law_21 19 rfl rfl)
theorem dL_law_666 : decode cL_law 666 = .ok (.iconst 0, 1) := dk_3 (dk_at dksL_law_21 22 rfl rfl)
theorem dL_law_667 : decode cL_law 667 = .ok (.ireturn, 1) := dk_172 (dk_at dksL_law_21 23 rfl rfl)
theorem dL_law_668 : decode cL_law 668 = .ok (.aload_n 1, 1) := dk_43 (dk_at dksL_law_22 0 rfl rfl)
theorem dL_law_669 : decode cL_law 669 = .ok (.aload_n 0, 1) := dk_42 (dk_at dksL_law_22 1 rfl rfl)
theorem dL_law_670 : decode cL_law 670 = .ok (.iload_n 3, 1) := dk_29 (dk_at dksL_law_22 2 rfl rfl)
theorem dL_law_671 : decode cL_law 671 = .ok (.iconst 1, 1) := dk_4 (dk_at dksL_law_22 3 rfl rfl)
theorem dL_law_672 : decode cL_law 672 = .ok (.iadd, 1) := dk_96 (dk_at dksL_law_22 4 rfl rfl)
theorem dL_law_673 : decode cL_law 673 = .ok (.iaload, 1) := dk_46 (dk_at dksL_law_22 5 rfl rfl)
theorem dL_law_674 : decode cL_law 674 = .ok (.invokevirtual 73, 3) := dk_182 0 73 (dk_at dksL_law_22 6 rfl rfl)
theorem dL_law_677 : decode cL_law 677 = .ok (.aload_n 2, 1) := dk_44 (dk_at dksL_law_22 9 rfl rfl)
theorem dL_law_678 : decode cL_law 678 = .ok (.aload_n 0, 1) := dk_42 (dk_at dksL_law_22 10 rfl rfl)
theorem dL_law_679 : decode cL_law 679 = .ok (.iload_n 3, 1) := dk_29 (dk_at dksL_law_22 11 rfl rfl)
theorem dL_law_680 : decode cL_law 680 = .ok (.iconst 1, 1) := dk_4 (dk_at dksL_law_22 12 rfl rfl)
theorem dL_law_681 : decode cL_law 681 = .ok (.iadd, 1) := dk_96 (dk_at dksL_law_22 13 rfl rfl)
theorem dL_law_682 : decode cL_law 682 = .ok (.iaload, 1) := dk_46 (dk_at dksL_law_22 14 rfl rfl)
theorem dL_law_683 : decode cL_law 683 = .ok (.invokevirtual 76, 3) := dk_182 0 76 (dk_at dksL_law_22 15 rfl rfl)
theorem dL_law_686 : decode cL_law 686 = .ok (.if_icmp .eq 649, 3) := dk_159 2 137 (dk_at dksL_law_22 18 rfl rfl)
theorem dL_law_689 : decode cL_law 689 = .ok (.iconst 0, 1) := dk_3 (dk_at dksL_law_22 21 rfl rfl)
theorem dL_law_690 : decode cL_law 690 = .ok (.ireturn, 1) := dk_172 (dk_at dksL_law_22 22 rfl rfl)
theorem dL_law_691 : decode cL_law 691 = .ok (.aload_n 1, 1) := dk_43 (dk_at dksL_law_22 23 rfl rfl)
theorem dL_law_692 : decode cL_law 692 = .ok (.aload_n 0, 1) := dk_42 (dk_at dksL_law_23 0 rfl rfl)
theorem dL_law_693 : decode cL_law 693 = .ok (.iload_n 3, 1) := dk_29 (dk_at dksL_law_23 1 rfl rfl)
theorem dL_law_694 : decode cL_law 694 = .ok (.iconst 1, 1) := dk_4 (dk_at dksL_law_23 2 rfl rfl)
theorem dL_law_695 : decode cL_law 695 = .ok (.iadd, 1) := dk_96 (dk_at dksL_law_23 3 rfl rfl)
theorem dL_law_696 : decode cL_law 696 = .ok (.iaload, 1) := dk_46 (dk_at dksL_law_23 4 rfl rfl)
theorem dL_law_697 : decode cL_law 697 = .ok (.invokevirtual 77, 3) := dk_182 0 77 (dk_at dksL_law_23 5 rfl rfl)
theorem dL_law_700 : decode cL_law 700 = .ok (.aload_n 2, 1) := dk_44 (dk_at dksL_law_23 8 rfl rfl)
theorem dL_law_701 : decode cL_law 701 = .ok (.aload_n 0, 1) := dk_42 (dk_at dksL_law_23 9 rfl rfl)
theorem dL_law_702 : decode cL_law 702 = .ok (.iload_n 3, 1) := dk_29 (dk_at dksL_law_23 10 rfl rfl)
theorem dL_law_703 : decode cL_law 703 = .ok (.iconst 1, 1) := dk_4 (dk_at dksL_law_23 11 rfl rfl)
theorem dL_law_704 : decode cL_law 704 = .ok (.iadd, 1) := dk_96 (dk_at dksL_law_23 12 rfl rfl)
theorem dL_law_705 : decode cL_law 705 = .ok (.iaload, 1) := dk_46 (dk_at dksL_law_23 13 rfl rfl)
theorem dL_law_706 : decode cL_law 706 = .ok (.invokevirtual 80, 3) := dk_182 0 80 (dk_at dksL_law_23 14 rfl rfl)
theorem dL_law_709 : decode cL_law 709 = .ok (.if_icmp .eq 626, 3) := dk_159 2 114 (dk_at dksL_law_23 17 rfl rfl)
theorem dL_law_712 : decode cL_law 712 = .ok (.iconst 0, 1) := dk_3 (dk_at dksL_law_23 20 rfl rfl)
theorem dL_law_713 : decode cL_law 713 = .ok (.ireturn, 1) := dk_172 (dk_at dksL_law_23 21 rfl rfl)
theorem dL_law_714 : decode cL_law 714 = .ok (.aload_n 1, 1) := dk_43 (dk_at dksL_law_23 22 rfl rfl)
theorem dL_law_715 : decode cL_law 715 = .ok (.aload_n 0, 1) := dk_42 (dk_at dksL_law_23 23 rfl rfl)
theorem dL_law_716 : decode cL_law 716 = .ok (.iload_n 3, 1) := dk_29 (dk_at dksL_law_24 0 rfl rfl)
theorem dL_law_717 : decode cL_law 717 = .ok (.iconst 1, 1) := dk_4 (dk_at dksL_law_24 1 rfl rfl)
theorem dL_law_718 : decode cL_law 718 = .ok (.iadd, 1) := dk_96 (dk_at dksL_law_24 2 rfl rfl)
theorem dL_law_719 : decode cL_law 719 = .ok (.iaload, 1) := dk_46 (dk_at dksL_law_24 3 rfl rfl)
theorem dL_law_720 : decode cL_law 720 = .ok (.invokevirtual 81, 3) := dk_182 0 81 (dk_at dksL_law_24 4 rfl rfl)
theorem dL_law_723 : decode cL_law 723 = .ok (.aload_n 2, 1) := dk_44 (dk_at dksL_law_24 7 rfl rfl)
theorem dL_law_724 : decode cL_law 724 = .ok (.aload_n 0, 1) := dk_42 (dk_at dksL_law_24 8 rfl rfl)
theorem dL_law_725 : decode cL_law 725 = .ok (.iload_n 3, 1) := dk_29 (dk_at dksL_law_24 9 rfl rfl)
theorem dL_law_726 : decode cL_law 726 = .ok (.iconst 1, 1) := dk_4 (dk_at dksL_law_24 10 rfl rfl)
theorem dL_law_727 : decode cL_law 727 = .ok (.iadd, 1) := dk_96 (dk_at dksL_law_24 11 rfl rfl)
theorem dL_law_728 : decode cL_law 728 = .ok (.iaload, 1) := dk_46 (dk_at dksL_law_24 12 rfl rfl)
theorem dL_law_729 : decode cL_law 729 = .ok (.invokevirtual 84, 3) := dk_182 0 84 (dk_at dksL_law_24 13 rfl rfl)
theorem dL_law_732 : decode cL_law 732 = .ok (.if_icmp .eq 603, 3) := dk_159 2 91 (dk_at dksL_law_24 16 rfl rfl)
theorem dL_law_735 : decode cL_law 735 = .ok (.iconst 0, 1) := dk_3 (dk_at dksL_law_24 19 rfl rfl)
theorem dL_law_736 : decode cL_law 736 = .ok (.ireturn, 1) := dk_172 (dk_at dksL_law_24 20 rfl rfl)
theorem dL_law_737 : decode cL_law 737 = .ok (.aload_n 1, 1) := dk_43 (dk_at dksL_law_24 21 rfl rfl)
theorem dL_law_738 : decode cL_law 738 = .ok (.aload_n 0, 1) := dk_42 (dk_at dksL_law_24 22 rfl rfl)
theorem dL_law_739 : decode cL_law 739 = .ok (.iload_n 3, 1) := dk_29 (dk_at dksL_law_24 23 rfl rfl)
theorem dL_law_740 : decode cL_law 740 = .ok (.iconst 1, 1) := dk_4 (dk_at dksL_law_25 0 rfl rfl)
theorem dL_law_741 : decode cL_law 741 = .ok (.iadd, 1) := dk_96 (dk_at dksL_law_25 1 rfl rfl)
theorem dL_law_742 : decode cL_law 742 = .ok (.iaload, 1) := dk_46 (dk_at dksL_law_25 2 rfl rfl)
theorem dL_law_743 : decode cL_law 743 = .ok (.invokevirtual 85, 3) := dk_182 0 85 (dk_at dksL_law_25 3 rfl rfl)
theorem dL_law_746 : decode cL_law 746 = .ok (.aload_n 2, 1) := dk_44 (dk_at dksL_law_25 6 rfl rfl)
theorem dL_law_747 : decode cL_law 747 = .ok (.aload_n 0, 1) := dk_42 (dk_at dksL_law_25 7 rfl rfl)
theorem dL_law_748 : decode cL_law 748 = .ok (.iload_n 3, 1) := dk_29 (dk_at dksL_law_25 8 rfl rfl)
theorem dL_law_749 : decode cL_law 749 = .ok (.iconst 1, 1) := dk_4 (dk_at dksL_law_25 9 rfl rfl)
theorem dL_law_750 : decode cL_law 750 = .ok (.iadd, 1) := dk_96 (dk_at dksL_law_25 10 rfl rfl)
theorem dL_law_751 : decode cL_law 751 = .ok (.iaload, 1) := dk_46 (dk_at dksL_law_25 11 rfl rfl)
theorem dL_law_752 : decode cL_law 752 = .ok (.invokevirtual 88, 3) := dk_182 0 88 (dk_at dksL_law_25 12 rfl rfl)
theorem dL_law_755 : decode cL_law 755 = .ok (.if_icmp .eq 580, 3) := dk_159 2 68 (dk_at dksL_law_25 15 rfl rfl)
theorem dL_law_758 : decode cL_law 758 = .ok (.iconst 0, 1) := dk_3 (dk_at dksL_law_25 18 rfl rfl)
theorem dL_law_759 : decode cL_law 759 = .ok (.ireturn, 1) := dk_172 (dk_at dksL_law_25 19 rfl rfl)
theorem dL_law_760 : decode cL_law 760 = .ok (.aload_n 1, 1) := dk_43 (dk_at dksL_law_25 20 rfl rfl)
theorem dL_law_761 : decode cL_law 761 = .ok (.invokevirtual 89, 3) := dk_182 0 89 (dk_at dksL_law_25 21 rfl rfl)
theorem dL_law_764 : decode cL_law 764 = .ok (.aload_n 2, 1) := dk_44 (dk_at dksL_law_26 0 rfl rfl)
theorem dL_law_765 : decode cL_law 765 = .ok (.invokevirtual 93, 3) := dk_182 0 93 (dk_at dksL_law_26 1 rfl rfl)
theorem dL_law_768 : decode cL_law 768 = .ok (.if_icmp .eq 567, 3) := dk_159 2 55 (dk_at dksL_law_26 4 rfl rfl)
theorem dL_law_771 : decode cL_law 771 = .ok (.iconst 0, 1) := dk_3 (dk_at dksL_law_26 7 rfl rfl)
theorem dL_law_772 : decode cL_law 772 = .ok (.ireturn, 1) := dk_172 (dk_at dksL_law_26 8 rfl rfl)
theorem dL_law_773 : decode cL_law 773 = .ok (.aload_n 1, 1) := dk_43 (dk_at dksL_law_26 9 rfl rfl)
theorem dL_law_774 : decode cL_law 774 = .ok (.aload_n 0, 1) := dk_42 (dk_at dksL_law_26 10 rfl rfl)
theorem dL_law_775 : decode cL_law 775 = .ok (.iload_n 3, 1) := dk_29 (dk_at dksL_law_26 11 rfl rfl)
theorem dL_law_776 : decode cL_law 776 = .ok (.iconst 1, 1) := dk_4 (dk_at dksL_law_26 12 rfl rfl)
theorem dL_law_777 : decode cL_law 777 = .ok (.iadd, 1) := dk_96 (dk_at dksL_law_26 13 rfl rfl)
theorem dL_law_778 : decode cL_law 778 = .ok (.iaload, 1) := dk_46 (dk_at dksL_law_26 14 rfl rfl)
theorem dL_law_779 : decode cL_law 779 = .ok (.invokevirtual 94, 3) := dk_182 0 94 (dk_at dksL_law_26 15 rfl rfl)
theorem dL_law_782 : decode cL_law 782 = .ok (.aload_n 2, 1) := dk_44 (dk_at dksL_law_26 18 rfl rfl)
theorem dL_law_783 : decode cL_law 783 = .ok (.aload_n 0, 1) := dk_42 (dk_at dksL_law_26 19 rfl rfl)
theorem dL_law_784 : decode cL_law 784 = .ok (.iload_n 3, 1) := dk_29 (dk_at dksL_law_26 20 rfl rfl)
theorem dL_law_785 : decode cL_law 785 = .ok (.iconst 1, 1) := dk_4 (dk_at dksL_law_26 21 rfl rfl)
theorem dL_law_786 : decode cL_law 786 = .ok (.iadd, 1) := dk_96 (dk_at dksL_law_26 22 rfl rfl)
theorem dL_law_787 : decode cL_law 787 = .ok (.iaload, 1) := dk_46 (dk_at dksL_law_26 23 rfl rfl)
theorem dL_law_788 : decode cL_law 788 = .ok (.invokevirtual 97, 3) := dk_182 0 97 (dk_at dksL_law_27 0 rfl rfl)
theorem dL_law_791 : decode cL_law 791 = .ok (.if_icmp .eq 544, 3) := dk_159 2 32 (dk_at dksL_law_27 3 rfl rfl)
theorem dL_law_794 : decode cL_law 794 = .ok (.iconst 0, 1) := dk_3 (dk_at dksL_law_27 6 rfl rfl)
theorem dL_law_795 : decode cL_law 795 = .ok (.ireturn, 1) := dk_172 (dk_at dksL_law_27 7 rfl rfl)
theorem dL_law_796 : decode cL_law 796 = .ok (.aload_n 1, 1) := dk_43 (dk_at dksL_law_27 8 rfl rfl)
theorem dL_law_797 : decode cL_law 797 = .ok (.aload_n 0, 1) := dk_42 (dk_at dksL_law_27 9 rfl rfl)
theorem dL_law_798 : decode cL_law 798 = .ok (.iload_n 3, 1) := dk_29 (dk_at dksL_law_27 10 rfl rfl)
theorem dL_law_799 : decode cL_law 799 = .ok (.iconst 1, 1) := dk_4 (dk_at dksL_law_27 11 rfl rfl)
theorem dL_law_800 : decode cL_law 800 = .ok (.iadd, 1) := dk_96 (dk_at dksL_law_27 12 rfl rfl)
theorem dL_law_801 : decode cL_law 801 = .ok (.iaload, 1) := dk_46 (dk_at dksL_law_27 13 rfl rfl)
theorem dL_law_802 : decode cL_law 802 = .ok (.invokevirtual 98, 3) := dk_182 0 98 (dk_at dksL_law_27 14 rfl rfl)
theorem dL_law_805 : decode cL_law 805 = .ok (.aload_n 2, 1) := dk_44 (dk_at dksL_law_27 17 rfl rfl)
theorem dL_law_806 : decode cL_law 806 = .ok (.aload_n 0, 1) := dk_42 (dk_at dksL_law_27 18 rfl rfl)
theorem dL_law_807 : decode cL_law 807 = .ok (.iload_n 3, 1) := dk_29 (dk_at dksL_law_27 19 rfl rfl)
theorem dL_law_808 : decode cL_law 808 = .ok (.iconst 1, 1) := dk_4 (dk_at dksL_law_27 20 rfl rfl)
theorem dL_law_809 : decode cL_law 809 = .ok (.iadd, 1) := dk_96 (dk_at dksL_law_27 21 rfl rfl)
theorem dL_law_810 : decode cL_law 810 = .ok (.iaload, 1) := dk_46 (dk_at dksL_law_27 22 rfl rfl)
theorem dL_law_811 : decode cL_law 811 = .ok (.invokevirtual 101, 3) := dk_182 0 101 (dk_at dksL_law_28 0 rfl rfl)
theorem dL_law_814 : decode cL_law 814 = .ok (.if_icmp .eq 521, 3) := dk_159 2 9 (dk_at dksL_law_28 3 rfl rfl)
theorem dL_law_817 : decode cL_law 817 = .ok (.iconst 0, 1) := dk_3 (dk_at dksL_law_28 6 rfl rfl)
theorem dL_law_818 : decode cL_law 818 = .ok (.ireturn, 1) := dk_172 (dk_at dksL_law_28 7 rfl rfl)
theorem dL_law_819 : decode cL_law 819 = .ok (.aload_n 1, 1) := dk_43 (dk_at dksL_law_28 8 rfl rfl)
theorem dL_law_820 : decode cL_law 820 = .ok (.aload_n 0, 1) := dk_42 (dk_at dksL_law_28 9 rfl rfl)
theorem dL_law_821 : decode cL_law 821 = .ok (.iload_n 3, 1) := dk_29 (dk_at dksL_law_28 10 rfl rfl)
theorem dL_law_822 : decode cL_law 822 = .ok (.iconst 1, 1) := dk_4 (dk_at dksL_law_28 11 rfl rfl)
theorem dL_law_823 : decode cL_law 823 = .ok (.iadd, 1) := dk_96 (dk_at dksL_law_28 12 rfl rfl)
theorem dL_law_824 : decode cL_law 824 = .ok (.iaload, 1) := dk_46 (dk_at dksL_law_28 13 rfl rfl)
theorem dL_law_825 : decode cL_law 825 = .ok (.invokevirtual 102, 3) := dk_182 0 102 (dk_at dksL_law_28 14 rfl rfl)
theorem dL_law_828 : decode cL_law 828 = .ok (.aload_n 2, 1) := dk_44 (dk_at dksL_law_28 17 rfl rfl)
theorem dL_law_829 : decode cL_law 829 = .ok (.aload_n 0, 1) := dk_42 (dk_at dksL_law_28 18 rfl rfl)
theorem dL_law_830 : decode cL_law 830 = .ok (.iload_n 3, 1) := dk_29 (dk_at dksL_law_28 19 rfl rfl)
theorem dL_law_831 : decode cL_law 831 = .ok (.iconst 1, 1) := dk_4 (dk_at dksL_law_28 20 rfl rfl)
theorem dL_law_832 : decode cL_law 832 = .ok (.iadd, 1) := dk_96 (dk_at dksL_law_28 21 rfl rfl)
theorem dL_law_833 : decode cL_law 833 = .ok (.iaload, 1) := dk_46 (dk_at dksL_law_28 22 rfl rfl)
theorem dL_law_834 : decode cL_law 834 = .ok (.invokevirtual 105, 3) := dk_182 0 105 (dk_at dksL_law_29 0 rfl rfl)
theorem dL_law_837 : decode cL_law 837 = .ok (.if_icmp .eq 498, 3) := dk_159 1 242 (dk_at dksL_law_29 3 rfl rfl)
theorem dL_law_840 : decode cL_law 840 = .ok (.iconst 0, 1) := dk_3 (dk_at dksL_law_29 6 rfl rfl)
theorem dL_law_841 : decode cL_law 841 = .ok (.ireturn, 1) := dk_172 (dk_at dksL_law_29 7 rfl rfl)
theorem dL_law_842 : decode cL_law 842 = .ok (.aload_n 1, 1) := dk_43 (dk_at dksL_law_29 8 rfl rfl)
theorem dL_law_843 : decode cL_law 843 = .ok (.aload_n 0, 1) := dk_42 (dk_at dksL_law_29 9 rfl rfl)
theorem dL_law_844 : decode cL_law 844 = .ok (.iload_n 3, 1) := dk_29 (dk_at dksL_law_29 10 rfl rfl)
theorem dL_law_845 : decode cL_law 845 = .ok (.iconst 1, 1) := dk_4 (dk_at dksL_law_29 11 rfl rfl)
theorem dL_law_846 : decode cL_law 846 = .ok (.iadd, 1) := dk_96 (dk_at dksL_law_29 12 rfl rfl)
theorem dL_law_847 : decode cL_law 847 = .ok (.iaload, 1) := dk_46 (dk_at dksL_law_29 13 rfl rfl)
theorem dL_law_848 : decode cL_law 848 = .ok (.invokevirtual 106, 3) := dk_182 0 106 (dk_at dksL_law_29 14 rfl rfl)
theorem dL_law_851 : decode cL_law 851 = .ok (.aload_n 2, 1) := dk_44 (dk_at dksL_law_29 17 rfl rfl)
theorem dL_law_852 : decode cL_law 852 = .ok (.aload_n 0, 1) := dk_42 (dk_at dksL_law_29 18 rfl rfl)
theorem dL_law_853 : decode cL_law 853 = .ok (.iload_n 3, 1) := dk_29 (dk_at dksL_law_29 19 rfl rfl)
theorem dL_law_854 : decode cL_law 854 = .ok (.iconst 1, 1) := dk_4 (dk_at dksL_law_29 20 rfl rfl)
theorem dL_law_855 : decode cL_law 855 = .ok (.iadd, 1) := dk_96 (dk_at dksL_law_29 21 rfl rfl)
theorem dL_law_856 : decode cL_law 856 = .ok (.iaload, 1) := dk_46 (dk_at dksL_law_29 22 rfl rfl)
theorem dL_law_857 : decode cL_law 857 = .ok (.invokevirtual 109, 3) := dk_182 0 109 (dk_at dksL_law_30 0 rfl rfl)
theorem dL_law_860 : decode cL_law 860 = .ok (.if_icmp .eq 475, 3) := dk_159 1 219 (dk_at dksL_law_30 3 rfl rfl)
theorem dL_law_863 : decode cL_law 863 = .ok (.iconst 0, 1) := dk_3 (dk_at dksL_law_30 6 rfl rfl)
theorem dL_law_864 : decode cL_law 864 = .ok (.ireturn, 1) := dk_172 (dk_at dksL_law_30 7 rfl rfl)
theorem dL_law_865 : decode cL_law 865 = .ok (.aload_n 1, 1) := dk_43 (dk_at dksL_law_30 8 rfl rfl)
theorem dL_law_866 : decode cL_law 866 = .ok (.aload_n 0, 1) := dk_42 (dk_at dksL_law_30 9 rfl rfl)
theorem dL_law_867 : decode cL_law 867 = .ok (.iload_n 3, 1) := dk_29 (dk_at dksL_law_30 10 rfl rfl)
theorem dL_law_868 : decode cL_law 868 = .ok (.iconst 1, 1) := dk_4 (dk_at dksL_law_30 11 rfl rfl)
theorem dL_law_869 : decode cL_law 869 = .ok (.iadd, 1) := dk_96 (dk_at dksL_law_30 12 rfl rfl)
theorem dL_law_870 : decode cL_law 870 = .ok (.iaload, 1) := dk_46 (dk_at dksL_law_30 13 rfl rfl)
theorem dL_law_871 : decode cL_law 871 = .ok (.aload_n 0, 1) := dk_42 (dk_at dksL_law_30 14 rfl rfl)
theorem dL_law_872 : decode cL_law 872 = .ok (.iload_n 3, 1) := dk_29 (dk_at dksL_law_30 15 rfl rfl)
theorem dL_law_873 : decode cL_law 873 = .ok (.iconst 2, 1) := dk_5 (dk_at dksL_law_30 16 rfl rfl)
theorem dL_law_874 : decode cL_law 874 = .ok (.iadd, 1) := dk_96 (dk_at dksL_law_30 17 rfl rfl)
theorem dL_law_875 : decode cL_law 875 = .ok (.iaload, 1) := dk_46 (dk_at dksL_law_30 18 rfl rfl)
theorem dL_law_876 : decode cL_law 876 = .ok (.invokevirtual 110, 3) := dk_182 0 110 (dk_at dksL_law_30 19 rfl rfl)
theorem dL_law_879 : decode cL_law 879 = .ok (.aload_n 2, 1) := dk_44 (dk_at dksL_law_30 22 rfl rfl)
theorem dL_law_880 : decode cL_law 880 = .ok (.aload_n 0, 1) := dk_42 (dk_at dksL_law_30 23 rfl rfl)
theorem dL_law_881 : decode cL_law 881 = .ok (.iload_n 3, 1) := dk_29 (dk_at dksL_law_31 0 rfl rfl)
theorem dL_law_882 : decode cL_law 882 = .ok (.iconst 1, 1) := dk_4 (dk_at dksL_law_31 1 rfl rfl)
theorem dL_law_883 : decode cL_law 883 = .ok (.iadd, 1) := dk_96 (dk_at dksL_law_31 2 rfl rfl)
theorem dL_law_884 : decode cL_law 884 = .ok (.iaload, 1) := dk_46 (dk_at dksL_law_31 3 rfl rfl)
theorem dL_law_885 : decode cL_law 885 = .ok (.aload_n 0, 1) := dk_42 (dk_at dksL_law_31 4 rfl rfl)
theorem dL_law_886 : decode cL_law 886 = .ok (.iload_n 3, 1) := dk_29 (dk_at dksL_law_31 5 rfl rfl)
theorem dL_law_887 : decode cL_law 887 = .ok (.iconst 2, 1) := dk_5 (dk_at dksL_law_31 6 rfl rfl)
theorem dL_law_888 : decode cL_law 888 = .ok (.iadd, 1) := dk_96 (dk_at dksL_law_31 7 rfl rfl)
theorem dL_law_889 : decode cL_law 889 = .ok (.iaload, 1) := dk_46 (dk_at dksL_law_31 8 rfl rfl)
theorem dL_law_890 : decode cL_law 890 = .ok (.invokevirtual 113, 3) := dk_182 0 113 (dk_at dksL_law_31 9 rfl rfl)
theorem dL_law_893 : decode cL_law 893 = .ok (.if_icmp .eq 442, 3) := dk_159 1 186 (dk_at dksL_law_31 12 rfl rfl)
theorem dL_law_896 : decode cL_law 896 = .ok (.iconst 0, 1) := dk_3 (dk_at dksL_law_31 15 rfl rfl)
theorem dL_law_897 : decode cL_law 897 = .ok (.ireturn, 1) := dk_172 (dk_at dksL_law_31 16 rfl rfl)
theorem dL_law_898 : decode cL_law 898 = .ok (.aload_n 1, 1) := dk_43 (dk_at dksL_law_31 17 rfl rfl)
theorem dL_law_899 : decode cL_law 899 = .ok (.aload_n 0, 1) := dk_42 (dk_at dksL_law_31 18 rfl rfl)
theorem dL_law_900 : decode cL_law 900 = .ok (.iload_n 3, 1) := dk_29 (dk_at dksL_law_31 19 rfl rfl)
theorem dL_law_901 : decode cL_law 901 = .ok (.iconst 1, 1) := dk_4 (dk_at dksL_law_31 20 rfl rfl)
theorem dL_law_902 : decode cL_law 902 = .ok (.iadd, 1) := dk_96 (dk_at dksL_law_31 21 rfl rfl)
theorem dL_law_903 : decode cL_law 903 = .ok (.iaload, 1) := dk_46 (dk_at dksL_law_31 22 rfl rfl)
theorem dL_law_904 : decode cL_law 904 = .ok (.aload_n 0, 1) := dk_42 (dk_at dksL_law_31 23 rfl rfl)
theorem dL_law_905 : decode cL_law 905 = .ok (.iload_n 3, 1) := dk_29 (dk_at dksL_law_32 0 rfl rfl)
theorem dL_law_906 : decode cL_law 906 = .ok (.iconst 2, 1) := dk_5 (dk_at dksL_law_32 1 rfl rfl)
theorem dL_law_907 : decode cL_law 907 = .ok (.iadd, 1) := dk_96 (dk_at dksL_law_32 2 rfl rfl)
theorem dL_law_908 : decode cL_law 908 = .ok (.iaload, 1) := dk_46 (dk_at dksL_law_32 3 rfl rfl)
theorem dL_law_909 : decode cL_law 909 = .ok (.invokevirtual 114, 3) := dk_182 0 114 (dk_at dksL_law_32 4 rfl rfl)
theorem dL_law_912 : decode cL_law 912 = .ok (.aload_n 2, 1) := dk_44 (dk_at dksL_law_32 7 rfl rfl)
theorem dL_law_913 : decode cL_law 913 = .ok (.aload_n 0, 1) := dk_42 (dk_at dksL_law_32 8 rfl rfl)
theorem dL_law_914 : decode cL_law 914 = .ok (.iload_n 3, 1) := dk_29 (dk_at dksL_law_32 9 rfl rfl)
theorem dL_law_915 : decode cL_law 915 = .ok (.iconst 1, 1) := dk_4 (dk_at dksL_law_32 10 rfl rfl)
theorem dL_law_916 : decode cL_law 916 = .ok (.iadd, 1) := dk_96 (dk_at dksL_law_32 11 rfl rfl)
theorem dL_law_917 : decode cL_law 917 = .ok (.iaload, 1) := dk_46 (dk_at dksL_law_32 12 rfl rfl)
theorem dL_law_918 : decode cL_law 918 = .ok (.aload_n 0, 1) := dk_42 (dk_at dksL_law_32 13 rfl rfl)
theorem dL_law_919 : decode cL_law 919 = .ok (.iload_n 3, 1) := dk_29 (dk_at dksL_law_32 14 rfl rfl)
theorem dL_law_920 : decode cL_law 920 = .ok (.iconst 2, 1) := dk_5 (dk_at dksL_law_32 15 rfl rfl)
theorem dL_law_921 : decode cL_law 921 = .ok (.iadd, 1) := dk_96 (dk_at dksL_law_32 16 rfl rfl)
theorem dL_law_922 : decode cL_law 922 = .ok (.iaload, 1) := dk_46 (dk_at dksL_law_32 17 rfl rfl)
theorem dL_law_923 : decode cL_law 923 = .ok (.invokevirtual 117, 3) := dk_182 0 117 (dk_at dksL_law_32 18 rfl rfl)
theorem dL_law_926 : decode cL_law 926 = .ok (.if_icmp .eq 409, 3) := dk_159 1 153 (dk_at dksL_law_32 21 rfl rfl)
theorem dL_law_929 : decode cL_law 929 = .ok (.iconst 0, 1) := dk_3 (dk_at dksL_law_33 0 rfl rfl)
theorem dL_law_930 : decode cL_law 930 = .ok (.ireturn, 1) := dk_172 (dk_at dksL_law_33 1 rfl rfl)
theorem dL_law_931 : decode cL_law 931 = .ok (.aload_n 1, 1) := dk_43 (dk_at dksL_law_33 2 rfl rfl)
theorem dL_law_932 : decode cL_law 932 = .ok (.aload_n 0, 1) := dk_42 (dk_at dksL_law_33 3 rfl rfl)
theorem dL_law_933 : decode cL_law 933 = .ok (.iload_n 3, 1) := dk_29 (dk_at dksL_law_33 4 rfl rfl)
theorem dL_law_934 : decode cL_law 934 = .ok (.iconst 1, 1) := dk_4 (dk_at dksL_law_33 5 rfl rfl)
theorem dL_law_935 : decode cL_law 935 = .ok (.iadd, 1) := dk_96 (dk_at dksL_law_33 6 rfl rfl)
theorem dL_law_936 : decode cL_law 936 = .ok (.iaload, 1) := dk_46 (dk_at dksL_law_33 7 rfl rfl)
theorem dL_law_937 : decode cL_law 937 = .ok (.aload_n 0, 1) := dk_42 (dk_at dksL_law_33 8 rfl rfl)
theorem dL_law_938 : decode cL_law 938 = .ok (.iload_n 3, 1) := dk_29 (dk_at dksL_law_33 9 rfl rfl)
theorem dL_law_939 : decode cL_law 939 = .ok (.iconst 2, 1) := dk_5 (dk_at dksL_law_33 10 rfl rfl)
theorem dL_law_940 : decode cL_law 940 = .ok (.iadd, 1) := dk_96 (dk_at dksL_law_33 11 rfl rfl)
theorem dL_law_941 : decode cL_law 941 = .ok (.iaload, 1) := dk_46 (dk_at dksL_law_33 12 rfl rfl)
theorem dL_law_942 : decode cL_law 942 = .ok (.invokevirtual 118, 3) := dk_182 0 118 (dk_at dksL_law_33 13 rfl rfl)
theorem dL_law_945 : decode cL_law 945 = .ok (.aload_n 2, 1) := dk_44 (dk_at dksL_law_33 16 rfl rfl)
theorem dL_law_946 : decode cL_law 946 = .ok (.aload_n 0, 1) := dk_42 (dk_at dksL_law_33 17 rfl rfl)
theorem dL_law_947 : decode cL_law 947 = .ok (.iload_n 3, 1) := dk_29 (dk_at dksL_law_33 18 rfl rfl)
theorem dL_law_948 : decode cL_law 948 = .ok (.iconst 1, 1) := dk_4 (dk_at dksL_law_33 19 rfl rfl)
theorem dL_law_949 : decode cL_law 949 = .ok (.iadd, 1) := dk_96 (dk_at dksL_law_33 20 rfl rfl)
theorem dL_law_950 : decode cL_law 950 = .ok (.iaload, 1) := dk_46 (dk_at dksL_law_33 21 rfl rfl)
theorem dL_law_951 : decode cL_law 951 = .ok (.aload_n 0, 1) := dk_42 (dk_at dksL_law_33 22 rfl rfl)
theorem dL_law_952 : decode cL_law 952 = .ok (.iload_n 3, 1) := dk_29 (dk_at dksL_law_33 23 rfl rfl)
theorem dL_law_953 : decode cL_law 953 = .ok (.iconst 2, 1) := dk_5 (dk_at dksL_law_34 0 rfl rfl)
theorem dL_law_954 : decode cL_law 954 = .ok (.iadd, 1) := dk_96 (dk_at dksL_law_34 1 rfl rfl)
theorem dL_law_955 : decode cL_law 955 = .ok (.iaload, 1) := dk_46 (dk_at dksL_law_34 2 rfl rfl)
theorem dL_law_956 : decode cL_law 956 = .ok (.invokevirtual 121, 3) := dk_182 0 121 (dk_at dksL_law_34 3 rfl rfl)
theorem dL_law_959 : decode cL_law 959 = .ok (.if_icmp .eq 376, 3) := dk_159 1 120 (dk_at dksL_law_34 6 rfl rfl)
theorem dL_law_962 : decode cL_law 962 = .ok (.iconst 0, 1) := dk_3 (dk_at dksL_law_34 9 rfl rfl)
theorem dL_law_963 : decode cL_law 963 = .ok (.ireturn, 1) := dk_172 (dk_at dksL_law_34 10 rfl rfl)
theorem dL_law_964 : decode cL_law 964 = .ok (.aload_n 1, 1) := dk_43 (dk_at dksL_law_34 11 rfl rfl)
theorem dL_law_965 : decode cL_law 965 = .ok (.aload_n 0, 1) := dk_42 (dk_at dksL_law_34 12 rfl rfl)
theorem dL_law_966 : decode cL_law 966 = .ok (.iload_n 3, 1) := dk_29 (dk_at dksL_law_34 13 rfl rfl)
theorem dL_law_967 : decode cL_law 967 = .ok (.iconst 1, 1) := dk_4 (dk_at dksL_law_34 14 rfl rfl)
theorem dL_law_968 : decode cL_law 968 = .ok (.iadd, 1) := dk_96 (dk_at dksL_law_34 15 rfl rfl)
theorem dL_law_969 : decode cL_law 969 = .ok (.iaload, 1) := dk_46 (dk_at dksL_law_34 16 rfl rfl)
theorem dL_law_970 : decode cL_law 970 = .ok (.invokevirtual 122, 3) := dk_182 0 122 (dk_at dksL_law_34 17 rfl rfl)
theorem dL_law_973 : decode cL_law 973 = .ok (.aload_n 2, 1) := dk_44 (dk_at dksL_law_34 20 rfl rfl)
theorem dL_law_974 : decode cL_law 974 = .ok (.aload_n 0, 1) := dk_42 (dk_at dksL_law_34 21 rfl rfl)
theorem dL_law_975 : decode cL_law 975 = .ok (.iload_n 3, 1) := dk_29 (dk_at dksL_law_34 22 rfl rfl)
theorem dL_law_976 : decode cL_law 976 = .ok (.iconst 1, 1) := dk_4 (dk_at dksL_law_34 23 rfl rfl)
theorem dL_law_977 : decode cL_law 977 = .ok (.iadd, 1) := dk_96 (dk_at dksL_law_35 0 rfl rfl)
theorem dL_law_978 : decode cL_law 978 = .ok (.iaload, 1) := dk_46 (dk_at dksL_law_35 1 rfl rfl)
theorem dL_law_979 : decode cL_law 979 = .ok (.invokevirtual 125, 3) := dk_182 0 125 (dk_at dksL_law_35 2 rfl rfl)
theorem dL_law_982 : decode cL_law 982 = .ok (.if_icmp .eq 353, 3) := dk_159 1 97 (dk_at dksL_law_35 5 rfl rfl)
theorem dL_law_985 : decode cL_law 985 = .ok (.iconst 0, 1) := dk_3 (dk_at dksL_law_35 8 rfl rfl)
theorem dL_law_986 : decode cL_law 986 = .ok (.ireturn, 1) := dk_172 (dk_at dksL_law_35 9 rfl rfl)
theorem dL_law_987 : decode cL_law 987 = .ok (.aload_n 1, 1) := dk_43 (dk_at dksL_law_35 10 rfl rfl)
theorem dL_law_988 : decode cL_law 988 = .ok (.aload_n 0, 1) := dk_42 (dk_at dksL_law_35 11 rfl rfl)
theorem dL_law_989 : decode cL_law 989 = .ok (.iload_n 3, 1) := dk_29 (dk_at dksL_law_35 12 rfl rfl)
theorem dL_law_990 : decode cL_law 990 = .ok (.iconst 1, 1) := dk_4 (dk_at dksL_law_35 13 rfl rfl)
theorem dL_law_991 : decode cL_law 991 = .ok (.iadd, 1) := dk_96 (dk_at dksL_law_35 14 rfl rfl)
theorem dL_law_992 : decode cL_law 992 = .ok (.iaload, 1) := dk_46 (dk_at dksL_law_35 15 rfl rfl)
theorem dL_law_993 : decode cL_law 993 = .ok (.aload_n 0, 1) := dk_42 (dk_at dksL_law_35 16 rfl rfl)
theorem dL_law_994 : decode cL_law 994 = .ok (.iload_n 3, 1) := dk_29 (dk_at dksL_law_35 17 rfl rfl)
theorem dL_law_995 : decode cL_law 995 = .ok (.iconst 2, 1) := dk_5 (dk_at dksL_law_35 18 rfl rfl)
theorem dL_law_996 : decode cL_law 996 = .ok (.iadd, 1) := dk_96 (dk_at dksL_law_35 19 rfl rfl)
theorem dL_law_997 : decode cL_law 997 = .ok (.iaload, 1) := dk_46 (dk_at dksL_law_35 20 rfl rfl)
theorem dL_law_998 : decode cL_law 998 = .ok (.invokevirtual 126, 3) := dk_182 0 126 (dk_at dksL_law_35 21 rfl rfl)
theorem dL_law_1001 : decode cL_law 1001 = .ok (.aload_n 2, 1) := dk_44 (dk_at dksL_law_36 0 rfl rfl)
theorem dL_law_1002 : decode cL_law 1002 = .ok (.aload_n 0, 1) := dk_42 (dk_at dksL_law_36 1 rfl rfl)
theorem dL_law_1003 : decode cL_law 1003 = .ok (.iload_n 3, 1) := dk_29 (dk_at dksL_law_36 2 rfl rfl)
theorem dL_law_1004 : decode cL_law 1004 = .ok (.iconst 1, 1) := dk_4 (dk_at dksL_law_36 3 rfl rfl)
theorem dL_law_1005 : decode cL_law 1005 = .ok (.iadd, 1) := dk_96 (dk_at dksL_law_36 4 rfl rfl)
theorem dL_law_1006 : decode cL_law 1006 = .ok (.iaload, 1) := dk_46 (dk_at dksL_law_36 5 rfl rfl)
theorem dL_law_1007 : decode cL_law 1007 = .ok (.aload_n 0, 1) := dk_42 (dk_at dksL_law_36 6 rfl rfl)
theorem dL_law_1008 : decode cL_law 1008 = .ok (.iload_n 3, 1) := dk_29 (dk_at dksL_law_36 7 rfl rfl)
theorem dL_law_1009 : decode cL_law 1009 = .ok (.iconst 2, 1) := dk_5 (dk_at dksL_law_36 8 rfl rfl)
theorem dL_law_1010 : decode cL_law 1010 = .ok (.iadd, 1) := dk_96 (dk_at dksL_law_36 9 rfl rfl)
theorem dL_law_1011 : decode cL_law 1011 = .ok (.iaload, 1) := dk_46 (dk_at dksL_law_36 10 rfl rfl)
theorem dL_law_1012 : decode cL_law 1012 = .ok (.invokevirtual 129, 3) := dk_182 0 129 (dk_at dksL_law_36 11 rfl rfl)
theorem dL_law_1015 : decode cL_law 1015 = .ok (.if_icmp .eq 320, 3) := dk_159 1 64 (dk_at dksL_law_36 14 rfl rfl)
theorem dL_law_1018 : decode cL_law 1018 = .ok (.iconst 0, 1) := dk_3 (dk_at dksL_law_36 17 rfl rfl)
theorem dL_law_1019 : decode cL_law 1019 = .ok (.ireturn, 1) := dk_172 (dk_at dksL_law_36 18 rfl rfl)
theorem dL_law_1020 : decode cL_law 1020 = .ok (.aload_n 1, 1) := dk_43 (dk_at dksL_law_36 19 rfl rfl)
theorem dL_law_1021 : decode cL_law 1021 = .ok (.aload_n 0, 1) := dk_42 (dk_at dksL_law_36 20 rfl rfl)
theorem dL_law_1022 : decode cL_law 1022 = .ok (.iload_n 3, 1) := dk_29 (dk_at dksL_law_36 21 rfl rfl)
theorem dL_law_1023 : decode cL_law 1023 = .ok (.iconst 1, 1) := dk_4 (dk_at dksL_law_36 22 rfl rfl)
theorem dL_law_1024 : decode cL_law 1024 = .ok (.iadd, 1) := dk_96 (dk_at dksL_law_36 23 rfl rfl)
theorem dL_law_1025 : decode cL_law 1025 = .ok (.iaload, 1) := dk_46 (dk_at dksL_law_37 0 rfl rfl)
theorem dL_law_1026 : decode cL_law 1026 = .ok (.invokevirtual 130, 3) := dk_182 0 130 (dk_at dksL_law_37 1 rfl rfl)
theorem dL_law_1029 : decode cL_law 1029 = .ok (.aload_n 2, 1) := dk_44 (dk_at dksL_law_37 4 rfl rfl)
theorem dL_law_1030 : decode cL_law 1030 = .ok (.aload_n 0, 1) := dk_42 (dk_at dksL_law_37 5 rfl rfl)
theorem dL_law_1031 : decode cL_law 1031 = .ok (.iload_n 3, 1) := dk_29 (dk_at dksL_law_37 6 rfl rfl)
theorem dL_law_1032 : decode cL_law 1032 = .ok (.iconst 1, 1) := dk_4 (dk_at dksL_law_37 7 rfl rfl)
theorem dL_law_1033 : decode cL_law 1033 = .ok (.iadd, 1) := dk_96 (dk_at dksL_law_37 8 rfl rfl)
theorem dL_law_1034 : decode cL_law 1034 = .ok (.iaload, 1) := dk_46 (dk_at dksL_law_37 9 rfl rfl)
theorem dL_law_1035 : decode cL_law 1035 = .ok (.invokevirtual 133, 3) := dk_182 0 133 (dk_at dksL_law_37 10 rfl rfl)
theorem dL_law_1038 : decode cL_law 1038 = .ok (.if_icmp .eq 297, 3) := dk_159 1 41 (dk_at dksL_law_37 13 rfl rfl)
theorem dL_law_1041 : decode cL_law 1041 = .ok (.iconst 0, 1) := dk_3 (dk_at dksL_law_37 16 rfl rfl)
theorem dL_law_1042 : decode cL_law 1042 = .ok (.ireturn, 1) := dk_172 (dk_at dksL_law_37 17 rfl rfl)
theorem dL_law_1043 : decode cL_law 1043 = .ok (.aload_n 1, 1) := dk_43 (dk_at dksL_law_37 18 rfl rfl)
theorem dL_law_1044 : decode cL_law 1044 = .ok (.aload_n 0, 1) := dk_42 (dk_at dksL_law_37 19 rfl rfl)
theorem dL_law_1045 : decode cL_law 1045 = .ok (.iload_n 3, 1) := dk_29 (dk_at dksL_law_37 20 rfl rfl)
theorem dL_law_1046 : decode cL_law 1046 = .ok (.iconst 1, 1) := dk_4 (dk_at dksL_law_37 21 rfl rfl)
theorem dL_law_1047 : decode cL_law 1047 = .ok (.iadd, 1) := dk_96 (dk_at dksL_law_37 22 rfl rfl)
theorem dL_law_1048 : decode cL_law 1048 = .ok (.iaload, 1) := dk_46 (dk_at dksL_law_37 23 rfl rfl)
theorem dL_law_1049 : decode cL_law 1049 = .ok (.aload_n 0, 1) := dk_42 (dk_at dksL_law_38 0 rfl rfl)
theorem dL_law_1050 : decode cL_law 1050 = .ok (.iload_n 3, 1) := dk_29 (dk_at dksL_law_38 1 rfl rfl)
theorem dL_law_1051 : decode cL_law 1051 = .ok (.iconst 2, 1) := dk_5 (dk_at dksL_law_38 2 rfl rfl)
theorem dL_law_1052 : decode cL_law 1052 = .ok (.iadd, 1) := dk_96 (dk_at dksL_law_38 3 rfl rfl)
theorem dL_law_1053 : decode cL_law 1053 = .ok (.iaload, 1) := dk_46 (dk_at dksL_law_38 4 rfl rfl)
theorem dL_law_1054 : decode cL_law 1054 = .ok (.aload_n 0, 1) := dk_42 (dk_at dksL_law_38 5 rfl rfl)
theorem dL_law_1055 : decode cL_law 1055 = .ok (.iload_n 3, 1) := dk_29 (dk_at dksL_law_38 6 rfl rfl)
theorem dL_law_1056 : decode cL_law 1056 = .ok (.iconst 3, 1) := dk_6 (dk_at dksL_law_38 7 rfl rfl)
theorem dL_law_1057 : decode cL_law 1057 = .ok (.iadd, 1) := dk_96 (dk_at dksL_law_38 8 rfl rfl)
theorem dL_law_1058 : decode cL_law 1058 = .ok (.iaload, 1) := dk_46 (dk_at dksL_law_38 9 rfl rfl)
theorem dL_law_1059 : decode cL_law 1059 = .ok (.invokevirtual 134, 3) := dk_182 0 134 (dk_at dksL_law_38 10 rfl rfl)
theorem dL_law_1062 : decode cL_law 1062 = .ok (.aload_n 2, 1) := dk_44 (dk_at dksL_law_38 13 rfl rfl)
theorem dL_law_1063 : decode cL_law 1063 = .ok (.aload_n 0, 1) := dk_42 (dk_at dksL_law_38 14 rfl rfl)
theorem dL_law_1064 : decode cL_law 1064 = .ok (.iload_n 3, 1) := dk_29 (dk_at dksL_law_38 15 rfl rfl)
theorem dL_law_1065 : decode cL_law 1065 = .ok (.iconst 1, 1) := dk_4 (dk_at dksL_law_38 16 rfl rfl)
theorem dL_law_1066 : decode cL_law 1066 = .ok (.iadd, 1) := dk_96 (dk_at dksL_law_38 17 rfl rfl)
theorem dL_law_1067 : decode cL_law 1067 = .ok (.iaload, 1) := dk_46 (dk_at dksL_law_38 18 rfl rfl)
theorem dL_law_1068 : decode cL_law 1068 = .ok (.aload_n 0, 1) := dk_42 (dk_at dksL_law_38 19 rfl rfl)
theorem dL_law_1069 : decode cL_law 1069 = .ok (.iload_n 3, 1) := dk_29 (dk_at dksL_law_38 20 rfl rfl)
theorem dL_law_1070 : decode cL_law 1070 = .ok (.iconst 2, 1) := dk_5 (dk_at dksL_law_38 21 rfl rfl)
theorem dL_law_1071 : decode cL_law 1071 = .ok (.iadd, 1) := dk_96 (dk_at dksL_law_38 22 rfl rfl)
theorem dL_law_1072 : decode cL_law 1072 = .ok (.iaload, 1) := dk_46 (dk_at dksL_law_38 23 rfl rfl)
theorem dL_law_1073 : decode cL_law 1073 = .ok (.aload_n 0, 1) := dk_42 (dk_at dksL_law_39 0 rfl rfl)
theorem dL_law_1074 : decode cL_law 1074 = .ok (.iload_n 3, 1) := dk_29 (dk_at dksL_law_39 1 rfl rfl)
theorem dL_law_1075 : decode cL_law 1075 = .ok (.iconst 3, 1) := dk_6 (dk_at dksL_law_39 2 rfl rfl)
theorem dL_law_1076 : decode cL_law 1076 = .ok (.iadd, 1) := dk_96 (dk_at dksL_law_39 3 rfl rfl)
theorem dL_law_1077 : decode cL_law 1077 = .ok (.iaload, 1) := dk_46 (dk_at dksL_law_39 4 rfl rfl)
theorem dL_law_1078 : decode cL_law 1078 = .ok (.invokevirtual 137, 3) := dk_182 0 137 (dk_at dksL_law_39 5 rfl rfl)
theorem dL_law_1081 : decode cL_law 1081 = .ok (.if_icmp .eq 254, 3) := dk_159 0 254 (dk_at dksL_law_39 8 rfl rfl)
theorem dL_law_1084 : decode cL_law 1084 = .ok (.iconst 0, 1) := dk_3 (dk_at dksL_law_39 11 rfl rfl)
theorem dL_law_1085 : decode cL_law 1085 = .ok (.ireturn, 1) := dk_172 (dk_at dksL_law_39 12 rfl rfl)
theorem dL_law_1086 : decode cL_law 1086 = .ok (.aload_n 1, 1) := dk_43 (dk_at dksL_law_39 13 rfl rfl)
theorem dL_law_1087 : decode cL_law 1087 = .ok (.aload_n 0, 1) := dk_42 (dk_at dksL_law_39 14 rfl rfl)
theorem dL_law_1088 : decode cL_law 1088 = .ok (.iload_n 3, 1) := dk_29 (dk_at dksL_law_39 15 rfl rfl)
theorem dL_law_1089 : decode cL_law 1089 = .ok (.iconst 1, 1) := dk_4 (dk_at dksL_law_39 16 rfl rfl)
theorem dL_law_1090 : decode cL_law 1090 = .ok (.iadd, 1) := dk_96 (dk_at dksL_law_39 17 rfl rfl)
theorem dL_law_1091 : decode cL_law 1091 = .ok (.iaload, 1) := dk_46 (dk_at dksL_law_39 18 rfl rfl)
theorem dL_law_1092 : decode cL_law 1092 = .ok (.invokevirtual 138, 3) := dk_182 0 138 (dk_at dksL_law_39 19 rfl rfl)
theorem dL_law_1095 : decode cL_law 1095 = .ok (.aload_n 2, 1) := dk_44 (dk_at dksL_law_39 22 rfl rfl)
theorem dL_law_1096 : decode cL_law 1096 = .ok (.aload_n 0, 1) := dk_42 (dk_at dksL_law_39 23 rfl rfl)
theorem dL_law_1097 : decode cL_law 1097 = .ok (.iload_n 3, 1) := dk_29 (dk_at dksL_law_40 0 rfl rfl)
theorem dL_law_1098 : decode cL_law 1098 = .ok (.iconst 1, 1) := dk_4 (dk_at dksL_law_40 1 rfl rfl)
theorem dL_law_1099 : decode cL_law 1099 = .ok (.iadd, 1) := dk_96 (dk_at dksL_law_40 2 rfl rfl)
theorem dL_law_1100 : decode cL_law 1100 = .ok (.iaload, 1) := dk_46 (dk_at dksL_law_40 3 rfl rfl)
theorem dL_law_1101 : decode cL_law 1101 = .ok (.invokevirtual 141, 3) := dk_182 0 141 (dk_at dksL_law_40 4 rfl rfl)
theorem dL_law_1104 : decode cL_law 1104 = .ok (.if_icmp .eq 231, 3) := dk_159 0 231 (dk_at dksL_law_40 7 rfl rfl)
theorem dL_law_1107 : decode cL_law 1107 = .ok (.iconst 0, 1) := dk_3 (dk_at dksL_law_40 10 rfl rfl)
theorem dL_law_1108 : decode cL_law 1108 = .ok (.ireturn, 1) := dk_172 (dk_at dksL_law_40 11 rfl rfl)
theorem dL_law_1109 : decode cL_law 1109 = .ok (.aload_n 1, 1) := dk_43 (dk_at dksL_law_40 12 rfl rfl)
theorem dL_law_1110 : decode cL_law 1110 = .ok (.aload_n 0, 1) := dk_42 (dk_at dksL_law_40 13 rfl rfl)
theorem dL_law_1111 : decode cL_law 1111 = .ok (.iload_n 3, 1) := dk_29 (dk_at dksL_law_40 14 rfl rfl)
theorem dL_law_1112 : decode cL_law 1112 = .ok (.iconst 1, 1) := dk_4 (dk_at dksL_law_40 15 rfl rfl)
theorem dL_law_1113 : decode cL_law 1113 = .ok (.iadd, 1) := dk_96 (dk_at dksL_law_40 16 rfl rfl)
theorem dL_law_1114 : decode cL_law 1114 = .ok (.iaload, 1) := dk_46 (dk_at dksL_law_40 17 rfl rfl)
theorem dL_law_1115 : decode cL_law 1115 = .ok (.invokevirtual 142, 3) := dk_182 0 142 (dk_at dksL_law_40 18 rfl rfl)
theorem dL_law_1118 : decode cL_law 1118 = .ok (.aload_n 2, 1) := dk_44 (dk_at dksL_law_40 21 rfl rfl)
theorem dL_law_1119 : decode cL_law 1119 = .ok (.aload_n 0, 1) := dk_42 (dk_at dksL_law_40 22 rfl rfl)
theorem dL_law_1120 : decode cL_law 1120 = .ok (.iload_n 3, 1) := dk_29 (dk_at dksL_law_40 23 rfl rfl)
theorem dL_law_1121 : decode cL_law 1121 = .ok (.iconst 1, 1) := dk_4 (dk_at dksL_law_41 0 rfl rfl)
theorem dL_law_1122 : decode cL_law 1122 = .ok (.iadd, 1) := dk_96 (dk_at dksL_law_41 1 rfl rfl)
theorem dL_law_1123 : decode cL_law 1123 = .ok (.iaload, 1) := dk_46 (dk_at dksL_law_41 2 rfl rfl)
theorem dL_law_1124 : decode cL_law 1124 = .ok (.invokevirtual 145, 3) := dk_182 0 145 (dk_at dksL_law_41 3 rfl rfl)
theorem dL_law_1127 : decode cL_law 1127 = .ok (.if_icmp .eq 208, 3) := dk_159 0 208 (dk_at dksL_law_41 6 rfl rfl)
theorem dL_law_1130 : decode cL_law 1130 = .ok (.iconst 0, 1) := dk_3 (dk_at dksL_law_41 9 rfl rfl)
theorem dL_law_1131 : decode cL_law 1131 = .ok (.ireturn, 1) := dk_172 (dk_at dksL_law_41 10 rfl rfl)
theorem dL_law_1132 : decode cL_law 1132 = .ok (.aload_n 1, 1) := dk_43 (dk_at dksL_law_41 11 rfl rfl)
theorem dL_law_1133 : decode cL_law 1133 = .ok (.aload_n 0, 1) := dk_42 (dk_at dksL_law_41 12 rfl rfl)
theorem dL_law_1134 : decode cL_law 1134 = .ok (.iload_n 3, 1) := dk_29 (dk_at dksL_law_41 13 rfl rfl)
theorem dL_law_1135 : decode cL_law 1135 = .ok (.iconst 1, 1) := dk_4 (dk_at dksL_law_41 14 rfl rfl)
theorem dL_law_1136 : decode cL_law 1136 = .ok (.iadd, 1) := dk_96 (dk_at dksL_law_41 15 rfl rfl)
theorem dL_law_1137 : decode cL_law 1137 = .ok (.iaload, 1) := dk_46 (dk_at dksL_law_41 16 rfl rfl)
theorem dL_law_1138 : decode cL_law 1138 = .ok (.invokevirtual 146, 3) := dk_182 0 146 (dk_at dksL_law_41 17 rfl rfl)
theorem dL_law_1141 : decode cL_law 1141 = .ok (.aload_n 2, 1) := dk_44 (dk_at dksL_law_41 20 rfl rfl)
theorem dL_law_1142 : decode cL_law 1142 = .ok (.aload_n 0, 1) := dk_42 (dk_at dksL_law_41 21 rfl rfl)
theorem dL_law_1143 : decode cL_law 1143 = .ok (.iload_n 3, 1) := dk_29 (dk_at dksL_law_41 22 rfl rfl)
theorem dL_law_1144 : decode cL_law 1144 = .ok (.iconst 1, 1) := dk_4 (dk_at dksL_law_41 23 rfl rfl)
theorem dL_law_1145 : decode cL_law 1145 = .ok (.iadd, 1) := dk_96 (dk_at dksL_law_42 0 rfl rfl)
theorem dL_law_1146 : decode cL_law 1146 = .ok (.iaload, 1) := dk_46 (dk_at dksL_law_42 1 rfl rfl)
theorem dL_law_1147 : decode cL_law 1147 = .ok (.invokevirtual 149, 3) := dk_182 0 149 (dk_at dksL_law_42 2 rfl rfl)
theorem dL_law_1150 : decode cL_law 1150 = .ok (.if_icmp .eq 185, 3) := dk_159 0 185 (dk_at dksL_law_42 5 rfl rfl)
theorem dL_law_1153 : decode cL_law 1153 = .ok (.iconst 0, 1) := dk_3 (dk_at dksL_law_42 8 rfl rfl)
theorem dL_law_1154 : decode cL_law 1154 = .ok (.ireturn, 1) := dk_172 (dk_at dksL_law_42 9 rfl rfl)
theorem dL_law_1155 : decode cL_law 1155 = .ok (.aload_n 1, 1) := dk_43 (dk_at dksL_law_42 10 rfl rfl)
theorem dL_law_1156 : decode cL_law 1156 = .ok (.aload_n 0, 1) := dk_42 (dk_at dksL_law_42 11 rfl rfl)
theorem dL_law_1157 : decode cL_law 1157 = .ok (.iload_n 3, 1) := dk_29 (dk_at dksL_law_42 12 rfl rfl)
theorem dL_law_1158 : decode cL_law 1158 = .ok (.iconst 1, 1) := dk_4 (dk_at dksL_law_42 13 rfl rfl)
theorem dL_law_1159 : decode cL_law 1159 = .ok (.iadd, 1) := dk_96 (dk_at dksL_law_42 14 rfl rfl)
theorem dL_law_1160 : decode cL_law 1160 = .ok (.iaload, 1) := dk_46 (dk_at dksL_law_42 15 rfl rfl)
theorem dL_law_1161 : decode cL_law 1161 = .ok (.aload_n 0, 1) := dk_42 (dk_at dksL_law_42 16 rfl rfl)
theorem dL_law_1162 : decode cL_law 1162 = .ok (.iload_n 3, 1) := dk_29 (dk_at dksL_law_42 17 rfl rfl)
theorem dL_law_1163 : decode cL_law 1163 = .ok (.iconst 2, 1) := dk_5 (dk_at dksL_law_42 18 rfl rfl)
theorem dL_law_1164 : decode cL_law 1164 = .ok (.iadd, 1) := dk_96 (dk_at dksL_law_42 19 rfl rfl)
theorem dL_law_1165 : decode cL_law 1165 = .ok (.iaload, 1) := dk_46 (dk_at dksL_law_42 20 rfl rfl)
theorem dL_law_1166 : decode cL_law 1166 = .ok (.invokevirtual 150, 3) := dk_182 0 150 (dk_at dksL_law_42 21 rfl rfl)
theorem dL_law_1169 : decode cL_law 1169 = .ok (.aload_n 2, 1) := dk_44 (dk_at dksL_law_43 0 rfl rfl)
theorem dL_law_1170 : decode cL_law 1170 = .ok (.aload_n 0, 1) := dk_42 (dk_at dksL_law_43 1 rfl rfl)
theorem dL_law_1171 : decode cL_law 1171 = .ok (.iload_n 3, 1) := dk_29 (dk_at dksL_law_43 2 rfl rfl)
theorem dL_law_1172 : decode cL_law 1172 = .ok (.iconst 1, 1) := dk_4 (dk_at dksL_law_43 3 rfl rfl)
theorem dL_law_1173 : decode cL_law 1173 = .ok (.iadd, 1) := dk_96 (dk_at dksL_law_43 4 rfl rfl)
theorem dL_law_1174 : decode cL_law 1174 = .ok (.iaload, 1) := dk_46 (dk_at dksL_law_43 5 rfl rfl)
theorem dL_law_1175 : decode cL_law 1175 = .ok (.aload_n 0, 1) := dk_42 (dk_at dksL_law_43 6 rfl rfl)
theorem dL_law_1176 : decode cL_law 1176 = .ok (.iload_n 3, 1) := dk_29 (dk_at dksL_law_43 7 rfl rfl)
theorem dL_law_1177 : decode cL_law 1177 = .ok (.iconst 2, 1) := dk_5 (dk_at dksL_law_43 8 rfl rfl)
theorem dL_law_1178 : decode cL_law 1178 = .ok (.iadd, 1) := dk_96 (dk_at dksL_law_43 9 rfl rfl)
theorem dL_law_1179 : decode cL_law 1179 = .ok (.iaload, 1) := dk_46 (dk_at dksL_law_43 10 rfl rfl)
theorem dL_law_1180 : decode cL_law 1180 = .ok (.invokevirtual 153, 3) := dk_182 0 153 (dk_at dksL_law_43 11 rfl rfl)
theorem dL_law_1183 : decode cL_law 1183 = .ok (.if_icmp .eq 152, 3) := dk_159 0 152 (dk_at dksL_law_43 14 rfl rfl)
theorem dL_law_1186 : decode cL_law 1186 = .ok (.iconst 0, 1) := dk_3 (dk_at dksL_law_43 17 rfl rfl)
theorem dL_law_1187 : decode cL_law 1187 = .ok (.ireturn, 1) := dk_172 (dk_at dksL_law_43 18 rfl rfl)
theorem dL_law_1188 : decode cL_law 1188 = .ok (.aload_n 1, 1) := dk_43 (dk_at dksL_law_43 19 rfl rfl)
theorem dL_law_1189 : decode cL_law 1189 = .ok (.aload_n 0, 1) := dk_42 (dk_at dksL_law_43 20 rfl rfl)
theorem dL_law_1190 : decode cL_law 1190 = .ok (.iload_n 3, 1) := dk_29 (dk_at dksL_law_43 21 rfl rfl)
theorem dL_law_1191 : decode cL_law 1191 = .ok (.iconst 1, 1) := dk_4 (dk_at dksL_law_43 22 rfl rfl)
theorem dL_law_1192 : decode cL_law 1192 = .ok (.iadd, 1) := dk_96 (dk_at dksL_law_43 23 rfl rfl)
theorem dL_law_1193 : decode cL_law 1193 = .ok (.iaload, 1) := dk_46 (dk_at dksL_law_44 0 rfl rfl)
theorem dL_law_1194 : decode cL_law 1194 = .ok (.aload_n 0, 1) := dk_42 (dk_at dksL_law_44 1 rfl rfl)
theorem dL_law_1195 : decode cL_law 1195 = .ok (.iload_n 3, 1) := dk_29 (dk_at dksL_law_44 2 rfl rfl)
theorem dL_law_1196 : decode cL_law 1196 = .ok (.iconst 2, 1) := dk_5 (dk_at dksL_law_44 3 rfl rfl)
theorem dL_law_1197 : decode cL_law 1197 = .ok (.iadd, 1) := dk_96 (dk_at dksL_law_44 4 rfl rfl)
theorem dL_law_1198 : decode cL_law 1198 = .ok (.iaload, 1) := dk_46 (dk_at dksL_law_44 5 rfl rfl)
theorem dL_law_1199 : decode cL_law 1199 = .ok (.invokevirtual 154, 3) := dk_182 0 154 (dk_at dksL_law_44 6 rfl rfl)
theorem dL_law_1202 : decode cL_law 1202 = .ok (.aload_n 2, 1) := dk_44 (dk_at dksL_law_44 9 rfl rfl)
theorem dL_law_1203 : decode cL_law 1203 = .ok (.aload_n 0, 1) := dk_42 (dk_at dksL_law_44 10 rfl rfl)
theorem dL_law_1204 : decode cL_law 1204 = .ok (.iload_n 3, 1) := dk_29 (dk_at dksL_law_44 11 rfl rfl)
theorem dL_law_1205 : decode cL_law 1205 = .ok (.iconst 1, 1) := dk_4 (dk_at dksL_law_44 12 rfl rfl)
theorem dL_law_1206 : decode cL_law 1206 = .ok (.iadd, 1) := dk_96 (dk_at dksL_law_44 13 rfl rfl)
theorem dL_law_1207 : decode cL_law 1207 = .ok (.iaload, 1) := dk_46 (dk_at dksL_law_44 14 rfl rfl)
theorem dL_law_1208 : decode cL_law 1208 = .ok (.aload_n 0, 1) := dk_42 (dk_at dksL_law_44 15 rfl rfl)
theorem dL_law_1209 : decode cL_law 1209 = .ok (.iload_n 3, 1) := dk_29 (dk_at dksL_law_44 16 rfl rfl)
theorem dL_law_1210 : decode cL_law 1210 = .ok (.iconst 2, 1) := dk_5 (dk_at dksL_law_44 17 rfl rfl)
theorem dL_law_1211 : decode cL_law 1211 = .ok (.iadd, 1) := dk_96 (dk_at dksL_law_44 18 rfl rfl)
theorem dL_law_1212 : decode cL_law 1212 = .ok (.iaload, 1) := dk_46 (dk_at dksL_law_44 19 rfl rfl)
theorem dL_law_1213 : decode cL_law 1213 = .ok (.invokevirtual 157, 3) := dk_182 0 157 (dk_at dksL_law_44 20 rfl rfl)
theorem dL_law_1216 : decode cL_law 1216 = .ok (.if_icmp .eq 119, 3) := dk_159 0 119 (dk_at dksL_law_45 0 rfl rfl)
theorem dL_law_1219 : decode cL_law 1219 = .ok (.iconst 0, 1) := dk_3 (dk_at dksL_law_45 3 rfl rfl)
theorem dL_law_1220 : decode cL_law 1220 = .ok (.ireturn, 1) := dk_172 (dk_at dksL_law_45 4 rfl rfl)
theorem dL_law_1221 : decode cL_law 1221 = .ok (.aload_n 1, 1) := dk_43 (dk_at dksL_law_45 5 rfl rfl)
theorem dL_law_1222 : decode cL_law 1222 = .ok (.invokevirtual 158, 3) := dk_182 0 158 (dk_at dksL_law_45 6 rfl rfl)
theorem dL_law_1225 : decode cL_law 1225 = .ok (.aload_n 2, 1) := dk_44 (dk_at dksL_law_45 9 rfl rfl)
theorem dL_law_1226 : decode cL_law 1226 = .ok (.invokevirtual 161, 3) := dk_182 0 161 (dk_at dksL_law_45 10 rfl rfl)
theorem dL_law_1229 : decode cL_law 1229 = .ok (.if_icmp .eq 106, 3) := dk_159 0 106 (dk_at dksL_law_45 13 rfl rfl)
theorem dL_law_1232 : decode cL_law 1232 = .ok (.iconst 0, 1) := dk_3 (dk_at dksL_law_45 16 rfl rfl)
theorem dL_law_1233 : decode cL_law 1233 = .ok (.ireturn, 1) := dk_172 (dk_at dksL_law_45 17 rfl rfl)
theorem dL_law_1234 : decode cL_law 1234 = .ok (.aload_n 1, 1) := dk_43 (dk_at dksL_law_45 18 rfl rfl)
theorem dL_law_1235 : decode cL_law 1235 = .ok (.invokevirtual 162, 3) := dk_182 0 162 (dk_at dksL_law_45 19 rfl rfl)
theorem dL_law_1238 : decode cL_law 1238 = .ok (.aload_n 2, 1) := dk_44 (dk_at dksL_law_45 22 rfl rfl)
theorem dL_law_1239 : decode cL_law 1239 = .ok (.invokevirtual 166, 3) := dk_182 0 166 (dk_at dksL_law_46 0 rfl rfl)
theorem dL_law_1242 : decode cL_law 1242 = .ok (.lcmp, 1) := dk_148 (dk_at dksL_law_46 3 rfl rfl)
theorem dL_law_1243 : decode cL_law 1243 = .ok (.ifCond .eq 92, 3) := dk_153 0 92 (dk_at dksL_law_46 4 rfl rfl)
theorem dL_law_1246 : decode cL_law 1246 = .ok (.iconst 0, 1) := dk_3 (dk_at dksL_law_46 7 rfl rfl)
theorem dL_law_1247 : decode cL_law 1247 = .ok (.ireturn, 1) := dk_172 (dk_at dksL_law_46 8 rfl rfl)
theorem dL_law_1248 : decode cL_law 1248 = .ok (.aload_n 1, 1) := dk_43 (dk_at dksL_law_46 9 rfl rfl)
theorem dL_law_1249 : decode cL_law 1249 = .ok (.invokevirtual 167, 3) := dk_182 0 167 (dk_at dksL_law_46 10 rfl rfl)
theorem dL_law_1252 : decode cL_law 1252 = .ok (.aload_n 2, 1) := dk_44 (dk_at dksL_law_46 13 rfl rfl)
theorem dL_law_1253 : decode cL_law 1253 = .ok (.invokevirtual 170, 3) := dk_182 0 170 (dk_at dksL_law_46 14 rfl rfl)
theorem dL_law_1256 : decode cL_law 1256 = .ok (.lcmp, 1) := dk_148 (dk_at dksL_law_46 17 rfl rfl)
theorem dL_law_1257 : decode cL_law 1257 = .ok (.ifCond .eq 78, 3) := dk_153 0 78 (dk_at dksL_law_46 18 rfl rfl)
theorem dL_law_1260 : decode cL_law 1260 = .ok (.iconst 0, 1) := dk_3 (dk_at dksL_law_46 21 rfl rfl)
theorem dL_law_1261 : decode cL_law 1261 = .ok (.ireturn, 1) := dk_172 (dk_at dksL_law_46 22 rfl rfl)
theorem dL_law_1262 : decode cL_law 1262 = .ok (.aload_n 1, 1) := dk_43 (dk_at dksL_law_46 23 rfl rfl)
theorem dL_law_1263 : decode cL_law 1263 = .ok (.aload_n 0, 1) := dk_42 (dk_at dksL_law_47 0 rfl rfl)
theorem dL_law_1264 : decode cL_law 1264 = .ok (.iload_n 3, 1) := dk_29 (dk_at dksL_law_47 1 rfl rfl)
theorem dL_law_1265 : decode cL_law 1265 = .ok (.iconst 1, 1) := dk_4 (dk_at dksL_law_47 2 rfl rfl)
theorem dL_law_1266 : decode cL_law 1266 = .ok (.iadd, 1) := dk_96 (dk_at dksL_law_47 3 rfl rfl)
theorem dL_law_1267 : decode cL_law 1267 = .ok (.iaload, 1) := dk_46 (dk_at dksL_law_47 4 rfl rfl)
theorem dL_law_1268 : decode cL_law 1268 = .ok (.invokevirtual 171, 3) := dk_182 0 171 (dk_at dksL_law_47 5 rfl rfl)
theorem dL_law_1271 : decode cL_law 1271 = .ok (.aload_n 2, 1) := dk_44 (dk_at dksL_law_47 8 rfl rfl)
theorem dL_law_1272 : decode cL_law 1272 = .ok (.aload_n 0, 1) := dk_42 (dk_at dksL_law_47 9 rfl rfl)
theorem dL_law_1273 : decode cL_law 1273 = .ok (.iload_n 3, 1) := dk_29 (dk_at dksL_law_47 10 rfl rfl)
theorem dL_law_1274 : decode cL_law 1274 = .ok (.iconst 1, 1) := dk_4 (dk_at dksL_law_47 11 rfl rfl)
theorem dL_law_1275 : decode cL_law 1275 = .ok (.iadd, 1) := dk_96 (dk_at dksL_law_47 12 rfl rfl)
theorem dL_law_1276 : decode cL_law 1276 = .ok (.iaload, 1) := dk_46 (dk_at dksL_law_47 13 rfl rfl)
theorem dL_law_1277 : decode cL_law 1277 = .ok (.invokevirtual 174, 3) := dk_182 0 174 (dk_at dksL_law_47 14 rfl rfl)
theorem dL_law_1280 : decode cL_law 1280 = .ok (.if_icmp .eq 55, 3) := dk_159 0 55 (dk_at dksL_law_47 17 rfl rfl)
theorem dL_law_1283 : decode cL_law 1283 = .ok (.iconst 0, 1) := dk_3 (dk_at dksL_law_47 20 rfl rfl)
theorem dL_law_1284 : decode cL_law 1284 = .ok (.ireturn, 1) := dk_172 (dk_at dksL_law_47 21 rfl rfl)
theorem dL_law_1285 : decode cL_law 1285 = .ok (.aload_n 1, 1) := dk_43 (dk_at dksL_law_47 22 rfl rfl)
theorem dL_law_1286 : decode cL_law 1286 = .ok (.invokevirtual 175, 3) := dk_182 0 175 (dk_at dksL_law_48 0 rfl rfl)
theorem dL_law_1289 : decode cL_law 1289 = .ok (.aload_n 2, 1) := dk_44 (dk_at dksL_law_48 3 rfl rfl)
theorem dL_law_1290 : decode cL_law 1290 = .ok (.invokevirtual 178, 3) := dk_182 0 178 (dk_at dksL_law_48 4 rfl rfl)
theorem dL_law_1293 : decode cL_law 1293 = .ok (.if_icmp .eq 42, 3) := dk_159 0 42 (dk_at dksL_law_48 7 rfl rfl)
theorem dL_law_1296 : decode cL_law 1296 = .ok (.iconst 0, 1) := dk_3 (dk_at dksL_law_48 10 rfl rfl)
theorem dL_law_1297 : decode cL_law 1297 = .ok (.ireturn, 1) := dk_172 (dk_at dksL_law_48 11 rfl rfl)
theorem dL_law_1298 : decode cL_law 1298 = .ok (.aload_n 1, 1) := dk_43 (dk_at dksL_law_48 12 rfl rfl)
theorem dL_law_1299 : decode cL_law 1299 = .ok (.aload_n 0, 1) := dk_42 (dk_at dksL_law_48 13 rfl rfl)
theorem dL_law_1300 : decode cL_law 1300 = .ok (.iload_n 3, 1) := dk_29 (dk_at dksL_law_48 14 rfl rfl)
theorem dL_law_1301 : decode cL_law 1301 = .ok (.iconst 1, 1) := dk_4 (dk_at dksL_law_48 15 rfl rfl)
theorem dL_law_1302 : decode cL_law 1302 = .ok (.iadd, 1) := dk_96 (dk_at dksL_law_48 16 rfl rfl)
theorem dL_law_1303 : decode cL_law 1303 = .ok (.iaload, 1) := dk_46 (dk_at dksL_law_48 17 rfl rfl)
theorem dL_law_1304 : decode cL_law 1304 = .ok (.invokevirtual 179, 3) := dk_182 0 179 (dk_at dksL_law_48 18 rfl rfl)
theorem dL_law_1307 : decode cL_law 1307 = .ok (.aload_n 2, 1) := dk_44 (dk_at dksL_law_48 21 rfl rfl)
theorem dL_law_1308 : decode cL_law 1308 = .ok (.aload_n 0, 1) := dk_42 (dk_at dksL_law_48 22 rfl rfl)
theorem dL_law_1309 : decode cL_law 1309 = .ok (.iload_n 3, 1) := dk_29 (dk_at dksL_law_48 23 rfl rfl)
theorem dL_law_1310 : decode cL_law 1310 = .ok (.iconst 1, 1) := dk_4 (dk_at dksL_law_49 0 rfl rfl)
theorem dL_law_1311 : decode cL_law 1311 = .ok (.iadd, 1) := dk_96 (dk_at dksL_law_49 1 rfl rfl)
theorem dL_law_1312 : decode cL_law 1312 = .ok (.iaload, 1) := dk_46 (dk_at dksL_law_49 2 rfl rfl)
theorem dL_law_1313 : decode cL_law 1313 = .ok (.invokevirtual 182, 3) := dk_182 0 182 (dk_at dksL_law_49 3 rfl rfl)
theorem dL_law_1316 : decode cL_law 1316 = .ok (.if_icmp .eq 19, 3) := dk_159 0 19 (dk_at dksL_law_49 6 rfl rfl)
theorem dL_law_1319 : decode cL_law 1319 = .ok (.iconst 0, 1) := dk_3 (dk_at dksL_law_49 9 rfl rfl)
theorem dL_law_1320 : decode cL_law 1320 = .ok (.ireturn, 1) := dk_172 (dk_at dksL_law_49 10 rfl rfl)
theorem dL_law_1321 : decode cL_law 1321 = .ok (.aload_n 1, 1) := dk_43 (dk_at dksL_law_49 11 rfl rfl)
theorem dL_law_1322 : decode cL_law 1322 = .ok (.invokevirtual 183, 3) := dk_182 0 183 (dk_at dksL_law_49 12 rfl rfl)
theorem dL_law_1325 : decode cL_law 1325 = .ok (.aload_n 2, 1) := dk_44 (dk_at dksL_law_49 15 rfl rfl)
theorem dL_law_1326 : decode cL_law 1326 = .ok (.invokevirtual 186, 3) := dk_182 0 186 (dk_at dksL_law_49 16 rfl rfl)
theorem dL_law_1329 : decode cL_law 1329 = .ok (.lcmp, 1) := dk_148 (dk_at dksL_law_49 19 rfl rfl)
theorem dL_law_1330 : decode cL_law 1330 = .ok (.ifCond .eq 5, 3) := dk_153 0 5 (dk_at dksL_law_49 20 rfl rfl)
theorem dL_law_1333 : decode cL_law 1333 = .ok (.iconst 0, 1) := dk_3 (dk_at dksL_law_49 23 rfl rfl)
theorem dL_law_1334 : decode cL_law 1334 = .ok (.ireturn, 1) := dk_172 (dk_at dksL_law_50 0 rfl rfl)
theorem dL_law_1335 : decode cL_law 1335 = .ok (.iinc 3 6, 3) := dk_132 3 6 (dk_at dksL_law_50 1 rfl rfl)
theorem dL_law_1338 : decode cL_law 1338 = .ok (.goto (-1320), 3) := dk_167 250 216 (dk_at dksL_law_50 4 rfl rfl)
theorem dL_law_1341 : decode cL_law 1341 = .ok (.iconst 1, 1) := dk_4 (dk_at dksL_law_50 7 rfl rfl)
theorem dL_law_1342 : decode cL_law 1342 = .ok (.ireturn, 1) := dk_172 (dk_at dksL_law_50 8 rfl rfl)
theorem q81 : (Jvm.Cond.initialized "SandPianoLaw") ∈ lw_all := lw_g (lw_at lw_m1 0 rfl) rfl
set_option maxRecDepth 100000
theorem q105 : (Jvm.Cond.classLink "SandPianoLaw" (7 : Nat) "SandPiano") ∈ lw_all := lw_g (lw_at lw_m1 24 rfl) rfl
theorem q107 : (Jvm.Cond.methodLink "SandPianoLaw" (9 : Nat) ({ cls := "SandPiano", name := "<init>", desc := "()V" } : Jvm.MethodName)) ∈ lw_all := lw_g (lw_at lw_m1 26 rfl) rfl
theorem q251 : (Jvm.Cond.methodLink "SandPianoLaw" (13 : Nat) ({ cls := "SandPiano", name := "row", desc := "(II)I" } : Jvm.MethodName)) ∈ lw_all := lw_g (lw_at lw_m1 170 rfl) rfl
theorem q351 : (Jvm.Cond.methodLink "SandPianoLaw" (18 : Nat) ({ cls := "SandPiano", name := "lay", desc := "(III)I" } : Jvm.MethodName)) ∈ lw_all := lw_g (lw_at lw_m2 30 rfl) rfl
theorem q407 : (Jvm.Cond.methodLink "SandPianoLaw" (23 : Nat) ({ cls := "SandPiano", name := "at", desc := "(II)I" } : Jvm.MethodName)) ∈ lw_all := lw_g (lw_at lw_m2 86 rfl) rfl
theorem q408 : (Jvm.Cond.methodLink "SandPianoLaw" (27 : Nat) ({ cls := "SandPiano", name := "tear", desc := "(I)I" } : Jvm.MethodName)) ∈ lw_all := lw_g (lw_at lw_m2 87 rfl) rfl
theorem q412 : (Jvm.Cond.methodLink "SandPianoLaw" (32 : Nat) ({ cls := "SandPiano", name := "copy", desc := "(IIIII)I" } : Jvm.MethodName)) ∈ lw_all := lw_g (lw_at lw_m2 91 rfl) rfl
theorem q420 : (Jvm.Cond.methodLink "SandPianoLaw" (37 : Nat) ({ cls := "SandPiano", name := "mean", desc := "(I)I" } : Jvm.MethodName)) ∈ lw_all := lw_g (lw_at lw_m2 99 rfl) rfl
theorem q438 : (Jvm.Cond.methodLink "SandPianoLaw" (41 : Nat) ({ cls := "SandPiano", name := "text", desc := "(II)I" } : Jvm.MethodName)) ∈ lw_all := lw_g (lw_at lw_m2 117 rfl) rfl
theorem q445 : (Jvm.Cond.methodLink "SandPianoLaw" (45 : Nat) ({ cls := "SandPiano", name := "put", desc := "(III)I" } : Jvm.MethodName)) ∈ lw_all := lw_g (lw_at lw_m2 124 rfl) rfl
theorem q449 : (Jvm.Cond.methodLink "SandPianoLaw" (49 : Nat) ({ cls := "SandPiano", name := "fault", desc := "(I)I" } : Jvm.MethodName)) ∈ lw_all := lw_g (lw_at lw_m2 128 rfl) rfl
theorem q473 : (Jvm.Cond.methodLink "SandPianoLaw" (53 : Nat) ({ cls := "SandPiano", name := "piano", desc := "(I)I" } : Jvm.MethodName)) ∈ lw_all := lw_g (lw_at lw_m2 152 rfl) rfl
theorem q545 : (Jvm.Cond.methodLink "SandPianoLaw" (57 : Nat) ({ cls := "SandPiano", name := "key", desc := "(II)I" } : Jvm.MethodName)) ∈ lw_all := lw_g (lw_at lw_m2 224 rfl) rfl
theorem q623 : (Jvm.Cond.methodLink "SandPianoLaw" (61 : Nat) ({ cls := "SandPiano", name := "mark", desc := "(II)I" } : Jvm.MethodName)) ∈ lw_all := lw_g (lw_at lw_m3 62 rfl) rfl
theorem q710 : (Jvm.Cond.methodLink "SandPianoLaw" (65 : Nat) ({ cls := "SandPiano", name := "spade", desc := "(I)I" } : Jvm.MethodName)) ∈ lw_all := lw_g (lw_at lw_m3 149 rfl) rfl
theorem q714 : (Jvm.Cond.methodLink "SandPianoLaw" (69 : Nat) ({ cls := "SandPiano", name := "play", desc := "(I)I" } : Jvm.MethodName)) ∈ lw_all := lw_g (lw_at lw_m3 153 rfl) rfl
theorem q769 : (Jvm.Cond.methodLink "SandPianoLaw" (73 : Nat) ({ cls := "SandPiano", name := "tide", desc := "(I)I" } : Jvm.MethodName)) ∈ lw_all := lw_g (lw_at lw_m3 208 rfl) rfl
theorem q780 : (Jvm.Cond.methodLink "SandPianoLaw" (77 : Nat) ({ cls := "SandPiano", name := "storm", desc := "(I)I" } : Jvm.MethodName)) ∈ lw_all := lw_g (lw_at lw_m3 219 rfl) rfl
theorem q786 : (Jvm.Cond.methodLink "SandPianoLaw" (81 : Nat) ({ cls := "SandPiano", name := "dig", desc := "(I)I" } : Jvm.MethodName)) ∈ lw_all := lw_g (lw_at lw_m3 225 rfl) rfl
theorem q794 : (Jvm.Cond.methodLink "SandPianoLaw" (85 : Nat) ({ cls := "SandPiano", name := "undo", desc := "(I)I" } : Jvm.MethodName)) ∈ lw_all := lw_g (lw_at lw_m3 233 rfl) rfl
theorem q798 : (Jvm.Cond.methodLink "SandPianoLaw" (89 : Nat) ({ cls := "SandPiano", name := "can", desc := "()I" } : Jvm.MethodName)) ∈ lw_all := lw_g (lw_at lw_m3 237 rfl) rfl
theorem q803 : (Jvm.Cond.methodLink "SandPianoLaw" (94 : Nat) ({ cls := "SandPiano", name := "keep", desc := "(I)I" } : Jvm.MethodName)) ∈ lw_all := lw_g (lw_at lw_m4 2 rfl) rfl
theorem q837 : (Jvm.Cond.methodLink "SandPianoLaw" (98 : Nat) ({ cls := "SandPiano", name := "on", desc := "(I)I" } : Jvm.MethodName)) ∈ lw_all := lw_g (lw_at lw_m4 36 rfl) rfl
theorem q841 : (Jvm.Cond.methodLink "SandPianoLaw" (102 : Nat) ({ cls := "SandPiano", name := "judge", desc := "(I)I" } : Jvm.MethodName)) ∈ lw_all := lw_g (lw_at lw_m4 40 rfl) rfl
theorem q853 : (Jvm.Cond.methodLink "SandPianoLaw" (106 : Nat) ({ cls := "SandPiano", name := "earns", desc := "(I)I" } : Jvm.MethodName)) ∈ lw_all := lw_g (lw_at lw_m4 52 rfl) rfl
theorem q857 : (Jvm.Cond.methodLink "SandPianoLaw" (110 : Nat) ({ cls := "SandPiano", name := "digs", desc := "(II)I" } : Jvm.MethodName)) ∈ lw_all := lw_g (lw_at lw_m4 56 rfl) rfl
theorem q869 : (Jvm.Cond.methodLink "SandPianoLaw" (114 : Nat) ({ cls := "SandPiano", name := "lasts", desc := "(II)I" } : Jvm.MethodName)) ∈ lw_all := lw_g (lw_at lw_m4 68 rfl) rfl
theorem q873 : (Jvm.Cond.methodLink "SandPianoLaw" (118 : Nat) ({ cls := "SandPiano", name := "duet", desc := "(II)I" } : Jvm.MethodName)) ∈ lw_all := lw_g (lw_at lw_m4 72 rfl) rfl
theorem q877 : (Jvm.Cond.methodLink "SandPianoLaw" (122 : Nat) ({ cls := "SandPiano", name := "most", desc := "(I)I" } : Jvm.MethodName)) ∈ lw_all := lw_g (lw_at lw_m4 76 rfl) rfl
theorem q892 : (Jvm.Cond.methodLink "SandPianoLaw" (126 : Nat) ({ cls := "SandPiano", name := "best", desc := "(II)I" } : Jvm.MethodName)) ∈ lw_all := lw_g (lw_at lw_m4 91 rfl) rfl
theorem q900 : (Jvm.Cond.methodLink "SandPianoLaw" (130 : Nat) ({ cls := "SandPiano", name := "rows", desc := "(I)I" } : Jvm.MethodName)) ∈ lw_all := lw_g (lw_at lw_m4 99 rfl) rfl
theorem q912 : (Jvm.Cond.methodLink "SandPianoLaw" (134 : Nat) ({ cls := "SandPiano", name := "back", desc := "(III)I" } : Jvm.MethodName)) ∈ lw_all := lw_g (lw_at lw_m4 111 rfl) rfl
theorem q924 : (Jvm.Cond.methodLink "SandPianoLaw" (138 : Nat) ({ cls := "SandPiano", name := "ring", desc := "(I)I" } : Jvm.MethodName)) ∈ lw_all := lw_g (lw_at lw_m4 123 rfl) rfl
theorem q940 : (Jvm.Cond.methodLink "SandPianoLaw" (142 : Nat) ({ cls := "SandPiano", name := "strike", desc := "(I)I" } : Jvm.MethodName)) ∈ lw_all := lw_g (lw_at lw_m4 139 rfl) rfl
theorem q947 : (Jvm.Cond.methodLink "SandPianoLaw" (146 : Nat) ({ cls := "SandPiano", name := "tune", desc := "(I)I" } : Jvm.MethodName)) ∈ lw_all := lw_g (lw_at lw_m4 146 rfl) rfl
theorem q958 : (Jvm.Cond.methodLink "SandPianoLaw" (150 : Nat) ({ cls := "SandPiano", name := "bet", desc := "(II)I" } : Jvm.MethodName)) ∈ lw_all := lw_g (lw_at lw_m4 157 rfl) rfl
theorem q967 : (Jvm.Cond.methodLink "SandPianoLaw" (154 : Nat) ({ cls := "SandPiano", name := "wind", desc := "(II)I" } : Jvm.MethodName)) ∈ lw_all := lw_g (lw_at lw_m4 166 rfl) rfl
theorem q978 : (Jvm.Cond.methodLink "SandPianoLaw" (158 : Nat) ({ cls := "SandPiano", name := "asked", desc := "()I" } : Jvm.MethodName)) ∈ lw_all := lw_g (lw_at lw_m4 177 rfl) rfl
theorem q982 : (Jvm.Cond.methodLink "SandPianoLaw" (162 : Nat) ({ cls := "SandPiano", name := "upper", desc := "()J" } : Jvm.MethodName)) ∈ lw_all := lw_g (lw_at lw_m4 181 rfl) rfl
theorem q986 : (Jvm.Cond.methodLink "SandPianoLaw" (167 : Nat) ({ cls := "SandPiano", name := "lower", desc := "()J" } : Jvm.MethodName)) ∈ lw_all := lw_g (lw_at lw_m4 185 rfl) rfl
theorem q990 : (Jvm.Cond.methodLink "SandPianoLaw" (171 : Nat) ({ cls := "SandPiano", name := "count", desc := "(I)I" } : Jvm.MethodName)) ∈ lw_all := lw_g (lw_at lw_m4 189 rfl) rfl
theorem q1031 : (Jvm.Cond.methodLink "SandPianoLaw" (175 : Nat) ({ cls := "SandPiano", name := "finding", desc := "()I" } : Jvm.MethodName)) ∈ lw_all := lw_g (lw_at lw_m4 230 rfl) rfl
theorem q1035 : (Jvm.Cond.methodLink "SandPianoLaw" (179 : Nat) ({ cls := "SandPiano", name := "findings", desc := "(I)I" } : Jvm.MethodName)) ∈ lw_all := lw_g (lw_at lw_m4 234 rfl) rfl
theorem q1039 : (Jvm.Cond.methodLink "SandPianoLaw" (183 : Nat) ({ cls := "SandPiano", name := "digest", desc := "()J" } : Jvm.MethodName)) ∈ lw_all := lw_g (lw_at lw_m4 238 rfl) rfl
theorem q1053 : (Jvm.Cond.classLink "SandPianoLaw" (10 : Nat) "SandPianoModel") ∈ lw_all := lw_g (lw_at lw_m5 12 rfl) rfl
theorem q1055 : (Jvm.Cond.methodLink "SandPianoLaw" (12 : Nat) ({ cls := "SandPianoModel", name := "<init>", desc := "()V" } : Jvm.MethodName)) ∈ lw_all := lw_g (lw_at lw_m5 14 rfl) rfl
theorem q1169 : (Jvm.Cond.methodLink "SandPianoLaw" (178 : Nat) ({ cls := "SandPianoModel", name := "finding", desc := "()I" } : Jvm.MethodName)) ∈ lw_all := lw_g (lw_at lw_m5 128 rfl) rfl
theorem q1173 : (Jvm.Cond.methodLink "SandPianoLaw" (182 : Nat) ({ cls := "SandPianoModel", name := "findings", desc := "(I)I" } : Jvm.MethodName)) ∈ lw_all := lw_g (lw_at lw_m5 132 rfl) rfl
theorem q1180 : (Jvm.Cond.methodLink "SandPianoLaw" (161 : Nat) ({ cls := "SandPianoModel", name := "asked", desc := "()I" } : Jvm.MethodName)) ∈ lw_all := lw_g (lw_at lw_m5 139 rfl) rfl
theorem q1184 : (Jvm.Cond.methodLink "SandPianoLaw" (166 : Nat) ({ cls := "SandPianoModel", name := "upper", desc := "()J" } : Jvm.MethodName)) ∈ lw_all := lw_g (lw_at lw_m5 143 rfl) rfl
theorem q1188 : (Jvm.Cond.methodLink "SandPianoLaw" (170 : Nat) ({ cls := "SandPianoModel", name := "lower", desc := "()J" } : Jvm.MethodName)) ∈ lw_all := lw_g (lw_at lw_m5 147 rfl) rfl
theorem q1192 : (Jvm.Cond.methodLink "SandPianoLaw" (17 : Nat) ({ cls := "SandPianoModel", name := "row", desc := "(II)I" } : Jvm.MethodName)) ∈ lw_all := lw_g (lw_at lw_m5 151 rfl) rfl
theorem q1203 : (Jvm.Cond.methodLink "SandPianoLaw" (22 : Nat) ({ cls := "SandPianoModel", name := "lay", desc := "(III)I" } : Jvm.MethodName)) ∈ lw_all := lw_g (lw_at lw_m5 162 rfl) rfl
theorem q1215 : (Jvm.Cond.methodLink "SandPianoLaw" (26 : Nat) ({ cls := "SandPianoModel", name := "at", desc := "(II)I" } : Jvm.MethodName)) ∈ lw_all := lw_g (lw_at lw_m5 174 rfl) rfl
theorem q1219 : (Jvm.Cond.methodLink "SandPianoLaw" (31 : Nat) ({ cls := "SandPianoModel", name := "tear", desc := "(I)I" } : Jvm.MethodName)) ∈ lw_all := lw_g (lw_at lw_m5 178 rfl) rfl
theorem q1223 : (Jvm.Cond.methodLink "SandPianoLaw" (36 : Nat) ({ cls := "SandPianoModel", name := "copy", desc := "(IIIII)I" } : Jvm.MethodName)) ∈ lw_all := lw_g (lw_at lw_m5 182 rfl) rfl
theorem q1227 : (Jvm.Cond.methodLink "SandPianoLaw" (40 : Nat) ({ cls := "SandPianoModel", name := "mean", desc := "(I)I" } : Jvm.MethodName)) ∈ lw_all := lw_g (lw_at lw_m5 186 rfl) rfl
theorem q1231 : (Jvm.Cond.methodLink "SandPianoLaw" (44 : Nat) ({ cls := "SandPianoModel", name := "text", desc := "(II)I" } : Jvm.MethodName)) ∈ lw_all := lw_g (lw_at lw_m5 190 rfl) rfl
theorem q1238 : (Jvm.Cond.methodLink "SandPianoLaw" (48 : Nat) ({ cls := "SandPianoModel", name := "put", desc := "(III)I" } : Jvm.MethodName)) ∈ lw_all := lw_g (lw_at lw_m5 197 rfl) rfl
theorem q1242 : (Jvm.Cond.methodLink "SandPianoLaw" (52 : Nat) ({ cls := "SandPianoModel", name := "fault", desc := "(I)I" } : Jvm.MethodName)) ∈ lw_all := lw_g (lw_at lw_m5 201 rfl) rfl
theorem q1269 : (Jvm.Cond.methodLink "SandPianoLaw" (56 : Nat) ({ cls := "SandPianoModel", name := "piano", desc := "(I)I" } : Jvm.MethodName)) ∈ lw_all := lw_g (lw_at lw_m5 228 rfl) rfl
theorem q1277 : (Jvm.Cond.methodLink "SandPianoLaw" (60 : Nat) ({ cls := "SandPianoModel", name := "key", desc := "(II)I" } : Jvm.MethodName)) ∈ lw_all := lw_g (lw_at lw_m5 236 rfl) rfl
theorem q1297 : (Jvm.Cond.methodLink "SandPianoLaw" (64 : Nat) ({ cls := "SandPianoModel", name := "mark", desc := "(II)I" } : Jvm.MethodName)) ∈ lw_all := lw_g (lw_at lw_m6 16 rfl) rfl
theorem q1318 : (Jvm.Cond.methodLink "SandPianoLaw" (68 : Nat) ({ cls := "SandPianoModel", name := "spade", desc := "(I)I" } : Jvm.MethodName)) ∈ lw_all := lw_g (lw_at lw_m6 37 rfl) rfl
theorem q1322 : (Jvm.Cond.methodLink "SandPianoLaw" (72 : Nat) ({ cls := "SandPianoModel", name := "play", desc := "(I)I" } : Jvm.MethodName)) ∈ lw_all := lw_g (lw_at lw_m6 41 rfl) rfl
theorem q1346 : (Jvm.Cond.methodLink "SandPianoLaw" (76 : Nat) ({ cls := "SandPianoModel", name := "tide", desc := "(I)I" } : Jvm.MethodName)) ∈ lw_all := lw_g (lw_at lw_m6 65 rfl) rfl
theorem q1358 : (Jvm.Cond.methodLink "SandPianoLaw" (80 : Nat) ({ cls := "SandPianoModel", name := "storm", desc := "(I)I" } : Jvm.MethodName)) ∈ lw_all := lw_g (lw_at lw_m6 77 rfl) rfl
theorem q1366 : (Jvm.Cond.methodLink "SandPianoLaw" (84 : Nat) ({ cls := "SandPianoModel", name := "dig", desc := "(I)I" } : Jvm.MethodName)) ∈ lw_all := lw_g (lw_at lw_m6 85 rfl) rfl
theorem q1370 : (Jvm.Cond.methodLink "SandPianoLaw" (88 : Nat) ({ cls := "SandPianoModel", name := "undo", desc := "(I)I" } : Jvm.MethodName)) ∈ lw_all := lw_g (lw_at lw_m6 89 rfl) rfl
theorem q1374 : (Jvm.Cond.methodLink "SandPianoLaw" (93 : Nat) ({ cls := "SandPianoModel", name := "can", desc := "()I" } : Jvm.MethodName)) ∈ lw_all := lw_g (lw_at lw_m6 93 rfl) rfl
theorem q1378 : (Jvm.Cond.methodLink "SandPianoLaw" (97 : Nat) ({ cls := "SandPianoModel", name := "keep", desc := "(I)I" } : Jvm.MethodName)) ∈ lw_all := lw_g (lw_at lw_m6 97 rfl) rfl
theorem q1382 : (Jvm.Cond.methodLink "SandPianoLaw" (101 : Nat) ({ cls := "SandPianoModel", name := "on", desc := "(I)I" } : Jvm.MethodName)) ∈ lw_all := lw_g (lw_at lw_m6 101 rfl) rfl
theorem q1386 : (Jvm.Cond.methodLink "SandPianoLaw" (105 : Nat) ({ cls := "SandPianoModel", name := "judge", desc := "(I)I" } : Jvm.MethodName)) ∈ lw_all := lw_g (lw_at lw_m6 105 rfl) rfl
theorem q1406 : (Jvm.Cond.methodLink "SandPianoLaw" (109 : Nat) ({ cls := "SandPianoModel", name := "earns", desc := "(I)I" } : Jvm.MethodName)) ∈ lw_all := lw_g (lw_at lw_m6 125 rfl) rfl
theorem q1410 : (Jvm.Cond.methodLink "SandPianoLaw" (113 : Nat) ({ cls := "SandPianoModel", name := "digs", desc := "(II)I" } : Jvm.MethodName)) ∈ lw_all := lw_g (lw_at lw_m6 129 rfl) rfl
theorem q1422 : (Jvm.Cond.methodLink "SandPianoLaw" (117 : Nat) ({ cls := "SandPianoModel", name := "lasts", desc := "(II)I" } : Jvm.MethodName)) ∈ lw_all := lw_g (lw_at lw_m6 141 rfl) rfl
theorem q1426 : (Jvm.Cond.methodLink "SandPianoLaw" (121 : Nat) ({ cls := "SandPianoModel", name := "duet", desc := "(II)I" } : Jvm.MethodName)) ∈ lw_all := lw_g (lw_at lw_m6 145 rfl) rfl
theorem q1430 : (Jvm.Cond.methodLink "SandPianoLaw" (125 : Nat) ({ cls := "SandPianoModel", name := "most", desc := "(I)I" } : Jvm.MethodName)) ∈ lw_all := lw_g (lw_at lw_m6 149 rfl) rfl
theorem q1445 : (Jvm.Cond.methodLink "SandPianoLaw" (129 : Nat) ({ cls := "SandPianoModel", name := "best", desc := "(II)I" } : Jvm.MethodName)) ∈ lw_all := lw_g (lw_at lw_m6 164 rfl) rfl
theorem q1453 : (Jvm.Cond.methodLink "SandPianoLaw" (133 : Nat) ({ cls := "SandPianoModel", name := "rows", desc := "(I)I" } : Jvm.MethodName)) ∈ lw_all := lw_g (lw_at lw_m6 172 rfl) rfl
theorem q1465 : (Jvm.Cond.methodLink "SandPianoLaw" (137 : Nat) ({ cls := "SandPianoModel", name := "back", desc := "(III)I" } : Jvm.MethodName)) ∈ lw_all := lw_g (lw_at lw_m6 184 rfl) rfl
theorem q1477 : (Jvm.Cond.methodLink "SandPianoLaw" (141 : Nat) ({ cls := "SandPianoModel", name := "ring", desc := "(I)I" } : Jvm.MethodName)) ∈ lw_all := lw_g (lw_at lw_m6 196 rfl) rfl
theorem q1492 : (Jvm.Cond.methodLink "SandPianoLaw" (145 : Nat) ({ cls := "SandPianoModel", name := "strike", desc := "(I)I" } : Jvm.MethodName)) ∈ lw_all := lw_g (lw_at lw_m6 211 rfl) rfl
theorem q1496 : (Jvm.Cond.methodLink "SandPianoLaw" (149 : Nat) ({ cls := "SandPianoModel", name := "tune", desc := "(I)I" } : Jvm.MethodName)) ∈ lw_all := lw_g (lw_at lw_m6 215 rfl) rfl
theorem q1504 : (Jvm.Cond.methodLink "SandPianoLaw" (153 : Nat) ({ cls := "SandPianoModel", name := "bet", desc := "(II)I" } : Jvm.MethodName)) ∈ lw_all := lw_g (lw_at lw_m6 223 rfl) rfl
theorem q1513 : (Jvm.Cond.methodLink "SandPianoLaw" (157 : Nat) ({ cls := "SandPianoModel", name := "wind", desc := "(II)I" } : Jvm.MethodName)) ∈ lw_all := lw_g (lw_at lw_m6 232 rfl) rfl
theorem q1520 : (Jvm.Cond.methodLink "SandPianoLaw" (174 : Nat) ({ cls := "SandPianoModel", name := "count", desc := "(I)I" } : Jvm.MethodName)) ∈ lw_all := lw_g (lw_at lw_m6 239 rfl) rfl
theorem q1528 : (Jvm.Cond.methodLink "SandPianoLaw" (186 : Nat) ({ cls := "SandPianoModel", name := "digest", desc := "()J" } : Jvm.MethodName)) ∈ lw_all := lw_g (lw_at lw_m7 7 rfl) rfl
