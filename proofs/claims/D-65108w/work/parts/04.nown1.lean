/-! the law's own entry -/
set_option maxRecDepth 100000
abbrev cL_law : ByteArray := code
def dkwL_law_31 : List UInt8 := [153, 0, 5, 3, 172, 167, 0, 3, 132, 4, 5, 167, 253, 6, 4, 172]
abbrev dktL_law_31 : List UInt8 := dkwL_law_31 ++ []
def dkwL_law_30 : List UInt8 := [182, 0, 51, 21, 5, 159, 0, 5, 3, 172, 21, 5, 154, 0, 15, 45, 3, 47, 21, 6, 133, 148]
abbrev dktL_law_30 : List UInt8 := dkwL_law_30 ++ dktL_law_31
def dkwL_law_29 : List UInt8 := [21, 4, 4, 96, 46, 45, 184, 0, 113, 54, 5, 44, 42, 21, 4, 4, 96, 46, 182, 0, 116, 54, 6, 44]
abbrev dktL_law_29 : List UInt8 := dkwL_law_29 ++ dktL_law_30
def dkwL_law_28 : List UInt8 := [172, 21, 5, 154, 0, 15, 45, 3, 47, 21, 6, 133, 148, 153, 0, 5, 3, 172, 167, 0, 59, 43, 42]
abbrev dktL_law_28 : List UInt8 := dkwL_law_28 ++ dktL_law_29
def dkwL_law_27 : List UInt8 := [4, 96, 46, 42, 21, 4, 5, 96, 46, 182, 0, 112, 54, 6, 44, 182, 0, 51, 21, 5, 159, 0, 5, 3]
abbrev dktL_law_27 : List UInt8 := dkwL_law_27 ++ dktL_law_28
def dkwL_law_26 : List UInt8 := [172, 43, 42, 21, 4, 4, 96, 46, 42, 21, 4, 5, 96, 46, 45, 184, 0, 110, 54, 5, 44, 42, 21, 4]
abbrev dktL_law_26 : List UInt8 := dkwL_law_26 ++ dktL_law_27
def dkwL_law_25 : List UInt8 := [21, 6, 133, 148, 153, 0, 5, 3, 172, 167, 0, 140, 43, 182, 0, 106, 44, 182, 0, 109, 159, 0, 129, 3]
abbrev dktL_law_25 : List UInt8 := dkwL_law_25 ++ dktL_law_26
def dkwL_law_24 : List UInt8 := [182, 0, 105, 54, 6, 44, 182, 0, 51, 21, 5, 159, 0, 5, 3, 172, 21, 5, 154, 0, 15, 45, 3, 47]
abbrev dktL_law_24 : List UInt8 := dkwL_law_24 ++ dktL_law_25
def dkwL_law_23 : List UInt8 := [184, 0, 102, 54, 5, 44, 42, 21, 4, 4, 96, 46, 42, 21, 4, 5, 96, 46, 42, 21, 4, 6, 96, 46]
abbrev dktL_law_23 : List UInt8 := dkwL_law_23 ++ dktL_law_24
def dkwL_law_22 : List UInt8 := [167, 0, 220, 43, 42, 21, 4, 4, 96, 46, 42, 21, 4, 5, 96, 46, 42, 21, 4, 6, 96, 46, 45]
abbrev dktL_law_22 : List UInt8 := dkwL_law_22 ++ dktL_law_23
def dkwL_law_21 : List UInt8 := [159, 0, 5, 3, 172, 21, 5, 154, 0, 15, 45, 3, 47, 21, 6, 133, 148, 153, 0, 5, 3, 172]
abbrev dktL_law_21 : List UInt8 := dkwL_law_21 ++ dktL_law_22
def dkwL_law_20 : List UInt8 := [44, 42, 21, 4, 4, 96, 46, 42, 21, 4, 5, 96, 46, 182, 0, 101, 54, 6, 44, 182, 0, 51, 21, 5]
abbrev dktL_law_20 : List UInt8 := dkwL_law_20 ++ dktL_law_21
def dkwL_law_19 : List UInt8 := [159, 1, 34, 3, 172, 43, 42, 21, 4, 4, 96, 46, 42, 21, 4, 5, 96, 46, 45, 184, 0, 99, 54, 5]
abbrev dktL_law_19 : List UInt8 := dkwL_law_19 ++ dktL_law_20
def dkwL_law_18 : List UInt8 := [3, 47, 21, 6, 133, 148, 153, 0, 5, 3, 172, 167, 1, 45, 43, 182, 0, 95, 44, 182, 0, 98]
abbrev dktL_law_18 : List UInt8 := dkwL_law_18 ++ dktL_law_19
def dkwL_law_17 : List UInt8 := [96, 46, 182, 0, 94, 54, 6, 44, 182, 0, 51, 21, 5, 159, 0, 5, 3, 172, 21, 5, 154, 0, 15, 45]
abbrev dktL_law_17 : List UInt8 := dkwL_law_17 ++ dktL_law_18
def dkwL_law_16 : List UInt8 := [46, 42, 21, 4, 5, 96, 46, 45, 184, 0, 91, 54, 5, 44, 42, 21, 4, 4, 96, 46, 42, 21, 4, 5]
abbrev dktL_law_16 : List UInt8 := dkwL_law_16 ++ dktL_law_17
def dkwL_law_15 : List UInt8 := [159, 1, 128, 3, 172, 43, 182, 0, 87, 44, 182, 0, 90, 159, 1, 115, 3, 172, 43, 42, 21, 4, 4, 96]
abbrev dktL_law_15 : List UInt8 := dkwL_law_15 ++ dktL_law_16
def dkwL_law_14 : List UInt8 := [167, 1, 152, 43, 182, 0, 79, 44, 182, 0, 82, 159, 1, 141, 3, 172, 43, 182, 0, 83, 44, 182, 0, 86]
abbrev dktL_law_14 : List UInt8 := dkwL_law_14 ++ dktL_law_15
def dkwL_law_13 : List UInt8 := [159, 0, 5, 3, 172, 21, 5, 154, 0, 15, 45, 3, 47, 21, 6, 133, 148, 153, 0, 5, 3, 172]
abbrev dktL_law_13 : List UInt8 := dkwL_law_13 ++ dktL_law_14
def dkwL_law_12 : List UInt8 := [46, 42, 21, 4, 6, 96, 46, 42, 21, 4, 7, 96, 46, 182, 0, 78, 54, 6, 44, 182, 0, 51, 21, 5]
abbrev dktL_law_12 : List UInt8 := dkwL_law_12 ++ dktL_law_13
def dkwL_law_11 : List UInt8 := [42, 21, 4, 7, 96, 46, 45, 184, 0, 75, 54, 5, 44, 42, 21, 4, 4, 96, 46, 42, 21, 4, 5, 96]
abbrev dktL_law_11 : List UInt8 := dkwL_law_11 ++ dktL_law_12
def dkwL_law_10 : List UInt8 := [159, 1, 246, 3, 172, 43, 42, 21, 4, 4, 96, 46, 42, 21, 4, 5, 96, 46, 42, 21, 4, 6, 96, 46]
abbrev dktL_law_10 : List UInt8 := dkwL_law_10 ++ dktL_law_11
def dkwL_law_9 : List UInt8 := [172, 43, 182, 0, 67, 44, 182, 0, 70, 159, 2, 3, 3, 172, 43, 182, 0, 71, 44, 182, 0, 74]
abbrev dktL_law_9 : List UInt8 := dkwL_law_9 ++ dktL_law_10
def dkwL_law_8 : List UInt8 := [182, 0, 59, 44, 182, 0, 62, 159, 2, 29, 3, 172, 43, 182, 0, 63, 44, 182, 0, 66, 159, 2, 16, 3]
abbrev dktL_law_8 : List UInt8 := dkwL_law_8 ++ dktL_law_9
def dkwL_law_7 : List UInt8 := [153, 0, 5, 3, 172, 167, 2, 53, 43, 182, 0, 55, 44, 182, 0, 58, 159, 2, 42, 3, 172, 43]
abbrev dktL_law_7 : List UInt8 := dkwL_law_7 ++ dktL_law_8
def dkwL_law_6 : List UInt8 := [182, 0, 51, 21, 5, 159, 0, 5, 3, 172, 21, 5, 154, 0, 15, 45, 3, 47, 21, 6, 133, 148]
abbrev dktL_law_6 : List UInt8 := dkwL_law_6 ++ dktL_law_7
def dkwL_law_5 : List UInt8 := [133, 16, 32, 121, 42, 21, 4, 6, 96, 46, 133, 20, 0, 43, 127, 129, 182, 0, 50, 54, 6, 44]
abbrev dktL_law_5 : List UInt8 := dkwL_law_5 ++ dktL_law_6
def dkwL_law_4 : List UInt8 := [20, 0, 43, 127, 129, 45, 184, 0, 45, 54, 5, 44, 42, 21, 4, 4, 96, 46, 42, 21, 4, 5, 96, 46]
abbrev dktL_law_4 : List UInt8 := dkwL_law_4 ++ dktL_law_5
def dkwL_law_3 : List UInt8 := [43, 42, 21, 4, 4, 96, 46, 42, 21, 4, 5, 96, 46, 133, 16, 32, 121, 42, 21, 4, 6, 96, 46, 133]
abbrev dktL_law_3 : List UInt8 := dkwL_law_3 ++ dktL_law_4
def dkwL_law_2 : List UInt8 := [170, 0, 0, 2, 231, 0, 0, 0, 0, 0, 0, 0, 16, 0, 0, 0, 81, 0, 0, 0, 181, 0, 0, 0, 194, 0, 0, 0, 207, 0, 0, 0, 220, 0, 0, 0, 233, 0, 0, 0, 246, 0, 0, 1, 82, 0, 0, 1, 95, 0, 0, 1, 108, 0, 0, 1, 121, 0, 0, 1, 189, 0, 0, 1, 202, 0, 0, 2, 14, 0, 0, 2, 94, 0, 0, 2, 107, 0, 0, 2, 175]
abbrev dktL_law_2 : List UInt8 := dkwL_law_2 ++ dktL_law_3
def dkwL_law_1 : List UInt8 := [21, 4, 42, 190, 8, 100, 163, 2, 247, 42, 21, 4, 46, 16, 31, 126]
abbrev dktL_law_1 : List UInt8 := dkwL_law_1 ++ dktL_law_2
def dkwL_law_0 : List UInt8 := [187, 0, 8, 89, 183, 0, 39, 76, 187, 0, 40, 89, 183, 0, 42, 77, 4, 188, 11, 78, 3, 54, 4]
abbrev dktL_law_0 : List UInt8 := dkwL_law_0 ++ dktL_law_1
theorem dksL_law_0 : cL_law.data.toList.drop 0 = dktL_law_0 := by decide +kernel
theorem dksL_law_1 : cL_law.data.toList.drop 23 = dktL_law_1 := dk_seg dksL_law_0 23 rfl rfl
theorem dksL_law_2 : cL_law.data.toList.drop 39 = dktL_law_2 := dk_seg dksL_law_1 16 rfl rfl
theorem dksL_law_3 : cL_law.data.toList.drop 120 = dktL_law_3 := dk_seg dksL_law_2 81 rfl rfl
theorem dksL_law_4 : cL_law.data.toList.drop 144 = dktL_law_4 := dk_seg dksL_law_3 24 rfl rfl
theorem dksL_law_5 : cL_law.data.toList.drop 168 = dktL_law_5 := dk_seg dksL_law_4 24 rfl rfl
theorem dksL_law_6 : cL_law.data.toList.drop 190 = dktL_law_6 := dk_seg dksL_law_5 22 rfl rfl
theorem dksL_law_7 : cL_law.data.toList.drop 212 = dktL_law_7 := dk_seg dksL_law_6 22 rfl rfl
theorem dksL_law_8 : cL_law.data.toList.drop 234 = dktL_law_8 := dk_seg dksL_law_7 22 rfl rfl
theorem dksL_law_9 : cL_law.data.toList.drop 258 = dktL_law_9 := dk_seg dksL_law_8 24 rfl rfl
theorem dksL_law_10 : cL_law.data.toList.drop 280 = dktL_law_10 := dk_seg dksL_law_9 22 rfl rfl
theorem dksL_law_11 : cL_law.data.toList.drop 304 = dktL_law_11 := dk_seg dksL_law_10 24 rfl rfl
theorem dksL_law_12 : cL_law.data.toList.drop 328 = dktL_law_12 := dk_seg dksL_law_11 24 rfl rfl
theorem dksL_law_13 : cL_law.data.toList.drop 352 = dktL_law_13 := dk_seg dksL_law_12 24 rfl rfl
theorem dksL_law_14 : cL_law.data.toList.drop 374 = dktL_law_14 := dk_seg dksL_law_13 22 rfl rfl
theorem dksL_law_15 : cL_law.data.toList.drop 398 = dktL_law_15 := dk_seg dksL_law_14 24 rfl rfl
theorem dksL_law_16 : cL_law.data.toList.drop 422 = dktL_law_16 := dk_seg dksL_law_15 24 rfl rfl
theorem dksL_law_17 : cL_law.data.toList.drop 446 = dktL_law_17 := dk_seg dksL_law_16 24 rfl rfl
theorem dksL_law_18 : cL_law.data.toList.drop 470 = dktL_law_18 := dk_seg dksL_law_17 24 rfl rfl
theorem dksL_law_19 : cL_law.data.toList.drop 492 = dktL_law_19 := dk_seg dksL_law_18 22 rfl rfl
theorem dksL_law_20 : cL_law.data.toList.drop 516 = dktL_law_20 := dk_seg dksL_law_19 24 rfl rfl
theorem dksL_law_21 : cL_law.data.toList.drop 540 = dktL_law_21 := dk_seg dksL_law_20 24 rfl rfl
theorem dksL_law_22 : cL_law.data.toList.drop 562 = dktL_law_22 := dk_seg dksL_law_21 22 rfl rfl
theorem dksL_law_23 : cL_law.data.toList.drop 585 = dktL_law_23 := dk_seg dksL_law_22 23 rfl rfl
theorem dksL_law_24 : cL_law.data.toList.drop 609 = dktL_law_24 := dk_seg dksL_law_23 24 rfl rfl
theorem dksL_law_25 : cL_law.data.toList.drop 633 = dktL_law_25 := dk_seg dksL_law_24 24 rfl rfl
theorem dksL_law_26 : cL_law.data.toList.drop 657 = dktL_law_26 := dk_seg dksL_law_25 24 rfl rfl
theorem dksL_law_27 : cL_law.data.toList.drop 681 = dktL_law_27 := dk_seg dksL_law_26 24 rfl rfl
theorem dksL_law_28 : cL_law.data.toList.drop 705 = dktL_law_28 := dk_seg dksL_law_27 24 rfl rfl
theorem dksL_law_29 : cL_law.data.toList.drop 728 = dktL_law_29 := dk_seg dksL_law_28 23 rfl rfl
theorem dksL_law_30 : cL_law.data.toList.drop 752 = dktL_law_30 := dk_seg dksL_law_29 24 rfl rfl
theorem dksL_law_31 : cL_law.data.toList.drop 774 = dktL_law_31 := dk_seg dksL_law_30 22 rfl rfl
theorem dL_law_0 : decode cL_law 0 = .ok (.new 8, 3) := dk_187 0 8 (dk_at dksL_law_0 0 rfl rfl)
theorem dL_law_3 : decode cL_law 3 = .ok (.dup, 1) := dk_89 (dk_at dksL_law_0 3 rfl rfl)
theorem dL_law_4 : decode cL_law 4 = .ok (.invokespecial 39, 3) := dk_183 0 39 (dk_at dksL_law_0 4 rfl rfl)
theorem dL_law_7 : decode cL_law 7 = .ok (.astore_n 1, 1) := dk_76 (dk_at dksL_law_0 7 rfl rfl)
theorem dL_law_8 : decode cL_law 8 = .ok (.new 40, 3) := dk_187 0 40 (dk_at dksL_law_0 8 rfl rfl)
theorem dL_law_11 : decode cL_law 11 = .ok (.dup, 1) := dk_89 (dk_at dksL_law_0 11 rfl rfl)
theorem dL_law_12 : decode cL_law 12 = .ok (.invokespecial 42, 3) := dk_183 0 42 (dk_at dksL_law_0 12 rfl rfl)
theorem dL_law_15 : decode cL_law 15 = .ok (.astore_n 2, 1) := dk_77 (dk_at dksL_law_0 15 rfl rfl)
theorem dL_law_16 : decode cL_law 16 = .ok (.iconst 1, 1) := dk_4 (dk_at dksL_law_0 16 rfl rfl)
theorem dL_law_17 : decode cL_law 17 = .ok (.newarray .long, 2) := dk_188_11 (dk_at dksL_law_0 17 rfl rfl)
theorem dL_law_19 : decode cL_law 19 = .ok (.astore_n 3, 1) := dk_78 (dk_at dksL_law_0 19 rfl rfl)
theorem dL_law_20 : decode cL_law 20 = .ok (.iconst 0, 1) := dk_3 (dk_at dksL_law_0 20 rfl rfl)
theorem dL_law_21 : decode cL_law 21 = .ok (.istore 4, 2) := dk_54 4 (dk_at dksL_law_0 21 rfl rfl)
theorem dL_law_23 : decode cL_law 23 = .ok (.iload 4, 2) := dk_21 4 (dk_at dksL_law_1 0 rfl rfl)
theorem dL_law_25 : decode cL_law 25 = .ok (.aload_n 0, 1) := dk_42 (dk_at dksL_law_1 2 rfl rfl)
theorem dL_law_26 : decode cL_law 26 = .ok (.arraylength, 1) := dk_190 (dk_at dksL_law_1 3 rfl rfl)
theorem dL_law_27 : decode cL_law 27 = .ok (.iconst 5, 1) := dk_8 (dk_at dksL_law_1 4 rfl rfl)
theorem dL_law_28 : decode cL_law 28 = .ok (.isub, 1) := dk_100 (dk_at dksL_law_1 5 rfl rfl)
theorem dL_law_29 : decode cL_law 29 = .ok (.if_icmp .gt 759, 3) := dk_163 2 247 (dk_at dksL_law_1 6 rfl rfl)
theorem dL_law_32 : decode cL_law 32 = .ok (.aload_n 0, 1) := dk_42 (dk_at dksL_law_1 9 rfl rfl)
theorem dL_law_33 : decode cL_law 33 = .ok (.iload 4, 2) := dk_21 4 (dk_at dksL_law_1 10 rfl rfl)
theorem dL_law_35 : decode cL_law 35 = .ok (.iaload, 1) := dk_46 (dk_at dksL_law_1 12 rfl rfl)
theorem dL_law_36 : decode cL_law 36 = .ok (.bipush 31, 2) := dk_16 31 (dk_at dksL_law_1 13 rfl rfl)
theorem dL_law_38 : decode cL_law 38 = .ok (.iand, 1) := dk_126 (dk_at dksL_law_1 15 rfl rfl)
theorem dL_law_39 : decode cL_law 39 = .ok (.tableswitch 743 0 16 #[81, 181, 194, 207, 220, 233, 246, 338, 351, 364, 377, 445, 458, 526, 606, 619, 687], 81) := by decide +kernel
theorem dL_law_120 : decode cL_law 120 = .ok (.aload_n 1, 1) := dk_43 (dk_at dksL_law_3 0 rfl rfl)
theorem dL_law_121 : decode cL_law 121 = .ok (.aload_n 0, 1) := dk_42 (dk_at dksL_law_3 1 rfl rfl)
theorem dL_law_122 : decode cL_law 122 = .ok (.iload 4, 2) := dk_21 4 (dk_at dksL_law_3 2 rfl rfl)
theorem dL_law_124 : decode cL_law 124 = .ok (.iconst 1, 1) := dk_4 (dk_at dksL_law_3 4 rfl rfl)
theorem dL_law_125 : decode cL_law 125 = .ok (.iadd, 1) := dk_96 (dk_at dksL_law_3 5 rfl rfl)
theorem dL_law_126 : decode cL_law 126 = .ok (.iaload, 1) := dk_46 (dk_at dksL_law_3 6 rfl rfl)
theorem dL_law_127 : decode cL_law 127 = .ok (.aload_n 0, 1) := dk_42 (dk_at dksL_law_3 7 rfl rfl)
theorem dL_law_128 : decode cL_law 128 = .ok (.iload 4, 2) := dk_21 4 (dk_at dksL_law_3 8 rfl rfl)
theorem dL_law_130 : decode cL_law 130 = .ok (.iconst 2, 1) := dk_5 (dk_at dksL_law_3 10 rfl rfl)
theorem dL_law_131 : decode cL_law 131 = .ok (.iadd, 1) := dk_96 (dk_at dksL_law_3 11 rfl rfl)
theorem dL_law_132 : decode cL_law 132 = .ok (.iaload, 1) := dk_46 (dk_at dksL_law_3 12 rfl rfl)
theorem dL_law_133 : decode cL_law 133 = .ok (.i2l, 1) := dk_133 (dk_at dksL_law_3 13 rfl rfl)
theorem dL_law_134 : decode cL_law 134 = .ok (.bipush 32, 2) := dk_16 32 (dk_at dksL_law_3 14 rfl rfl)
theorem dL_law_136 : decode cL_law 136 = .ok (.lshl, 1) := dk_121 (dk_at dksL_law_3 16 rfl rfl)
theorem dL_law_137 : decode cL_law 137 = .ok (.aload_n 0, 1) := dk_42 (dk_at dksL_law_3 17 rfl rfl)
theorem dL_law_138 : decode cL_law 138 = .ok (.iload 4, 2) := dk_21 4 (dk_at dksL_law_3 18 rfl rfl)
theorem dL_law_140 : decode cL_law 140 = .ok (.iconst 3, 1) := dk_6 (dk_at dksL_law_3 20 rfl rfl)
theorem dL_law_141 : decode cL_law 141 = .ok (.iadd, 1) := dk_96 (dk_at dksL_law_3 21 rfl rfl)
theorem dL_law_142 : decode cL_law 142 = .ok (.iaload, 1) := dk_46 (dk_at dksL_law_3 22 rfl rfl)
theorem dL_law_143 : decode cL_law 143 = .ok (.i2l, 1) := dk_133 (dk_at dksL_law_3 23 rfl rfl)
theorem dL_law_144 : decode cL_law 144 = .ok (.ldc2_w 43, 3) := dk_20 0 43 (dk_at dksL_law_4 0 rfl rfl)
theorem dL_law_147 : decode cL_law 147 = .ok (.land, 1) := dk_127 (dk_at dksL_law_4 3 rfl rfl)
theorem dL_law_148 : decode cL_law 148 = .ok (.lor, 1) := dk_129 (dk_at dksL_law_4 4 rfl rfl)
theorem dL_law_149 : decode cL_law 149 = .ok (.aload_n 3, 1) := dk_45 (dk_at dksL_law_4 5 rfl rfl)
theorem dL_law_150 : decode cL_law 150 = .ok (.invokestatic 45, 3) := dk_184 0 45 (dk_at dksL_law_4 6 rfl rfl)
theorem dL_law_153 : decode cL_law 153 = .ok (.istore 5, 2) := dk_54 5 (dk_at dksL_law_4 9 rfl rfl)
theorem dL_law_155 : decode cL_law 155 = .ok (.aload_n 2, 1) := dk_44 (dk_at dksL_law_4 11 rfl rfl)
theorem dL_law_156 : decode cL_law 156 = .ok (.aload_n 0, 1) := dk_42 (dk_at dksL_law_4 12 rfl rfl)
theorem dL_law_157 : decode cL_law 157 = .ok (.iload 4, 2) := dk_21 4 (dk_at dksL_law_4 13 rfl rfl)
theorem dL_law_159 : decode cL_law 159 = .ok (.iconst 1, 1) := dk_4 (dk_at dksL_law_4 15 rfl rfl)
theorem dL_law_160 : decode cL_law 160 = .ok (.iadd, 1) := dk_96 (dk_at dksL_law_4 16 rfl rfl)
theorem dL_law_161 : decode cL_law 161 = .ok (.iaload, 1) := dk_46 (dk_at dksL_law_4 17 rfl rfl)
theorem dL_law_162 : decode cL_law 162 = .ok (.aload_n 0, 1) := dk_42 (dk_at dksL_law_4 18 rfl rfl)
theorem dL_law_163 : decode cL_law 163 = .ok (.iload 4, 2) := dk_21 4 (dk_at dksL_law_4 19 rfl rfl)
theorem dL_law_165 : decode cL_law 165 = .ok (.iconst 2, 1) := dk_5 (dk_at dksL_law_4 21 rfl rfl)
theorem dL_law_166 : decode cL_law 166 = .ok (.iadd, 1) := dk_96 (dk_at dksL_law_4 22 rfl rfl)
theorem dL_law_167 : decode cL_law 167 = .ok (.iaload, 1) := dk_46 (dk_at dksL_law_4 23 rfl rfl)
theorem dL_law_168 : decode cL_law 168 = .ok (.i2l, 1) := dk_133 (dk_at dksL_law_5 0 rfl rfl)
theorem dL_law_169 : decode cL_law 169 = .ok (.bipush 32, 2) := dk_16 32 (dk_at dksL_law_5 1 rfl rfl)
theorem dL_law_171 : decode cL_law 171 = .ok (.lshl, 1) := dk_121 (dk_at dksL_law_5 3 rfl rfl)
theorem dL_law_172 : decode cL_law 172 = .ok (.aload_n 0, 1) := dk_42 (dk_at dksL_law_5 4 rfl rfl)
theorem dL_law_173 : decode cL_law 173 = .ok (.iload 4, 2) := dk_21 4 (dk_at dksL_law_5 5 rfl rfl)
theorem dL_law_175 : decode cL_law 175 = .ok (.iconst 3, 1) := dk_6 (dk_at dksL_law_5 7 rfl rfl)
theorem dL_law_176 : decode cL_law 176 = .ok (.iadd, 1) := dk_96 (dk_at dksL_law_5 8 rfl rfl)
theorem dL_law_177 : decode cL_law 177 = .ok (.iaload, 1) := dk_46 (dk_at dksL_law_5 9 rfl rfl)
theorem dL_law_178 : decode cL_law 178 = .ok (.i2l, 1) := dk_133 (dk_at dksL_law_5 10 rfl rfl)
theorem dL_law_179 : decode cL_law 179 = .ok (.ldc2_w 43, 3) := dk_20 0 43 (dk_at dksL_law_5 11 rfl rfl)
theorem dL_law_182 : decode cL_law 182 = .ok (.land, 1) := dk_127 (dk_at dksL_law_5 14 rfl rfl)
theorem dL_law_183 : decode cL_law 183 = .ok (.lor, 1) := dk_129 (dk_at dksL_law_5 15 rfl rfl)
theorem dL_law_184 : decode cL_law 184 = .ok (.invokevirtual 50, 3) := dk_182 0 50 (dk_at dksL_law_5 16 rfl rfl)
theorem dL_law_187 : decode cL_law 187 = .ok (.istore 6, 2) := dk_54 6 (dk_at dksL_law_5 19 rfl rfl)
theorem dL_law_189 : decode cL_law 189 = .ok (.aload_n 2, 1) := dk_44 (dk_at dksL_law_5 21 rfl rfl)
theorem dL_law_190 : decode cL_law 190 = .ok (.invokevirtual 51, 3) := dk_182 0 51 (dk_at dksL_law_6 0 rfl rfl)
theorem dL_law_193 : decode cL_law 193 = .ok (.iload 5, 2) := dk_21 5 (dk_at dksL_law_6 3 rfl rfl)
theorem dL_law_195 : decode cL_law 195 = .ok (.if_icmp .eq 5, 3) := dk_159 0 5 (dk_at dksL_law_6 5 rfl rfl)
theorem dL_law_198 : decode cL_law 198 = .ok (.iconst 0, 1) := dk_3 (dk_at dksL_law_6 8 rfl rfl)
theorem dL_law_199 : decode cL_law 199 = .ok (.ireturn, 1) := dk_172 (dk_at dksL_law_6 9 rfl rfl)
theorem dL_law_200 : decode cL_law 200 = .ok (.iload 5, 2) := dk_21 5 (dk_at dksL_law_6 10 rfl rfl)
theorem dL_law_202 : decode cL_law 202 = .ok (.ifCond .ne 15, 3) := dk_154 0 15 (dk_at dksL_law_6 12 rfl rfl)
theorem dL_law_205 : decode cL_law 205 = .ok (.aload_n 3, 1) := dk_45 (dk_at dksL_law_6 15 rfl rfl)
theorem dL_law_206 : decode cL_law 206 = .ok (.iconst 0, 1) := dk_3 (dk_at dksL_law_6 16 rfl rfl)
theorem dL_law_207 : decode cL_law 207 = .ok (.laload, 1) := dk_47 (dk_at dksL_law_6 17 rfl rfl)
theorem dL_law_208 : decode cL_law 208 = .ok (.iload 6, 2) := dk_21 6 (dk_at dksL_law_6 18 rfl rfl)
theorem dL_law_210 : decode cL_law 210 = .ok (.i2l, 1) := dk_133 (dk_at dksL_law_6 20 rfl rfl)
theorem dL_law_211 : decode cL_law 211 = .ok (.lcmp, 1) := dk_148 (dk_at dksL_law_6 21 rfl rfl)
theorem dL_law_212 : decode cL_law 212 = .ok (.ifCond .eq 5, 3) := dk_153 0 5 (dk_at dksL_law_7 0 rfl rfl)
theorem dL_law_215 : decode cL_law 215 = .ok (.iconst 0, 1) := dk_3 (dk_at dksL_law_7 3 rfl rfl)
theorem dL_law_216 : decode cL_law 216 = .ok (.ireturn, 1) := dk_172 (dk_at dksL_law_7 4 rfl rfl)
theorem dL_law_217 : decode cL_law 217 = .ok (.goto 565, 3) := dk_167 2 53 (dk_at dksL_law_7 5 rfl rfl)
theorem dL_law_220 : decode cL_law 220 = .ok (.aload_n 1, 1) := dk_43 (dk_at dksL_law_7 8 rfl rfl)
theorem dL_law_221 : decode cL_law 221 = .ok (.invokevirtual 55, 3) := dk_182 0 55 (dk_at dksL_law_7 9 rfl rfl)
theorem dL_law_224 : decode cL_law 224 = .ok (.aload_n 2, 1) := dk_44 (dk_at dksL_law_7 12 rfl rfl)
theorem dL_law_225 : decode cL_law 225 = .ok (.invokevirtual 58, 3) := dk_182 0 58 (dk_at dksL_law_7 13 rfl rfl)
theorem dL_law_228 : decode cL_law 228 = .ok (.if_icmp .eq 554, 3) := dk_159 2 42 (dk_at dksL_law_7 16 rfl rfl)
theorem dL_law_231 : decode cL_law 231 = .ok (.iconst 0, 1) := dk_3 (dk_at dksL_law_7 19 rfl rfl)
theorem dL_law_232 : decode cL_law 232 = .ok (.ireturn, 1) := dk_172 (dk_at dksL_law_7 20 rfl rfl)
theorem dL_law_233 : decode cL_law 233 = .ok (.aload_n 1, 1) := dk_43 (dk_at dksL_law_7 21 rfl rfl)
theorem dL_law_234 : decode cL_law 234 = .ok (.invokevirtual 59, 3) := dk_182 0 59 (dk_at dksL_law_8 0 rfl rfl)
theorem dL_law_237 : decode cL_law 237 = .ok (.aload_n 2, 1) := dk_44 (dk_at dksL_law_8 3 rfl rfl)
theorem dL_law_238 : decode cL_law 238 = .ok (.invokevirtual 62, 3) := dk_182 0 62 (dk_at dksL_law_8 4 rfl rfl)
theorem dL_law_241 : decode cL_law 241 = .ok (.if_icmp .eq 541, 3) := dk_159 2 29 (dk_at dksL_law_8 7 rfl rfl)
theorem dL_law_244 : decode cL_law 244 = .ok (.iconst 0, 1) := dk_3 (dk_at dksL_law_8 10 rfl rfl)
theorem dL_law_245 : decode cL_law 245 = .ok (.ireturn, 1) := dk_172 (dk_at dksL_law_8 11 rfl rfl)
theorem dL_law_246 : decode cL_law 246 = .ok (.aload_n 1, 1) := dk_43 (dk_at dksL_law_8 12 rfl rfl)
theorem dL_law_247 : decode cL_law 247 = .ok (.invokevirtual 63, 3) := dk_182 0 63 (dk_at dksL_law_8 13 rfl rfl)
theorem dL_law_250 : decode cL_law 250 = .ok (.aload_n 2, 1) := dk_44 (dk_at dksL_law_8 16 rfl rfl)
theorem dL_law_251 : decode cL_law 251 = .ok (.invokevirtual 66, 3) := dk_182 0 66 (dk_at dksL_law_8 17 rfl rfl)
theorem dL_law_254 : decode cL_law 254 = .ok (.if_icmp .eq 528, 3) := dk_159 2 16 (dk_at dksL_law_8 20 rfl rfl)
theorem dL_law_257 : decode cL_law 257 = .ok (.iconst 0, 1) := dk_3 (dk_at dksL_law_8 23 rfl rfl)
theorem dL_law_258 : decode cL_law 258 = .ok (.ireturn, 1) := dk_172 (dk_at dksL_law_9 0 rfl rfl)
theorem dL_law_259 : decode cL_law 259 = .ok (.aload_n 1, 1) := dk_43 (dk_at dksL_law_9 1 rfl rfl)
theorem dL_law_260 : decode cL_law 260 = .ok (.invokevirtual 67, 3) := dk_182 0 67 (dk_at dksL_law_9 2 rfl rfl)
theorem dL_law_263 : decode cL_law 263 = .ok (.aload_n 2, 1) := dk_44 (dk_at dksL_law_9 5 rfl rfl)
theorem dL_law_264 : decode cL_law 264 = .ok (.invokevirtual 70, 3) := dk_182 0 70 (dk_at dksL_law_9 6 rfl rfl)
theorem dL_law_267 : decode cL_law 267 = .ok (.if_icmp .eq 515, 3) := dk_159 2 3 (dk_at dksL_law_9 9 rfl rfl)
theorem dL_law_270 : decode cL_law 270 = .ok (.iconst 0, 1) := dk_3 (dk_at dksL_law_9 12 rfl rfl)
theorem dL_law_271 : decode cL_law 271 = .ok (.ireturn, 1) := dk_172 (dk_at dksL_law_9 13 rfl rfl)
theorem dL_law_272 : decode cL_law 272 = .ok (.aload_n 1, 1) := dk_43 (dk_at dksL_law_9 14 rfl rfl)
theorem dL_law_273 : decode cL_law 273 = .ok (.invokevirtual 71, 3) := dk_182 0 71 (dk_at dksL_law_9 15 rfl rfl)
theorem dL_law_276 : decode cL_law 276 = .ok (.aload_n 2, 1) := dk_44 (dk_at dksL_law_9 18 rfl rfl)
theorem dL_law_277 : decode cL_law 277 = .ok (.invokevirtual 74, 3) := dk_182 0 74 (dk_at dksL_law_9 19 rfl rfl)
theorem dL_law_280 : decode cL_law 280 = .ok (.if_icmp .eq 502, 3) := dk_159 1 246 (dk_at dksL_law_10 0 rfl rfl)
theorem dL_law_283 : decode cL_law 283 = .ok (.iconst 0, 1) := dk_3 (dk_at dksL_law_10 3 rfl rfl)
theorem dL_law_284 : decode cL_law 284 = .ok (.ireturn, 1) := dk_172 (dk_at dksL_law_10 4 rfl rfl)
theorem dL_law_285 : decode cL_law 285 = .ok (.aload_n 1, 1) := dk_43 (dk_at dksL_law_10 5 rfl rfl)
theorem dL_law_286 : decode cL_law 286 = .ok (.aload_n 0, 1) := dk_42 (dk_at dksL_law_10 6 rfl rfl)
theorem dL_law_287 : decode cL_law 287 = .ok (.iload 4, 2) := dk_21 4 (dk_at dksL_law_10 7 rfl rfl)
theorem dL_law_289 : decode cL_law 289 = .ok (.iconst 1, 1) := dk_4 (dk_at dksL_law_10 9 rfl rfl)
theorem dL_law_290 : decode cL_law 290 = .ok (.iadd, 1) := dk_96 (dk_at dksL_law_10 10 rfl rfl)
theorem dL_law_291 : decode cL_law 291 = .ok (.iaload, 1) := dk_46 (dk_at dksL_law_10 11 rfl rfl)
theorem dL_law_292 : decode cL_law 292 = .ok (.aload_n 0, 1) := dk_42 (dk_at dksL_law_10 12 rfl rfl)
theorem dL_law_293 : decode cL_law 293 = .ok (.iload 4, 2) := dk_21 4 (dk_at dksL_law_10 13 rfl rfl)
theorem dL_law_295 : decode cL_law 295 = .ok (.iconst 2, 1) := dk_5 (dk_at dksL_law_10 15 rfl rfl)
theorem dL_law_296 : decode cL_law 296 = .ok (.iadd, 1) := dk_96 (dk_at dksL_law_10 16 rfl rfl)
theorem dL_law_297 : decode cL_law 297 = .ok (.iaload, 1) := dk_46 (dk_at dksL_law_10 17 rfl rfl)
theorem dL_law_298 : decode cL_law 298 = .ok (.aload_n 0, 1) := dk_42 (dk_at dksL_law_10 18 rfl rfl)
theorem dL_law_299 : decode cL_law 299 = .ok (.iload 4, 2) := dk_21 4 (dk_at dksL_law_10 19 rfl rfl)
theorem dL_law_301 : decode cL_law 301 = .ok (.iconst 3, 1) := dk_6 (dk_at dksL_law_10 21 rfl rfl)
theorem dL_law_302 : decode cL_law 302 = .ok (.iadd, 1) := dk_96 (dk_at dksL_law_10 22 rfl rfl)
theorem dL_law_303 : decode cL_law 303 = .ok (.iaload, 1) := dk_46 (dk_at dksL_law_10 23 rfl rfl)
theorem dL_law_304 : decode cL_law 304 = .ok (.aload_n 0, 1) := dk_42 (dk_at dksL_law_11 0 rfl rfl)
theorem dL_law_305 : decode cL_law 305 = .ok (.iload 4, 2) := dk_21 4 (dk_at dksL_law_11 1 rfl rfl)
theorem dL_law_307 : decode cL_law 307 = .ok (.iconst 4, 1) := dk_7 (dk_at dksL_law_11 3 rfl rfl)
theorem dL_law_308 : decode cL_law 308 = .ok (.iadd, 1) := dk_96 (dk_at dksL_law_11 4 rfl rfl)
theorem dL_law_309 : decode cL_law 309 = .ok (.iaload, 1) := dk_46 (dk_at dksL_law_11 5 rfl rfl)
theorem dL_law_310 : decode cL_law 310 = .ok (.aload_n 3, 1) := dk_45 (dk_at dksL_law_11 6 rfl rfl)
theorem dL_law_311 : decode cL_law 311 = .ok (.invokestatic 75, 3) := dk_184 0 75 (dk_at dksL_law_11 7 rfl rfl)
theorem dL_law_314 : decode cL_law 314 = .ok (.istore 5, 2) := dk_54 5 (dk_at dksL_law_11 10 rfl rfl)
theorem dL_law_316 : decode cL_law 316 = .ok (.aload_n 2, 1) := dk_44 (dk_at dksL_law_11 12 rfl rfl)
theorem dL_law_317 : decode cL_law 317 = .ok (.aload_n 0, 1) := dk_42 (dk_at dksL_law_11 13 rfl rfl)
theorem dL_law_318 : decode cL_law 318 = .ok (.iload 4, 2) := dk_21 4 (dk_at dksL_law_11 14 rfl rfl)
theorem dL_law_320 : decode cL_law 320 = .ok (.iconst 1, 1) := dk_4 (dk_at dksL_law_11 16 rfl rfl)
theorem dL_law_321 : decode cL_law 321 = .ok (.iadd, 1) := dk_96 (dk_at dksL_law_11 17 rfl rfl)
theorem dL_law_322 : decode cL_law 322 = .ok (.iaload, 1) := dk_46 (dk_at dksL_law_11 18 rfl rfl)
theorem dL_law_323 : decode cL_law 323 = .ok (.aload_n 0, 1) := dk_42 (dk_at dksL_law_11 19 rfl rfl)
theorem dL_law_324 : decode cL_law 324 = .ok (.iload 4, 2) := dk_21 4 (dk_at dksL_law_11 20 rfl rfl)
theorem dL_law_326 : decode cL_law 326 = .ok (.iconst 2, 1) := dk_5 (dk_at dksL_law_11 22 rfl rfl)
theorem dL_law_327 : decode cL_law 327 = .ok (.iadd, 1) := dk_96 (dk_at dksL_law_11 23 rfl rfl)
theorem dL_law_328 : decode cL_law 328 = .ok (.iaload, 1) := dk_46 (dk_at dksL_law_12 0 rfl rfl)
theorem dL_law_329 : decode cL_law 329 = .ok (.aload_n 0, 1) := dk_42 (dk_at dksL_law_12 1 rfl rfl)
theorem dL_law_330 : decode cL_law 330 = .ok (.iload 4, 2) := dk_21 4 (dk_at dksL_law_12 2 rfl rfl)
theorem dL_law_332 : decode cL_law 332 = .ok (.iconst 3, 1) := dk_6 (dk_at dksL_law_12 4 rfl rfl)
theorem dL_law_333 : decode cL_law 333 = .ok (.iadd, 1) := dk_96 (dk_at dksL_law_12 5 rfl rfl)
theorem dL_law_334 : decode cL_law 334 = .ok (.iaload, 1) := dk_46 (dk_at dksL_law_12 6 rfl rfl)
theorem dL_law_335 : decode cL_law 335 = .ok (.aload_n 0, 1) := dk_42 (dk_at dksL_law_12 7 rfl rfl)
theorem dL_law_336 : decode cL_law 336 = .ok (.iload 4, 2) := dk_21 4 (dk_at dksL_law_12 8 rfl rfl)
theorem dL_law_338 : decode cL_law 338 = .ok (.iconst 4, 1) := dk_7 (dk_at dksL_law_12 10 rfl rfl)
theorem dL_law_339 : decode cL_law 339 = .ok (.iadd, 1) := dk_96 (dk_at dksL_law_12 11 rfl rfl)
theorem dL_law_340 : decode cL_law 340 = .ok (.iaload, 1) := dk_46 (dk_at dksL_law_12 12 rfl rfl)
theorem dL_law_341 : decode cL_law 341 = .ok (.invokevirtual 78, 3) := dk_182 0 78 (dk_at dksL_law_12 13 rfl rfl)
theorem dL_law_344 : decode cL_law 344 = .ok (.istore 6, 2) := dk_54 6 (dk_at dksL_law_12 16 rfl rfl)
theorem dL_law_346 : decode cL_law 346 = .ok (.aload_n 2, 1) := dk_44 (dk_at dksL_law_12 18 rfl rfl)
theorem dL_law_347 : decode cL_law 347 = .ok (.invokevirtual 51, 3) := dk_182 0 51 (dk_at dksL_law_12 19 rfl rfl)
theorem dL_law_350 : decode cL_law 350 = .ok (.iload 5, 2) := dk_21 5 (dk_at dksL_law_12 22 rfl rfl)
theorem dL_law_352 : decode cL_law 352 = .ok (.if_icmp .eq 5, 3) := dk_159 0 5 (dk_at dksL_law_13 0 rfl rfl)
theorem dL_law_355 : decode cL_law 355 = .ok (.iconst 0, 1) := dk_3 (dk_at dksL_law_13 3 rfl rfl)
theorem dL_law_356 : decode cL_law 356 = .ok (.ireturn, 1) := dk_172 (dk_at dksL_law_13 4 rfl rfl)
theorem dL_law_357 : decode cL_law 357 = .ok (.iload 5, 2) := dk_21 5 (dk_at dksL_law_13 5 rfl rfl)
theorem dL_law_359 : decode cL_law 359 = .ok (.ifCond .ne 15, 3) := dk_154 0 15 (dk_at dksL_law_13 7 rfl rfl)
theorem dL_law_362 : decode cL_law 362 = .ok (.aload_n 3, 1) := dk_45 (dk_at dksL_law_13 10 rfl rfl)
theorem dL_law_363 : decode cL_law 363 = .ok (.iconst 0, 1) := dk_3 (dk_at dksL_law_13 11 rfl rfl)
theorem dL_law_364 : decode cL_law 364 = .ok (.laload, 1) := dk_47 (dk_at dksL_law_13 12 rfl rfl)
theorem dL_law_365 : decode cL_law 365 = .ok (.iload 6, 2) := dk_21 6 (dk_at dksL_law_13 13 rfl rfl)
theorem dL_law_367 : decode cL_law 367 = .ok (.i2l, 1) := dk_133 (dk_at dksL_law_13 15 rfl rfl)
theorem dL_law_368 : decode cL_law 368 = .ok (.lcmp, 1) := dk_148 (dk_at dksL_law_13 16 rfl rfl)
theorem dL_law_369 : decode cL_law 369 = .ok (.ifCond .eq 5, 3) := dk_153 0 5 (dk_at dksL_law_13 17 rfl rfl)
theorem dL_law_372 : decode cL_law 372 = .ok (.iconst 0, 1) := dk_3 (dk_at dksL_law_13 20 rfl rfl)
theorem dL_law_373 : decode cL_law 373 = .ok (.ireturn, 1) := dk_172 (dk_at dksL_law_13 21 rfl rfl)
theorem dL_law_374 : decode cL_law 374 = .ok (.goto 408, 3) := dk_167 1 152 (dk_at dksL_law_14 0 rfl rfl)
theorem dL_law_377 : decode cL_law 377 = .ok (.aload_n 1, 1) := dk_43 (dk_at dksL_law_14 3 rfl rfl)
theorem dL_law_378 : decode cL_law 378 = .ok (.invokevirtual 79, 3) := dk_182 0 79 (dk_at dksL_law_14 4 rfl rfl)
theorem dL_law_381 : decode cL_law 381 = .ok (.aload_n 2, 1) := dk_44 (dk_at dksL_law_14 7 rfl rfl)
theorem dL_law_382 : decode cL_law 382 = .ok (.invokevirtual 82, 3) := dk_182 0 82 (dk_at dksL_law_14 8 rfl rfl)
theorem dL_law_385 : decode cL_law 385 = .ok (.if_icmp .eq 397, 3) := dk_159 1 141 (dk_at dksL_law_14 11 rfl rfl)
theorem dL_law_388 : decode cL_law 388 = .ok (.iconst 0, 1) := dk_3 (dk_at dksL_law_14 14 rfl rfl)
theorem dL_law_389 : decode cL_law 389 = .ok (.ireturn, 1) := dk_172 (dk_at dksL_law_14 15 rfl rfl)
theorem dL_law_390 : decode cL_law 390 = .ok (.aload_n 1, 1) := dk_43 (dk_at dksL_law_14 16 rfl rfl)
theorem dL_law_391 : decode cL_law 391 = .ok (.invokevirtual 83, 3) := dk_182 0 83 (dk_at dksL_law_14 17 rfl rfl)
theorem dL_law_394 : decode cL_law 394 = .ok (.aload_n 2, 1) := dk_44 (dk_at dksL_law_14 20 rfl rfl)
theorem dL_law_395 : decode cL_law 395 = .ok (.invokevirtual 86, 3) := dk_182 0 86 (dk_at dksL_law_14 21 rfl rfl)
theorem dL_law_398 : decode cL_law 398 = .ok (.if_icmp .eq 384, 3) := dk_159 1 128 (dk_at dksL_law_15 0 rfl rfl)
theorem dL_law_401 : decode cL_law 401 = .ok (.iconst 0, 1) := dk_3 (dk_at dksL_law_15 3 rfl rfl)
theorem dL_law_402 : decode cL_law 402 = .ok (.ireturn, 1) := dk_172 (dk_at dksL_law_15 4 rfl rfl)
theorem dL_law_403 : decode cL_law 403 = .ok (.aload_n 1, 1) := dk_43 (dk_at dksL_law_15 5 rfl rfl)
theorem dL_law_404 : decode cL_law 404 = .ok (.invokevirtual 87, 3) := dk_182 0 87 (dk_at dksL_law_15 6 rfl rfl)
theorem dL_law_407 : decode cL_law 407 = .ok (.aload_n 2, 1) := dk_44 (dk_at dksL_law_15 9 rfl rfl)
theorem dL_law_408 : decode cL_law 408 = .ok (.invokevirtual 90, 3) := dk_182 0 90 (dk_at dksL_law_15 10 rfl rfl)
theorem dL_law_411 : decode cL_law 411 = .ok (.if_icmp .eq 371, 3) := dk_159 1 115 (dk_at dksL_law_15 13 rfl rfl)
theorem dL_law_414 : decode cL_law 414 = .ok (.iconst 0, 1) := dk_3 (dk_at dksL_law_15 16 rfl rfl)
theorem dL_law_415 : decode cL_law 415 = .ok (.ireturn, 1) := dk_172 (dk_at dksL_law_15 17 rfl rfl)
theorem dL_law_416 : decode cL_law 416 = .ok (.aload_n 1, 1) := dk_43 (dk_at dksL_law_15 18 rfl rfl)
theorem dL_law_417 : decode cL_law 417 = .ok (.aload_n 0, 1) := dk_42 (dk_at dksL_law_15 19 rfl rfl)
theorem dL_law_418 : decode cL_law 418 = .ok (.iload 4, 2) := dk_21 4 (dk_at dksL_law_15 20 rfl rfl)
theorem dL_law_420 : decode cL_law 420 = .ok (.iconst 1, 1) := dk_4 (dk_at dksL_law_15 22 rfl rfl)
theorem dL_law_421 : decode cL_law 421 = .ok (.iadd, 1) := dk_96 (dk_at dksL_law_15 23 rfl rfl)
theorem dL_law_422 : decode cL_law 422 = .ok (.iaload, 1) := dk_46 (dk_at dksL_law_16 0 rfl rfl)
theorem dL_law_423 : decode cL_law 423 = .ok (.aload_n 0, 1) := dk_42 (dk_at dksL_law_16 1 rfl rfl)
theorem dL_law_424 : decode cL_law 424 = .ok (.iload 4, 2) := dk_21 4 (dk_at dksL_law_16 2 rfl rfl)
theorem dL_law_426 : decode cL_law 426 = .ok (.iconst 2, 1) := dk_5 (dk_at dksL_law_16 4 rfl rfl)
theorem dL_law_427 : decode cL_law 427 = .ok (.iadd, 1) := dk_96 (dk_at dksL_law_16 5 rfl rfl)
theorem dL_law_428 : decode cL_law 428 = .ok (.iaload, 1) := dk_46 (dk_at dksL_law_16 6 rfl rfl)
theorem dL_law_429 : decode cL_law 429 = .ok (.aload_n 3, 1) := dk_45 (dk_at dksL_law_16 7 rfl rfl)
theorem dL_law_430 : decode cL_law 430 = .ok (.invokestatic 91, 3) := dk_184 0 91 (dk_at dksL_law_16 8 rfl rfl)
theorem dL_law_433 : decode cL_law 433 = .ok (.istore 5, 2) := dk_54 5 (dk_at dksL_law_16 11 rfl rfl)
theorem dL_law_435 : decode cL_law 435 = .ok (.aload_n 2, 1) := dk_44 (dk_at dksL_law_16 13 rfl rfl)
theorem dL_law_436 : decode cL_law 436 = .ok (.aload_n 0, 1) := dk_42 (dk_at dksL_law_16 14 rfl rfl)
theorem dL_law_437 : decode cL_law 437 = .ok (.iload 4, 2) := dk_21 4 (dk_at dksL_law_16 15 rfl rfl)
theorem dL_law_439 : decode cL_law 439 = .ok (.iconst 1, 1) := dk_4 (dk_at dksL_law_16 17 rfl rfl)
theorem dL_law_440 : decode cL_law 440 = .ok (.iadd, 1) := dk_96 (dk_at dksL_law_16 18 rfl rfl)
theorem dL_law_441 : decode cL_law 441 = .ok (.iaload, 1) := dk_46 (dk_at dksL_law_16 19 rfl rfl)
theorem dL_law_442 : decode cL_law 442 = .ok (.aload_n 0, 1) := dk_42 (dk_at dksL_law_16 20 rfl rfl)
theorem dL_law_443 : decode cL_law 443 = .ok (.iload 4, 2) := dk_21 4 (dk_at dksL_law_16 21 rfl rfl)
theorem dL_law_445 : decode cL_law 445 = .ok (.iconst 2, 1) := dk_5 (dk_at dksL_law_16 23 rfl rfl)
theorem dL_law_446 : decode cL_law 446 = .ok (.iadd, 1) := dk_96 (dk_at dksL_law_17 0 rfl rfl)
theorem dL_law_447 : decode cL_law 447 = .ok (.iaload, 1) := dk_46 (dk_at dksL_law_17 1 rfl rfl)
theorem dL_law_448 : decode cL_law 448 = .ok (.invokevirtual 94, 3) := dk_182 0 94 (dk_at dksL_law_17 2 rfl rfl)
theorem dL_law_451 : decode cL_law 451 = .ok (.istore 6, 2) := dk_54 6 (dk_at dksL_law_17 5 rfl rfl)
theorem dL_law_453 : decode cL_law 453 = .ok (.aload_n 2, 1) := dk_44 (dk_at dksL_law_17 7 rfl rfl)
theorem dL_law_454 : decode cL_law 454 = .ok (.invokevirtual 51, 3) := dk_182 0 51 (dk_at dksL_law_17 8 rfl rfl)
theorem dL_law_457 : decode cL_law 457 = .ok (.iload 5, 2) := dk_21 5 (dk_at dksL_law_17 11 rfl rfl)
theorem dL_law_459 : decode cL_law 459 = .ok (.if_icmp .eq 5, 3) := dk_159 0 5 (dk_at dksL_law_17 13 rfl rfl)
theorem dL_law_462 : decode cL_law 462 = .ok (.iconst 0, 1) := dk_3 (dk_at dksL_law_17 16 rfl rfl)
theorem dL_law_463 : decode cL_law 463 = .ok (.ireturn, 1) := dk_172 (dk_at dksL_law_17 17 rfl rfl)
theorem dL_law_464 : decode cL_law 464 = .ok (.iload 5, 2) := dk_21 5 (dk_at dksL_law_17 18 rfl rfl)
theorem dL_law_466 : decode cL_law 466 = .ok (.ifCond .ne 15, 3) := dk_154 0 15 (dk_at dksL_law_17 20 rfl rfl)
theorem dL_law_469 : decode cL_law 469 = .ok (.aload_n 3, 1) := dk_45 (dk_at dksL_law_17 23 rfl rfl)
theorem dL_law_470 : decode cL_law 470 = .ok (.iconst 0, 1) := dk_3 (dk_at dksL_law_18 0 rfl rfl)
theorem dL_law_471 : decode cL_law 471 = .ok (.laload, 1) := dk_47 (dk_at dksL_law_18 1 rfl rfl)
theorem dL_law_472 : decode cL_law 472 = .ok (.iload 6, 2) := dk_21 6 (dk_at dksL_law_18 2 rfl rfl)
theorem dL_law_474 : decode cL_law 474 = .ok (.i2l, 1) := dk_133 (dk_at dksL_law_18 4 rfl rfl)
theorem dL_law_475 : decode cL_law 475 = .ok (.lcmp, 1) := dk_148 (dk_at dksL_law_18 5 rfl rfl)
theorem dL_law_476 : decode cL_law 476 = .ok (.ifCond .eq 5, 3) := dk_153 0 5 (dk_at dksL_law_18 6 rfl rfl)
theorem dL_law_479 : decode cL_law 479 = .ok (.iconst 0, 1) := dk_3 (dk_at dksL_law_18 9 rfl rfl)
theorem dL_law_480 : decode cL_law 480 = .ok (.ireturn, 1) := dk_172 (dk_at dksL_law_18 10 rfl rfl)
theorem dL_law_481 : decode cL_law 481 = .ok (.goto 301, 3) := dk_167 1 45 (dk_at dksL_law_18 11 rfl rfl)
theorem dL_law_484 : decode cL_law 484 = .ok (.aload_n 1, 1) := dk_43 (dk_at dksL_law_18 14 rfl rfl)
theorem dL_law_485 : decode cL_law 485 = .ok (.invokevirtual 95, 3) := dk_182 0 95 (dk_at dksL_law_18 15 rfl rfl)
theorem dL_law_488 : decode cL_law 488 = .ok (.aload_n 2, 1) := dk_44 (dk_at dksL_law_18 18 rfl rfl)
theorem dL_law_489 : decode cL_law 489 = .ok (.invokevirtual 98, 3) := dk_182 0 98 (dk_at dksL_law_18 19 rfl rfl)
theorem dL_law_492 : decode cL_law 492 = .ok (.if_icmp .eq 290, 3) := dk_159 1 34 (dk_at dksL_law_19 0 rfl rfl)
theorem dL_law_495 : decode cL_law 495 = .ok (.iconst 0, 1) := dk_3 (dk_at dksL_law_19 3 rfl rfl)
theorem dL_law_496 : decode cL_law 496 = .ok (.ireturn, 1) := dk_172 (dk_at dksL_law_19 4 rfl rfl)
theorem dL_law_497 : decode cL_law 497 = .ok (.aload_n 1, 1) := dk_43 (dk_at dksL_law_19 5 rfl rfl)
theorem dL_law_498 : decode cL_law 498 = .ok (.aload_n 0, 1) := dk_42 (dk_at dksL_law_19 6 rfl rfl)
theorem dL_law_499 : decode cL_law 499 = .ok (.iload 4, 2) := dk_21 4 (dk_at dksL_law_19 7 rfl rfl)
theorem dL_law_501 : decode cL_law 501 = .ok (.iconst 1, 1) := dk_4 (dk_at dksL_law_19 9 rfl rfl)
theorem dL_law_502 : decode cL_law 502 = .ok (.iadd, 1) := dk_96 (dk_at dksL_law_19 10 rfl rfl)
theorem dL_law_503 : decode cL_law 503 = .ok (.iaload, 1) := dk_46 (dk_at dksL_law_19 11 rfl rfl)
theorem dL_law_504 : decode cL_law 504 = .ok (.aload_n 0, 1) := dk_42 (dk_at dksL_law_19 12 rfl rfl)
theorem dL_law_505 : decode cL_law 505 = .ok (.iload 4, 2) := dk_21 4 (dk_at dksL_law_19 13 rfl rfl)
theorem dL_law_507 : decode cL_law 507 = .ok (.iconst 2, 1) := dk_5 (dk_at dksL_law_19 15 rfl rfl)
theorem dL_law_508 : decode cL_law 508 = .ok (.iadd, 1) := dk_96 (dk_at dksL_law_19 16 rfl rfl)
theorem dL_law_509 : decode cL_law 509 = .ok (.iaload, 1) := dk_46 (dk_at dksL_law_19 17 rfl rfl)
theorem dL_law_510 : decode cL_law 510 = .ok (.aload_n 3, 1) := dk_45 (dk_at dksL_law_19 18 rfl rfl)
theorem dL_law_511 : decode cL_law 511 = .ok (.invokestatic 99, 3) := dk_184 0 99 (dk_at dksL_law_19 19 rfl rfl)
theorem dL_law_514 : decode cL_law 514 = .ok (.istore 5, 2) := dk_54 5 (dk_at dksL_law_19 22 rfl rfl)
theorem dL_law_516 : decode cL_law 516 = .ok (.aload_n 2, 1) := dk_44 (dk_at dksL_law_20 0 rfl rfl)
theorem dL_law_517 : decode cL_law 517 = .ok (.aload_n 0, 1) := dk_42 (dk_at dksL_law_20 1 rfl rfl)
theorem dL_law_518 : decode cL_law 518 = .ok (.iload 4, 2) := dk_21 4 (dk_at dksL_law_20 2 rfl rfl)
theorem dL_law_520 : decode cL_law 520 = .ok (.iconst 1, 1) := dk_4 (dk_at dksL_law_20 4 rfl rfl)
theorem dL_law_521 : decode cL_law 521 = .ok (.iadd, 1) := dk_96 (dk_at dksL_law_20 5 rfl rfl)
theorem dL_law_522 : decode cL_law 522 = .ok (.iaload, 1) := dk_46 (dk_at dksL_law_20 6 rfl rfl)
theorem dL_law_523 : decode cL_law 523 = .ok (.aload_n 0, 1) := dk_42 (dk_at dksL_law_20 7 rfl rfl)
theorem dL_law_524 : decode cL_law 524 = .ok (.iload 4, 2) := dk_21 4 (dk_at dksL_law_20 8 rfl rfl)
theorem dL_law_526 : decode cL_law 526 = .ok (.iconst 2, 1) := dk_5 (dk_at dksL_law_20 10 rfl rfl)
theorem dL_law_527 : decode cL_law 527 = .ok (.iadd, 1) := dk_96 (dk_at dksL_law_20 11 rfl rfl)
theorem dL_law_528 : decode cL_law 528 = .ok (.iaload, 1) := dk_46 (dk_at dksL_law_20 12 rfl rfl)
theorem dL_law_529 : decode cL_law 529 = .ok (.invokevirtual 101, 3) := dk_182 0 101 (dk_at dksL_law_20 13 rfl rfl)
theorem dL_law_532 : decode cL_law 532 = .ok (.istore 6, 2) := dk_54 6 (dk_at dksL_law_20 16 rfl rfl)
theorem dL_law_534 : decode cL_law 534 = .ok (.aload_n 2, 1) := dk_44 (dk_at dksL_law_20 18 rfl rfl)
theorem dL_law_535 : decode cL_law 535 = .ok (.invokevirtual 51, 3) := dk_182 0 51 (dk_at dksL_law_20 19 rfl rfl)
theorem dL_law_538 : decode cL_law 538 = .ok (.iload 5, 2) := dk_21 5 (dk_at dksL_law_20 22 rfl rfl)
theorem dL_law_540 : decode cL_law 540 = .ok (.if_icmp .eq 5, 3) := dk_159 0 5 (dk_at dksL_law_21 0 rfl rfl)
theorem dL_law_543 : decode cL_law 543 = .ok (.iconst 0, 1) := dk_3 (dk_at dksL_law_21 3 rfl rfl)
theorem dL_law_544 : decode cL_law 544 = .ok (.ireturn, 1) := dk_172 (dk_at dksL_law_21 4 rfl rfl)
theorem dL_law_545 : decode cL_law 545 = .ok (.iload 5, 2) := dk_21 5 (dk_at dksL_law_21 5 rfl rfl)
theorem dL_law_547 : decode cL_law 547 = .ok (.ifCond .ne 15, 3) := dk_154 0 15 (dk_at dksL_law_21 7 rfl rfl)
theorem dL_law_550 : decode cL_law 550 = .ok (.aload_n 3, 1) := dk_45 (dk_at dksL_law_21 10 rfl rfl)
theorem dL_law_551 : decode cL_law 551 = .ok (.iconst 0, 1) := dk_3 (dk_at dksL_law_21 11 rfl rfl)
theorem dL_law_552 : decode cL_law 552 = .ok (.laload, 1) := dk_47 (dk_at dksL_law_21 12 rfl rfl)
theorem dL_law_553 : decode cL_law 553 = .ok (.iload 6, 2) := dk_21 6 (dk_at dksL_law_21 13 rfl rfl)
theorem dL_law_555 : decode cL_law 555 = .ok (.i2l, 1) := dk_133 (dk_at dksL_law_21 15 rfl rfl)
theorem dL_law_556 : decode cL_law 556 = .ok (.lcmp, 1) := dk_148 (dk_at dksL_law_21 16 rfl rfl)
theorem dL_law_557 : decode cL_law 557 = .ok (.ifCond .eq 5, 3) := dk_153 0 5 (dk_at dksL_law_21 17 rfl rfl)
theorem dL_law_560 : decode cL_law 560 = .ok (.iconst 0, 1) := dk_3 (dk_at dksL_law_21 20 rfl rfl)
theorem dL_law_561 : decode cL_law 561 = .ok (.ireturn, 1) := dk_172 (dk_at dksL_law_21 21 rfl rfl)
theorem dL_law_562 : decode cL_law 562 = .ok (.goto 220, 3) := dk_167 0 220 (dk_at dksL_law_22 0 rfl rfl)
theorem dL_law_565 : decode cL_law 565 = .ok (.aload_n 1, 1) := dk_43 (dk_at dksL_law_22 3 rfl rfl)
theorem dL_law_566 : decode cL_law 566 = .ok (.aload_n 0, 1) := dk_42 (dk_at dksL_law_22 4 rfl rfl)
theorem dL_law_567 : decode cL_law 567 = .ok (.iload 4, 2) := dk_21 4 (dk_at dksL_law_22 5 rfl rfl)
theorem dL_law_569 : decode cL_law 569 = .ok (.iconst 1, 1) := dk_4 (dk_at dksL_law_22 7 rfl rfl)
theorem dL_law_570 : decode cL_law 570 = .ok (.iadd, 1) := dk_96 (dk_at dksL_law_22 8 rfl rfl)
theorem dL_law_571 : decode cL_law 571 = .ok (.iaload, 1) := dk_46 (dk_at dksL_law_22 9 rfl rfl)
theorem dL_law_572 : decode cL_law 572 = .ok (.aload_n 0, 1) := dk_42 (dk_at dksL_law_22 10 rfl rfl)
theorem dL_law_573 : decode cL_law 573 = .ok (.iload 4, 2) := dk_21 4 (dk_at dksL_law_22 11 rfl rfl)
theorem dL_law_575 : decode cL_law 575 = .ok (.iconst 2, 1) := dk_5 (dk_at dksL_law_22 13 rfl rfl)
theorem dL_law_576 : decode cL_law 576 = .ok (.iadd, 1) := dk_96 (dk_at dksL_law_22 14 rfl rfl)
theorem dL_law_577 : decode cL_law 577 = .ok (.iaload, 1) := dk_46 (dk_at dksL_law_22 15 rfl rfl)
theorem dL_law_578 : decode cL_law 578 = .ok (.aload_n 0, 1) := dk_42 (dk_at dksL_law_22 16 rfl rfl)
theorem dL_law_579 : decode cL_law 579 = .ok (.iload 4, 2) := dk_21 4 (dk_at dksL_law_22 17 rfl rfl)
theorem dL_law_581 : decode cL_law 581 = .ok (.iconst 3, 1) := dk_6 (dk_at dksL_law_22 19 rfl rfl)
theorem dL_law_582 : decode cL_law 582 = .ok (.iadd, 1) := dk_96 (dk_at dksL_law_22 20 rfl rfl)
theorem dL_law_583 : decode cL_law 583 = .ok (.iaload, 1) := dk_46 (dk_at dksL_law_22 21 rfl rfl)
theorem dL_law_584 : decode cL_law 584 = .ok (.aload_n 3, 1) := dk_45 (dk_at dksL_law_22 22 rfl rfl)
theorem dL_law_585 : decode cL_law 585 = .ok (.invokestatic 102, 3) := dk_184 0 102 (dk_at dksL_law_23 0 rfl rfl)
theorem dL_law_588 : decode cL_law 588 = .ok (.istore 5, 2) := dk_54 5 (dk_at dksL_law_23 3 rfl rfl)
theorem dL_law_590 : decode cL_law 590 = .ok (.aload_n 2, 1) := dk_44 (dk_at dksL_law_23 5 rfl rfl)
theorem dL_law_591 : decode cL_law 591 = .ok (.aload_n 0, 1) := dk_42 (dk_at dksL_law_23 6 rfl rfl)
theorem dL_law_592 : decode cL_law 592 = .ok (.iload 4, 2) := dk_21 4 (dk_at dksL_law_23 7 rfl rfl)
theorem dL_law_594 : decode cL_law 594 = .ok (.iconst 1, 1) := dk_4 (dk_at dksL_law_23 9 rfl rfl)
theorem dL_law_595 : decode cL_law 595 = .ok (.iadd, 1) := dk_96 (dk_at dksL_law_23 10 rfl rfl)
theorem dL_law_596 : decode cL_law 596 = .ok (.iaload, 1) := dk_46 (dk_at dksL_law_23 11 rfl rfl)
theorem dL_law_597 : decode cL_law 597 = .ok (.aload_n 0, 1) := dk_42 (dk_at dksL_law_23 12 rfl rfl)
theorem dL_law_598 : decode cL_law 598 = .ok (.iload 4, 2) := dk_21 4 (dk_at dksL_law_23 13 rfl rfl)
theorem dL_law_600 : decode cL_law 600 = .ok (.iconst 2, 1) := dk_5 (dk_at dksL_law_23 15 rfl rfl)
theorem dL_law_601 : decode cL_law 601 = .ok (.iadd, 1) := dk_96 (dk_at dksL_law_23 16 rfl rfl)
theorem dL_law_602 : decode cL_law 602 = .ok (.iaload, 1) := dk_46 (dk_at dksL_law_23 17 rfl rfl)
theorem dL_law_603 : decode cL_law 603 = .ok (.aload_n 0, 1) := dk_42 (dk_at dksL_law_23 18 rfl rfl)
theorem dL_law_604 : decode cL_law 604 = .ok (.iload 4, 2) := dk_21 4 (dk_at dksL_law_23 19 rfl rfl)
theorem dL_law_606 : decode cL_law 606 = .ok (.iconst 3, 1) := dk_6 (dk_at dksL_law_23 21 rfl rfl)
theorem dL_law_607 : decode cL_law 607 = .ok (.iadd, 1) := dk_96 (dk_at dksL_law_23 22 rfl rfl)
theorem dL_law_608 : decode cL_law 608 = .ok (.iaload, 1) := dk_46 (dk_at dksL_law_23 23 rfl rfl)
theorem dL_law_609 : decode cL_law 609 = .ok (.invokevirtual 105, 3) := dk_182 0 105 (dk_at dksL_law_24 0 rfl rfl)
theorem dL_law_612 : decode cL_law 612 = .ok (.istore 6, 2) := dk_54 6 (dk_at dksL_law_24 3 rfl rfl)
theorem dL_law_614 : decode cL_law 614 = .ok (.aload_n 2, 1) := dk_44 (dk_at dksL_law_24 5 rfl rfl)
theorem dL_law_615 : decode cL_law 615 = .ok (.invokevirtual 51, 3) := dk_182 0 51 (dk_at dksL_law_24 6 rfl rfl)
theorem dL_law_618 : decode cL_law 618 = .ok (.iload 5, 2) := dk_21 5 (dk_at dksL_law_24 9 rfl rfl)
theorem dL_law_620 : decode cL_law 620 = .ok (.if_icmp .eq 5, 3) := dk_159 0 5 (dk_at dksL_law_24 11 rfl rfl)
theorem dL_law_623 : decode cL_law 623 = .ok (.iconst 0, 1) := dk_3 (dk_at dksL_law_24 14 rfl rfl)
theorem dL_law_624 : decode cL_law 624 = .ok (.ireturn, 1) := dk_172 (dk_at dksL_law_24 15 rfl rfl)
theorem dL_law_625 : decode cL_law 625 = .ok (.iload 5, 2) := dk_21 5 (dk_at dksL_law_24 16 rfl rfl)
theorem dL_law_627 : decode cL_law 627 = .ok (.ifCond .ne 15, 3) := dk_154 0 15 (dk_at dksL_law_24 18 rfl rfl)
theorem dL_law_630 : decode cL_law 630 = .ok (.aload_n 3, 1) := dk_45 (dk_at dksL_law_24 21 rfl rfl)
theorem dL_law_631 : decode cL_law 631 = .ok (.iconst 0, 1) := dk_3 (dk_at dksL_law_24 22 rfl rfl)
theorem dL_law_632 : decode cL_law 632 = .ok (.laload, 1) := dk_47 (dk_at dksL_law_24 23 rfl rfl)
theorem dL_law_633 : decode cL_law 633 = .ok (.iload 6, 2) := dk_21 6 (dk_at dksL_law_25 0 rfl rfl)
theorem dL_law_635 : decode cL_law 635 = .ok (.i2l, 1) := dk_133 (dk_at dksL_law_25 2 rfl rfl)
theorem dL_law_636 : decode cL_law 636 = .ok (.lcmp, 1) := dk_148 (dk_at dksL_law_25 3 rfl rfl)
theorem dL_law_637 : decode cL_law 637 = .ok (.ifCond .eq 5, 3) := dk_153 0 5 (dk_at dksL_law_25 4 rfl rfl)
theorem dL_law_640 : decode cL_law 640 = .ok (.iconst 0, 1) := dk_3 (dk_at dksL_law_25 7 rfl rfl)
theorem dL_law_641 : decode cL_law 641 = .ok (.ireturn, 1) := dk_172 (dk_at dksL_law_25 8 rfl rfl)
theorem dL_law_642 : decode cL_law 642 = .ok (.goto 140, 3) := dk_167 0 140 (dk_at dksL_law_25 9 rfl rfl)
theorem dL_law_645 : decode cL_law 645 = .ok (.aload_n 1, 1) := dk_43 (dk_at dksL_law_25 12 rfl rfl)
theorem dL_law_646 : decode cL_law 646 = .ok (.invokevirtual 106, 3) := dk_182 0 106 (dk_at dksL_law_25 13 rfl rfl)
theorem dL_law_649 : decode cL_law 649 = .ok (.aload_n 2, 1) := dk_44 (dk_at dksL_law_25 16 rfl rfl)
theorem dL_law_650 : decode cL_law 650 = .ok (.invokevirtual 109, 3) := dk_182 0 109 (dk_at dksL_law_25 17 rfl rfl)
theorem dL_law_653 : decode cL_law 653 = .ok (.if_icmp .eq 129, 3) := dk_159 0 129 (dk_at dksL_law_25 20 rfl rfl)
theorem dL_law_656 : decode cL_law 656 = .ok (.iconst 0, 1) := dk_3 (dk_at dksL_law_25 23 rfl rfl)
theorem dL_law_657 : decode cL_law 657 = .ok (.ireturn, 1) := dk_172 (dk_at dksL_law_26 0 rfl rfl)
theorem dL_law_658 : decode cL_law 658 = .ok (.aload_n 1, 1) := dk_43 (dk_at dksL_law_26 1 rfl rfl)
theorem dL_law_659 : decode cL_law 659 = .ok (.aload_n 0, 1) := dk_42 (dk_at dksL_law_26 2 rfl rfl)
theorem dL_law_660 : decode cL_law 660 = .ok (.iload 4, 2) := dk_21 4 (dk_at dksL_law_26 3 rfl rfl)
theorem dL_law_662 : decode cL_law 662 = .ok (.iconst 1, 1) := dk_4 (dk_at dksL_law_26 5 rfl rfl)
theorem dL_law_663 : decode cL_law 663 = .ok (.iadd, 1) := dk_96 (dk_at dksL_law_26 6 rfl rfl)
theorem dL_law_664 : decode cL_law 664 = .ok (.iaload, 1) := dk_46 (dk_at dksL_law_26 7 rfl rfl)
theorem dL_law_665 : decode cL_law 665 = .ok (.aload_n 0, 1) := dk_42 (dk_at dksL_law_26 8 rfl rfl)
theorem dL_law_666 : decode cL_law 666 = .ok (.iload 4, 2) := dk_21 4 (dk_at dksL_law_26 9 rfl rfl)
theorem dL_law_668 : decode cL_law 668 = .ok (.iconst 2, 1) := dk_5 (dk_at dksL_law_26 11 rfl rfl)
theorem dL_law_669 : decode cL_law 669 = .ok (.iadd, 1) := dk_96 (dk_at dksL_law_26 12 rfl rfl)
theorem dL_law_670 : decode cL_law 670 = .ok (.iaload, 1) := dk_46 (dk_at dksL_law_26 13 rfl rfl)
theorem dL_law_671 : decode cL_law 671 = .ok (.aload_n 3, 1) := dk_45 (dk_at dksL_law_26 14 rfl rfl)
theorem dL_law_672 : decode cL_law 672 = .ok (.invokestatic 110, 3) := dk_184 0 110 (dk_at dksL_law_26 15 rfl rfl)
theorem dL_law_675 : decode cL_law 675 = .ok (.istore 5, 2) := dk_54 5 (dk_at dksL_law_26 18 rfl rfl)
theorem dL_law_677 : decode cL_law 677 = .ok (.aload_n 2, 1) := dk_44 (dk_at dksL_law_26 20 rfl rfl)
theorem dL_law_678 : decode cL_law 678 = .ok (.aload_n 0, 1) := dk_42 (dk_at dksL_law_26 21 rfl rfl)
theorem dL_law_679 : decode cL_law 679 = .ok (.iload 4, 2) := dk_21 4 (dk_at dksL_law_26 22 rfl rfl)
theorem dL_law_681 : decode cL_law 681 = .ok (.iconst 1, 1) := dk_4 (dk_at dksL_law_27 0 rfl rfl)
theorem dL_law_682 : decode cL_law 682 = .ok (.iadd, 1) := dk_96 (dk_at dksL_law_27 1 rfl rfl)
theorem dL_law_683 : decode cL_law 683 = .ok (.iaload, 1) := dk_46 (dk_at dksL_law_27 2 rfl rfl)
theorem dL_law_684 : decode cL_law 684 = .ok (.aload_n 0, 1) := dk_42 (dk_at dksL_law_27 3 rfl rfl)
theorem dL_law_685 : decode cL_law 685 = .ok (.iload 4, 2) := dk_21 4 (dk_at dksL_law_27 4 rfl rfl)
theorem dL_law_687 : decode cL_law 687 = .ok (.iconst 2, 1) := dk_5 (dk_at dksL_law_27 6 rfl rfl)
theorem dL_law_688 : decode cL_law 688 = .ok (.iadd, 1) := dk_96 (dk_at dksL_law_27 7 rfl rfl)
theorem dL_law_689 : decode cL_law 689 = .ok (.iaload, 1) := dk_46 (dk_at dksL_law_27 8 rfl rfl)
theorem dL_law_690 : decode cL_law 690 = .ok (.invokevirtual 112, 3) := dk_182 0 112 (dk_at dksL_law_27 9 rfl rfl)
theorem dL_law_693 : decode cL_law 693 = .ok (.istore 6, 2) := dk_54 6 (dk_at dksL_law_27 12 rfl rfl)
theorem dL_law_695 : decode cL_law 695 = .ok (.aload_n 2, 1) := dk_44 (dk_at dksL_law_27 14 rfl rfl)
theorem dL_law_696 : decode cL_law 696 = .ok (.invokevirtual 51, 3) := dk_182 0 51 (dk_at dksL_law_27 15 rfl rfl)
theorem dL_law_699 : decode cL_law 699 = .ok (.iload 5, 2) := dk_21 5 (dk_at dksL_law_27 18 rfl rfl)
theorem dL_law_701 : decode cL_law 701 = .ok (.if_icmp .eq 5, 3) := dk_159 0 5 (dk_at dksL_law_27 20 rfl rfl)
theorem dL_law_704 : decode cL_law 704 = .ok (.iconst 0, 1) := dk_3 (dk_at dksL_law_27 23 rfl rfl)
theorem dL_law_705 : decode cL_law 705 = .ok (.ireturn, 1) := dk_172 (dk_at dksL_law_28 0 rfl rfl)
theorem dL_law_706 : decode cL_law 706 = .ok (.iload 5, 2) := dk_21 5 (dk_at dksL_law_28 1 rfl rfl)
theorem dL_law_708 : decode cL_law 708 = .ok (.ifCond .ne 15, 3) := dk_154 0 15 (dk_at dksL_law_28 3 rfl rfl)
theorem dL_law_711 : decode cL_law 711 = .ok (.aload_n 3, 1) := dk_45 (dk_at dksL_law_28 6 rfl rfl)
theorem dL_law_712 : decode cL_law 712 = .ok (.iconst 0, 1) := dk_3 (dk_at dksL_law_28 7 rfl rfl)
theorem dL_law_713 : decode cL_law 713 = .ok (.laload, 1) := dk_47 (dk_at dksL_law_28 8 rfl rfl)
theorem dL_law_714 : decode cL_law 714 = .ok (.iload 6, 2) := dk_21 6 (dk_at dksL_law_28 9 rfl rfl)
theorem dL_law_716 : decode cL_law 716 = .ok (.i2l, 1) := dk_133 (dk_at dksL_law_28 11 rfl rfl)
theorem dL_law_717 : decode cL_law 717 = .ok (.lcmp, 1) := dk_148 (dk_at dksL_law_28 12 rfl rfl)
theorem dL_law_718 : decode cL_law 718 = .ok (.ifCond .eq 5, 3) := dk_153 0 5 (dk_at dksL_law_28 13 rfl rfl)
theorem dL_law_721 : decode cL_law 721 = .ok (.iconst 0, 1) := dk_3 (dk_at dksL_law_28 16 rfl rfl)
theorem dL_law_722 : decode cL_law 722 = .ok (.ireturn, 1) := dk_172 (dk_at dksL_law_28 17 rfl rfl)
theorem dL_law_723 : decode cL_law 723 = .ok (.goto 59, 3) := dk_167 0 59 (dk_at dksL_law_28 18 rfl rfl)
theorem dL_law_726 : decode cL_law 726 = .ok (.aload_n 1, 1) := dk_43 (dk_at dksL_law_28 21 rfl rfl)
theorem dL_law_727 : decode cL_law 727 = .ok (.aload_n 0, 1) := dk_42 (dk_at dksL_law_28 22 rfl rfl)
theorem dL_law_728 : decode cL_law 728 = .ok (.iload 4, 2) := dk_21 4 (dk_at dksL_law_29 0 rfl rfl)
theorem dL_law_730 : decode cL_law 730 = .ok (.iconst 1, 1) := dk_4 (dk_at dksL_law_29 2 rfl rfl)
theorem dL_law_731 : decode cL_law 731 = .ok (.iadd, 1) := dk_96 (dk_at dksL_law_29 3 rfl rfl)
theorem dL_law_732 : decode cL_law 732 = .ok (.iaload, 1) := dk_46 (dk_at dksL_law_29 4 rfl rfl)
theorem dL_law_733 : decode cL_law 733 = .ok (.aload_n 3, 1) := dk_45 (dk_at dksL_law_29 5 rfl rfl)
theorem dL_law_734 : decode cL_law 734 = .ok (.invokestatic 113, 3) := dk_184 0 113 (dk_at dksL_law_29 6 rfl rfl)
theorem dL_law_737 : decode cL_law 737 = .ok (.istore 5, 2) := dk_54 5 (dk_at dksL_law_29 9 rfl rfl)
theorem dL_law_739 : decode cL_law 739 = .ok (.aload_n 2, 1) := dk_44 (dk_at dksL_law_29 11 rfl rfl)
theorem dL_law_740 : decode cL_law 740 = .ok (.aload_n 0, 1) := dk_42 (dk_at dksL_law_29 12 rfl rfl)
theorem dL_law_741 : decode cL_law 741 = .ok (.iload 4, 2) := dk_21 4 (dk_at dksL_law_29 13 rfl rfl)
theorem dL_law_743 : decode cL_law 743 = .ok (.iconst 1, 1) := dk_4 (dk_at dksL_law_29 15 rfl rfl)
theorem dL_law_744 : decode cL_law 744 = .ok (.iadd, 1) := dk_96 (dk_at dksL_law_29 16 rfl rfl)
theorem dL_law_745 : decode cL_law 745 = .ok (.iaload, 1) := dk_46 (dk_at dksL_law_29 17 rfl rfl)
theorem dL_law_746 : decode cL_law 746 = .ok (.invokevirtual 116, 3) := dk_182 0 116 (dk_at dksL_law_29 18 rfl rfl)
theorem dL_law_749 : decode cL_law 749 = .ok (.istore 6, 2) := dk_54 6 (dk_at dksL_law_29 21 rfl rfl)
theorem dL_law_751 : decode cL_law 751 = .ok (.aload_n 2, 1) := dk_44 (dk_at dksL_law_29 23 rfl rfl)
theorem dL_law_752 : decode cL_law 752 = .ok (.invokevirtual 51, 3) := dk_182 0 51 (dk_at dksL_law_30 0 rfl rfl)
theorem dL_law_755 : decode cL_law 755 = .ok (.iload 5, 2) := dk_21 5 (dk_at dksL_law_30 3 rfl rfl)
theorem dL_law_757 : decode cL_law 757 = .ok (.if_icmp .eq 5, 3) := dk_159 0 5 (dk_at dksL_law_30 5 rfl rfl)
theorem dL_law_760 : decode cL_law 760 = .ok (.iconst 0, 1) := dk_3 (dk_at dksL_law_30 8 rfl rfl)
theorem dL_law_761 : decode cL_law 761 = .ok (.ireturn, 1) := dk_172 (dk_at dksL_law_30 9 rfl rfl)
theorem dL_law_762 : decode cL_law 762 = .ok (.iload 5, 2) := dk_21 5 (dk_at dksL_law_30 10 rfl rfl)
theorem dL_law_764 : decode cL_law 764 = .ok (.ifCond .ne 15, 3) := dk_154 0 15 (dk_at dksL_law_30 12 rfl rfl)
theorem dL_law_767 : decode cL_law 767 = .ok (.aload_n 3, 1) := dk_45 (dk_at dksL_law_30 15 rfl rfl)
theorem dL_law_768 : decode cL_law 768 = .ok (.iconst 0, 1) := dk_3 (dk_at dksL_law_30 16 rfl rfl)
theorem dL_law_769 : decode cL_law 769 = .ok (.laload, 1) := dk_47 (dk_at dksL_law_30 17 rfl rfl)
theorem dL_law_770 : decode cL_law 770 = .ok (.iload 6, 2) := dk_21 6 (dk_at dksL_law_30 18 rfl rfl)
theorem dL_law_772 : decode cL_law 772 = .ok (.i2l, 1) := dk_133 (dk_at dksL_law_30 20 rfl rfl)
theorem dL_law_773 : decode cL_law 773 = .ok (.lcmp, 1) := dk_148 (dk_at dksL_law_30 21 rfl rfl)
theorem dL_law_774 : decode cL_law 774 = .ok (.ifCond .eq 5, 3) := dk_153 0 5 (dk_at dksL_law_31 0 rfl rfl)
theorem dL_law_777 : decode cL_law 777 = .ok (.iconst 0, 1) := dk_3 (dk_at dksL_law_31 3 rfl rfl)
theorem dL_law_778 : decode cL_law 778 = .ok (.ireturn, 1) := dk_172 (dk_at dksL_law_31 4 rfl rfl)
theorem dL_law_779 : decode cL_law 779 = .ok (.goto 3, 3) := dk_167 0 3 (dk_at dksL_law_31 5 rfl rfl)
theorem dL_law_782 : decode cL_law 782 = .ok (.iinc 4 5, 3) := dk_132 4 5 (dk_at dksL_law_31 8 rfl rfl)
theorem dL_law_785 : decode cL_law 785 = .ok (.goto (-762), 3) := dk_167 253 6 (dk_at dksL_law_31 11 rfl rfl)
theorem dL_law_788 : decode cL_law 788 = .ok (.iconst 1, 1) := dk_4 (dk_at dksL_law_31 14 rfl rfl)
theorem dL_law_789 : decode cL_law 789 = .ok (.ireturn, 1) := dk_172 (dk_at dksL_law_31 15 rfl rfl)
/-! ProbeConsoleLaw -/
set_option maxRecDepth 100000
def RX0 : String := "ProbeConsoleLaw"
abbrev cX0_feed : ByteArray := method_3_code
def yX0_feed : MethodName := ⟨RX0, "feed", "(LProbeConsole;IJ[J)I"⟩
def dkwX0_feed_0 : List UInt8 := [25, 4, 3, 42, 27, 32, 182, 0, 7, 133, 80, 167, 0, 7, 58, 5, 4, 172, 3, 172]
abbrev dktX0_feed_0 : List UInt8 := dkwX0_feed_0 ++ []
theorem dksX0_feed_0 : cX0_feed.data.toList.drop 0 = dktX0_feed_0 := by decide +kernel
theorem dX0_feed_0 : decode cX0_feed 0 = .ok (.aload 4, 2) := dk_25 4 (dk_at dksX0_feed_0 0 rfl rfl)
theorem dX0_feed_2 : decode cX0_feed 2 = .ok (.iconst 0, 1) := dk_3 (dk_at dksX0_feed_0 2 rfl rfl)
theorem dX0_feed_3 : decode cX0_feed 3 = .ok (.aload_n 0, 1) := dk_42 (dk_at dksX0_feed_0 3 rfl rfl)
theorem dX0_feed_4 : decode cX0_feed 4 = .ok (.iload_n 1, 1) := dk_27 (dk_at dksX0_feed_0 4 rfl rfl)
theorem dX0_feed_5 : decode cX0_feed 5 = .ok (.lload_n 2, 1) := dk_32 (dk_at dksX0_feed_0 5 rfl rfl)
theorem dX0_feed_6 : decode cX0_feed 6 = .ok (.invokevirtual 7, 3) := dk_182 0 7 (dk_at dksX0_feed_0 6 rfl rfl)
theorem dX0_feed_9 : decode cX0_feed 9 = .ok (.i2l, 1) := dk_133 (dk_at dksX0_feed_0 9 rfl rfl)
theorem dX0_feed_10 : decode cX0_feed 10 = .ok (.lastore, 1) := dk_80 (dk_at dksX0_feed_0 10 rfl rfl)
theorem dX0_feed_11 : decode cX0_feed 11 = .ok (.goto 7, 3) := dk_167 0 7 (dk_at dksX0_feed_0 11 rfl rfl)
theorem dX0_feed_14 : decode cX0_feed 14 = .ok (.astore 5, 2) := dk_58 5 (dk_at dksX0_feed_0 14 rfl rfl)
theorem dX0_feed_16 : decode cX0_feed 16 = .ok (.iconst 1, 1) := dk_4 (dk_at dksX0_feed_0 16 rfl rfl)
theorem dX0_feed_17 : decode cX0_feed 17 = .ok (.ireturn, 1) := dk_172 (dk_at dksX0_feed_0 17 rfl rfl)
theorem dX0_feed_18 : decode cX0_feed 18 = .ok (.iconst 0, 1) := dk_3 (dk_at dksX0_feed_0 18 rfl rfl)
theorem dX0_feed_19 : decode cX0_feed 19 = .ok (.ireturn, 1) := dk_172 (dk_at dksX0_feed_0 19 rfl rfl)
abbrev cX0_call : ByteArray := method_4_code
def yX0_call : MethodName := ⟨RX0, "call", "(LProbeConsole;IIII[J)I"⟩
def dkwX0_call_0 : List UInt8 := [25, 5, 3, 42, 27, 28, 29, 21, 4, 182, 0, 15, 133, 80, 167, 0, 7, 58, 6, 4, 172, 3, 172]
abbrev dktX0_call_0 : List UInt8 := dkwX0_call_0 ++ []
theorem dksX0_call_0 : cX0_call.data.toList.drop 0 = dktX0_call_0 := by decide +kernel
theorem dX0_call_0 : decode cX0_call 0 = .ok (.aload 5, 2) := dk_25 5 (dk_at dksX0_call_0 0 rfl rfl)
theorem dX0_call_2 : decode cX0_call 2 = .ok (.iconst 0, 1) := dk_3 (dk_at dksX0_call_0 2 rfl rfl)
theorem dX0_call_3 : decode cX0_call 3 = .ok (.aload_n 0, 1) := dk_42 (dk_at dksX0_call_0 3 rfl rfl)
theorem dX0_call_4 : decode cX0_call 4 = .ok (.iload_n 1, 1) := dk_27 (dk_at dksX0_call_0 4 rfl rfl)
theorem dX0_call_5 : decode cX0_call 5 = .ok (.iload_n 2, 1) := dk_28 (dk_at dksX0_call_0 5 rfl rfl)
theorem dX0_call_6 : decode cX0_call 6 = .ok (.iload_n 3, 1) := dk_29 (dk_at dksX0_call_0 6 rfl rfl)
theorem dX0_call_7 : decode cX0_call 7 = .ok (.iload 4, 2) := dk_21 4 (dk_at dksX0_call_0 7 rfl rfl)
theorem dX0_call_9 : decode cX0_call 9 = .ok (.invokevirtual 15, 3) := dk_182 0 15 (dk_at dksX0_call_0 9 rfl rfl)
theorem dX0_call_12 : decode cX0_call 12 = .ok (.i2l, 1) := dk_133 (dk_at dksX0_call_0 12 rfl rfl)
theorem dX0_call_13 : decode cX0_call 13 = .ok (.lastore, 1) := dk_80 (dk_at dksX0_call_0 13 rfl rfl)
theorem dX0_call_14 : decode cX0_call 14 = .ok (.goto 7, 3) := dk_167 0 7 (dk_at dksX0_call_0 14 rfl rfl)
theorem dX0_call_17 : decode cX0_call 17 = .ok (.astore 6, 2) := dk_58 6 (dk_at dksX0_call_0 17 rfl rfl)
theorem dX0_call_19 : decode cX0_call 19 = .ok (.iconst 1, 1) := dk_4 (dk_at dksX0_call_0 19 rfl rfl)
theorem dX0_call_20 : decode cX0_call 20 = .ok (.ireturn, 1) := dk_172 (dk_at dksX0_call_0 20 rfl rfl)
theorem dX0_call_21 : decode cX0_call 21 = .ok (.iconst 0, 1) := dk_3 (dk_at dksX0_call_0 21 rfl rfl)
theorem dX0_call_22 : decode cX0_call 22 = .ok (.ireturn, 1) := dk_172 (dk_at dksX0_call_0 22 rfl rfl)
abbrev cX0_record : ByteArray := method_5_code
def yX0_record : MethodName := ⟨RX0, "record", "(LProbeConsole;II[J)I"⟩
def dkwX0_record_0 : List UInt8 := [45, 3, 42, 27, 28, 182, 0, 21, 133, 80, 167, 0, 11, 58, 4, 4, 172, 58, 4, 5, 172, 3, 172]
abbrev dktX0_record_0 : List UInt8 := dkwX0_record_0 ++ []
theorem dksX0_record_0 : cX0_record.data.toList.drop 0 = dktX0_record_0 := by decide +kernel
theorem dX0_record_0 : decode cX0_record 0 = .ok (.aload_n 3, 1) := dk_45 (dk_at dksX0_record_0 0 rfl rfl)
theorem dX0_record_1 : decode cX0_record 1 = .ok (.iconst 0, 1) := dk_3 (dk_at dksX0_record_0 1 rfl rfl)
theorem dX0_record_2 : decode cX0_record 2 = .ok (.aload_n 0, 1) := dk_42 (dk_at dksX0_record_0 2 rfl rfl)
theorem dX0_record_3 : decode cX0_record 3 = .ok (.iload_n 1, 1) := dk_27 (dk_at dksX0_record_0 3 rfl rfl)
theorem dX0_record_4 : decode cX0_record 4 = .ok (.iload_n 2, 1) := dk_28 (dk_at dksX0_record_0 4 rfl rfl)
theorem dX0_record_5 : decode cX0_record 5 = .ok (.invokevirtual 21, 3) := dk_182 0 21 (dk_at dksX0_record_0 5 rfl rfl)
theorem dX0_record_8 : decode cX0_record 8 = .ok (.i2l, 1) := dk_133 (dk_at dksX0_record_0 8 rfl rfl)
theorem dX0_record_9 : decode cX0_record 9 = .ok (.lastore, 1) := dk_80 (dk_at dksX0_record_0 9 rfl rfl)
theorem dX0_record_10 : decode cX0_record 10 = .ok (.goto 11, 3) := dk_167 0 11 (dk_at dksX0_record_0 10 rfl rfl)
theorem dX0_record_13 : decode cX0_record 13 = .ok (.astore 4, 2) := dk_58 4 (dk_at dksX0_record_0 13 rfl rfl)
theorem dX0_record_15 : decode cX0_record 15 = .ok (.iconst 1, 1) := dk_4 (dk_at dksX0_record_0 15 rfl rfl)
theorem dX0_record_16 : decode cX0_record 16 = .ok (.ireturn, 1) := dk_172 (dk_at dksX0_record_0 16 rfl rfl)
theorem dX0_record_17 : decode cX0_record 17 = .ok (.astore 4, 2) := dk_58 4 (dk_at dksX0_record_0 17 rfl rfl)
theorem dX0_record_19 : decode cX0_record 19 = .ok (.iconst 2, 1) := dk_5 (dk_at dksX0_record_0 19 rfl rfl)
theorem dX0_record_20 : decode cX0_record 20 = .ok (.ireturn, 1) := dk_172 (dk_at dksX0_record_0 20 rfl rfl)
theorem dX0_record_21 : decode cX0_record 21 = .ok (.iconst 0, 1) := dk_3 (dk_at dksX0_record_0 21 rfl rfl)
theorem dX0_record_22 : decode cX0_record 22 = .ok (.ireturn, 1) := dk_172 (dk_at dksX0_record_0 22 rfl rfl)
abbrev cX0_job : ByteArray := method_6_code
def yX0_job : MethodName := ⟨RX0, "job", "(LProbeConsole;II[J)I"⟩
def dkwX0_job_0 : List UInt8 := [45, 3, 42, 27, 28, 182, 0, 25, 133, 80, 167, 0, 11, 58, 4, 4, 172, 58, 4, 5, 172, 3, 172]
abbrev dktX0_job_0 : List UInt8 := dkwX0_job_0 ++ []
theorem dksX0_job_0 : cX0_job.data.toList.drop 0 = dktX0_job_0 := by decide +kernel
theorem dX0_job_0 : decode cX0_job 0 = .ok (.aload_n 3, 1) := dk_45 (dk_at dksX0_job_0 0 rfl rfl)
theorem dX0_job_1 : decode cX0_job 1 = .ok (.iconst 0, 1) := dk_3 (dk_at dksX0_job_0 1 rfl rfl)
theorem dX0_job_2 : decode cX0_job 2 = .ok (.aload_n 0, 1) := dk_42 (dk_at dksX0_job_0 2 rfl rfl)
theorem dX0_job_3 : decode cX0_job 3 = .ok (.iload_n 1, 1) := dk_27 (dk_at dksX0_job_0 3 rfl rfl)
theorem dX0_job_4 : decode cX0_job 4 = .ok (.iload_n 2, 1) := dk_28 (dk_at dksX0_job_0 4 rfl rfl)
theorem dX0_job_5 : decode cX0_job 5 = .ok (.invokevirtual 25, 3) := dk_182 0 25 (dk_at dksX0_job_0 5 rfl rfl)
theorem dX0_job_8 : decode cX0_job 8 = .ok (.i2l, 1) := dk_133 (dk_at dksX0_job_0 8 rfl rfl)
theorem dX0_job_9 : decode cX0_job 9 = .ok (.lastore, 1) := dk_80 (dk_at dksX0_job_0 9 rfl rfl)
theorem dX0_job_10 : decode cX0_job 10 = .ok (.goto 11, 3) := dk_167 0 11 (dk_at dksX0_job_0 10 rfl rfl)
theorem dX0_job_13 : decode cX0_job 13 = .ok (.astore 4, 2) := dk_58 4 (dk_at dksX0_job_0 13 rfl rfl)
theorem dX0_job_15 : decode cX0_job 15 = .ok (.iconst 1, 1) := dk_4 (dk_at dksX0_job_0 15 rfl rfl)
theorem dX0_job_16 : decode cX0_job 16 = .ok (.ireturn, 1) := dk_172 (dk_at dksX0_job_0 16 rfl rfl)
theorem dX0_job_17 : decode cX0_job 17 = .ok (.astore 4, 2) := dk_58 4 (dk_at dksX0_job_0 17 rfl rfl)
theorem dX0_job_19 : decode cX0_job 19 = .ok (.iconst 2, 1) := dk_5 (dk_at dksX0_job_0 19 rfl rfl)
theorem dX0_job_20 : decode cX0_job 20 = .ok (.ireturn, 1) := dk_172 (dk_at dksX0_job_0 20 rfl rfl)
theorem dX0_job_21 : decode cX0_job 21 = .ok (.iconst 0, 1) := dk_3 (dk_at dksX0_job_0 21 rfl rfl)
theorem dX0_job_22 : decode cX0_job 22 = .ok (.ireturn, 1) := dk_172 (dk_at dksX0_job_0 22 rfl rfl)
abbrev cX0_counted : ByteArray := method_7_code
def yX0_counted : MethodName := ⟨RX0, "counted", "(LProbeConsole;III[J)I"⟩
def dkwX0_counted_1 : List UInt8 := [172]
abbrev dktX0_counted_1 : List UInt8 := dkwX0_counted_1 ++ []
def dkwX0_counted_0 : List UInt8 := [25, 4, 3, 42, 27, 28, 29, 182, 0, 28, 133, 80, 167, 0, 11, 58, 5, 4, 172, 58, 5, 5, 172, 3]
abbrev dktX0_counted_0 : List UInt8 := dkwX0_counted_0 ++ dktX0_counted_1
theorem dksX0_counted_0 : cX0_counted.data.toList.drop 0 = dktX0_counted_0 := by decide +kernel
theorem dksX0_counted_1 : cX0_counted.data.toList.drop 24 = dktX0_counted_1 := dk_seg dksX0_counted_0 24 rfl rfl
theorem dX0_counted_0 : decode cX0_counted 0 = .ok (.aload 4, 2) := dk_25 4 (dk_at dksX0_counted_0 0 rfl rfl)
theorem dX0_counted_2 : decode cX0_counted 2 = .ok (.iconst 0, 1) := dk_3 (dk_at dksX0_counted_0 2 rfl rfl)
theorem dX0_counted_3 : decode cX0_counted 3 = .ok (.aload_n 0, 1) := dk_42 (dk_at dksX0_counted_0 3 rfl rfl)
theorem dX0_counted_4 : decode cX0_counted 4 = .ok (.iload_n 1, 1) := dk_27 (dk_at dksX0_counted_0 4 rfl rfl)
theorem dX0_counted_5 : decode cX0_counted 5 = .ok (.iload_n 2, 1) := dk_28 (dk_at dksX0_counted_0 5 rfl rfl)
theorem dX0_counted_6 : decode cX0_counted 6 = .ok (.iload_n 3, 1) := dk_29 (dk_at dksX0_counted_0 6 rfl rfl)
theorem dX0_counted_7 : decode cX0_counted 7 = .ok (.invokevirtual 28, 3) := dk_182 0 28 (dk_at dksX0_counted_0 7 rfl rfl)
theorem dX0_counted_10 : decode cX0_counted 10 = .ok (.i2l, 1) := dk_133 (dk_at dksX0_counted_0 10 rfl rfl)
theorem dX0_counted_11 : decode cX0_counted 11 = .ok (.lastore, 1) := dk_80 (dk_at dksX0_counted_0 11 rfl rfl)
theorem dX0_counted_12 : decode cX0_counted 12 = .ok (.goto 11, 3) := dk_167 0 11 (dk_at dksX0_counted_0 12 rfl rfl)
theorem dX0_counted_15 : decode cX0_counted 15 = .ok (.astore 5, 2) := dk_58 5 (dk_at dksX0_counted_0 15 rfl rfl)
theorem dX0_counted_17 : decode cX0_counted 17 = .ok (.iconst 1, 1) := dk_4 (dk_at dksX0_counted_0 17 rfl rfl)
theorem dX0_counted_18 : decode cX0_counted 18 = .ok (.ireturn, 1) := dk_172 (dk_at dksX0_counted_0 18 rfl rfl)
theorem dX0_counted_19 : decode cX0_counted 19 = .ok (.astore 5, 2) := dk_58 5 (dk_at dksX0_counted_0 19 rfl rfl)
theorem dX0_counted_21 : decode cX0_counted 21 = .ok (.iconst 2, 1) := dk_5 (dk_at dksX0_counted_0 21 rfl rfl)
theorem dX0_counted_22 : decode cX0_counted 22 = .ok (.ireturn, 1) := dk_172 (dk_at dksX0_counted_0 22 rfl rfl)
theorem dX0_counted_23 : decode cX0_counted 23 = .ok (.iconst 0, 1) := dk_3 (dk_at dksX0_counted_0 23 rfl rfl)
theorem dX0_counted_24 : decode cX0_counted 24 = .ok (.ireturn, 1) := dk_172 (dk_at dksX0_counted_1 0 rfl rfl)
abbrev cX0_kept : ByteArray := method_8_code
def yX0_kept : MethodName := ⟨RX0, "kept", "(LProbeConsole;II[J)I"⟩
def dkwX0_kept_0 : List UInt8 := [45, 3, 42, 27, 28, 182, 0, 32, 133, 80, 167, 0, 11, 58, 4, 4, 172, 58, 4, 5, 172, 3, 172]
abbrev dktX0_kept_0 : List UInt8 := dkwX0_kept_0 ++ []
theorem dksX0_kept_0 : cX0_kept.data.toList.drop 0 = dktX0_kept_0 := by decide +kernel
theorem dX0_kept_0 : decode cX0_kept 0 = .ok (.aload_n 3, 1) := dk_45 (dk_at dksX0_kept_0 0 rfl rfl)
theorem dX0_kept_1 : decode cX0_kept 1 = .ok (.iconst 0, 1) := dk_3 (dk_at dksX0_kept_0 1 rfl rfl)
theorem dX0_kept_2 : decode cX0_kept 2 = .ok (.aload_n 0, 1) := dk_42 (dk_at dksX0_kept_0 2 rfl rfl)
theorem dX0_kept_3 : decode cX0_kept 3 = .ok (.iload_n 1, 1) := dk_27 (dk_at dksX0_kept_0 3 rfl rfl)
theorem dX0_kept_4 : decode cX0_kept 4 = .ok (.iload_n 2, 1) := dk_28 (dk_at dksX0_kept_0 4 rfl rfl)
theorem dX0_kept_5 : decode cX0_kept 5 = .ok (.invokevirtual 32, 3) := dk_182 0 32 (dk_at dksX0_kept_0 5 rfl rfl)
theorem dX0_kept_8 : decode cX0_kept 8 = .ok (.i2l, 1) := dk_133 (dk_at dksX0_kept_0 8 rfl rfl)
theorem dX0_kept_9 : decode cX0_kept 9 = .ok (.lastore, 1) := dk_80 (dk_at dksX0_kept_0 9 rfl rfl)
theorem dX0_kept_10 : decode cX0_kept 10 = .ok (.goto 11, 3) := dk_167 0 11 (dk_at dksX0_kept_0 10 rfl rfl)
theorem dX0_kept_13 : decode cX0_kept 13 = .ok (.astore 4, 2) := dk_58 4 (dk_at dksX0_kept_0 13 rfl rfl)
theorem dX0_kept_15 : decode cX0_kept 15 = .ok (.iconst 1, 1) := dk_4 (dk_at dksX0_kept_0 15 rfl rfl)
theorem dX0_kept_16 : decode cX0_kept 16 = .ok (.ireturn, 1) := dk_172 (dk_at dksX0_kept_0 16 rfl rfl)
theorem dX0_kept_17 : decode cX0_kept 17 = .ok (.astore 4, 2) := dk_58 4 (dk_at dksX0_kept_0 17 rfl rfl)
theorem dX0_kept_19 : decode cX0_kept 19 = .ok (.iconst 2, 1) := dk_5 (dk_at dksX0_kept_0 19 rfl rfl)
theorem dX0_kept_20 : decode cX0_kept 20 = .ok (.ireturn, 1) := dk_172 (dk_at dksX0_kept_0 20 rfl rfl)
theorem dX0_kept_21 : decode cX0_kept 21 = .ok (.iconst 0, 1) := dk_3 (dk_at dksX0_kept_0 21 rfl rfl)
theorem dX0_kept_22 : decode cX0_kept 22 = .ok (.ireturn, 1) := dk_172 (dk_at dksX0_kept_0 22 rfl rfl)
abbrev cX0_replay : ByteArray := method_9_code
def yX0_replay : MethodName := ⟨RX0, "replay", "(LProbeConsole;I[J)I"⟩
def dkwX0_replay_0 : List UInt8 := [44, 3, 42, 27, 182, 0, 35, 133, 80, 167, 0, 6, 78, 4, 172, 3, 172]
abbrev dktX0_replay_0 : List UInt8 := dkwX0_replay_0 ++ []
theorem dksX0_replay_0 : cX0_replay.data.toList.drop 0 = dktX0_replay_0 := by decide +kernel
theorem dX0_replay_0 : decode cX0_replay 0 = .ok (.aload_n 2, 1) := dk_44 (dk_at dksX0_replay_0 0 rfl rfl)
theorem dX0_replay_1 : decode cX0_replay 1 = .ok (.iconst 0, 1) := dk_3 (dk_at dksX0_replay_0 1 rfl rfl)
theorem dX0_replay_2 : decode cX0_replay 2 = .ok (.aload_n 0, 1) := dk_42 (dk_at dksX0_replay_0 2 rfl rfl)
theorem dX0_replay_3 : decode cX0_replay 3 = .ok (.iload_n 1, 1) := dk_27 (dk_at dksX0_replay_0 3 rfl rfl)
theorem dX0_replay_4 : decode cX0_replay 4 = .ok (.invokevirtual 35, 3) := dk_182 0 35 (dk_at dksX0_replay_0 4 rfl rfl)
theorem dX0_replay_7 : decode cX0_replay 7 = .ok (.i2l, 1) := dk_133 (dk_at dksX0_replay_0 7 rfl rfl)
theorem dX0_replay_8 : decode cX0_replay 8 = .ok (.lastore, 1) := dk_80 (dk_at dksX0_replay_0 8 rfl rfl)
theorem dX0_replay_9 : decode cX0_replay 9 = .ok (.goto 6, 3) := dk_167 0 6 (dk_at dksX0_replay_0 9 rfl rfl)
theorem dX0_replay_12 : decode cX0_replay 12 = .ok (.astore_n 3, 1) := dk_78 (dk_at dksX0_replay_0 12 rfl rfl)
theorem dX0_replay_13 : decode cX0_replay 13 = .ok (.iconst 1, 1) := dk_4 (dk_at dksX0_replay_0 13 rfl rfl)
theorem dX0_replay_14 : decode cX0_replay 14 = .ok (.ireturn, 1) := dk_172 (dk_at dksX0_replay_0 14 rfl rfl)
theorem dX0_replay_15 : decode cX0_replay 15 = .ok (.iconst 0, 1) := dk_3 (dk_at dksX0_replay_0 15 rfl rfl)
theorem dX0_replay_16 : decode cX0_replay 16 = .ok (.ireturn, 1) := dk_172 (dk_at dksX0_replay_0 16 rfl rfl)
theorem q115 : (Jvm.Cond.initialized "ProbeConsoleLaw") ∈ lw_all := lw_g (lw_at lw_m1 0 rfl) rfl
theorem q165 : (Jvm.Cond.classLink "ProbeConsoleLaw" (8 : Nat) "ProbeConsole") ∈ lw_all := lw_g (lw_at lw_m1 50 rfl) rfl
theorem q167 : (Jvm.Cond.methodLink "ProbeConsoleLaw" (39 : Nat) ({ cls := "ProbeConsole", name := "<init>", desc := "()V" } : Jvm.MethodName)) ∈ lw_all := lw_g (lw_at lw_m1 52 rfl) rfl
theorem q369 : (Jvm.Cond.methodLink "ProbeConsoleLaw" (55 : Nat) ({ cls := "ProbeConsole", name := "wipe", desc := "()I" } : Jvm.MethodName)) ∈ lw_all := lw_g (lw_at lw_m2 14 rfl) rfl
theorem q373 : (Jvm.Cond.methodLink "ProbeConsoleLaw" (59 : Nat) ({ cls := "ProbeConsole", name := "method", desc := "()I" } : Jvm.MethodName)) ∈ lw_all := lw_g (lw_at lw_m2 18 rfl) rfl
theorem q1747 : (Jvm.Cond.methodLink "ProbeConsoleLaw" (63 : Nat) ({ cls := "ProbeConsole", name := "command", desc := "()I" } : Jvm.MethodName)) ∈ lw_all := lw_g (lw_at lw_m7 192 rfl) rfl
theorem q1905 : (Jvm.Cond.methodLink "ProbeConsoleLaw" (67 : Nat) ({ cls := "ProbeConsole", name := "fault", desc := "()I" } : Jvm.MethodName)) ∈ lw_all := lw_g (lw_at lw_m8 110 rfl) rfl
theorem q1909 : (Jvm.Cond.methodLink "ProbeConsoleLaw" (71 : Nat) ({ cls := "ProbeConsole", name := "place", desc := "()I" } : Jvm.MethodName)) ∈ lw_all := lw_g (lw_at lw_m8 114 rfl) rfl
theorem q1913 : (Jvm.Cond.methodLink "ProbeConsoleLaw" (79 : Nat) ({ cls := "ProbeConsole", name := "value", desc := "()I" } : Jvm.MethodName)) ∈ lw_all := lw_g (lw_at lw_m8 118 rfl) rfl
theorem q1917 : (Jvm.Cond.methodLink "ProbeConsoleLaw" (83 : Nat) ({ cls := "ProbeConsole", name := "invoked", desc := "()I" } : Jvm.MethodName)) ∈ lw_all := lw_g (lw_at lw_m8 122 rfl) rfl
theorem q1921 : (Jvm.Cond.methodLink "ProbeConsoleLaw" (87 : Nat) ({ cls := "ProbeConsole", name := "records", desc := "()I" } : Jvm.MethodName)) ∈ lw_all := lw_g (lw_at lw_m8 126 rfl) rfl
theorem q1925 : (Jvm.Cond.methodLink "ProbeConsoleLaw" (95 : Nat) ({ cls := "ProbeConsole", name := "clear", desc := "()I" } : Jvm.MethodName)) ∈ lw_all := lw_g (lw_at lw_m8 130 rfl) rfl
theorem q1938 : (Jvm.Cond.methodLink "ProbeConsoleLaw" (106 : Nat) ({ cls := "ProbeConsole", name := "keeps", desc := "()I" } : Jvm.MethodName)) ∈ lw_all := lw_g (lw_at lw_m8 143 rfl) rfl
theorem q1942 : (Jvm.Cond.methodLink "ProbeConsoleLaw" (45 : Nat) ({ cls := "ProbeConsoleLaw", name := "feed", desc := "(LProbeConsole;IJ[J)I" } : Jvm.MethodName)) ∈ lw_all := lw_g (lw_at lw_m8 147 rfl) rfl
theorem q1943 : (Jvm.Cond.static ({ cls := "ProbeConsoleLaw", name := "feed", desc := "(LProbeConsole;IJ[J)I" } : Jvm.MethodName)) ∈ lw_all := lw_g (lw_at lw_m8 148 rfl) rfl
theorem q1944 : (Jvm.Cond.codeWith ({ cls := "ProbeConsoleLaw", name := "feed", desc := "(LProbeConsole;IJ[J)I" } : Jvm.MethodName) method_3_code (6 : Nat) (Option.some Jvm.ClassFile.FieldType.int) [((0 : Nat), (11 : Nat), (14 : Nat), (13 : Nat))]) ∈ lw_all := lw_g (lw_at lw_m8 149 rfl) rfl
theorem q1945 : (Jvm.Cond.classLink "ProbeConsoleLaw" (13 : Nat) "java/lang/IllegalArgumentException") ∈ lw_all := lw_g (lw_at lw_m8 150 rfl) rfl
theorem q1946 : (Jvm.Cond.methodLink "ProbeConsoleLaw" (7 : Nat) ({ cls := "ProbeConsole", name := "feed", desc := "(IJ)I" } : Jvm.MethodName)) ∈ lw_all := lw_g (lw_at lw_m8 151 rfl) rfl
theorem q1956 : (Jvm.Cond.methodLink "ProbeConsoleLaw" (75 : Nat) ({ cls := "ProbeConsoleLaw", name := "call", desc := "(LProbeConsole;IIII[J)I" } : Jvm.MethodName)) ∈ lw_all := lw_g (lw_at lw_m8 161 rfl) rfl
theorem q1957 : (Jvm.Cond.static ({ cls := "ProbeConsoleLaw", name := "call", desc := "(LProbeConsole;IIII[J)I" } : Jvm.MethodName)) ∈ lw_all := lw_g (lw_at lw_m8 162 rfl) rfl
theorem q1958 : (Jvm.Cond.codeWith ({ cls := "ProbeConsoleLaw", name := "call", desc := "(LProbeConsole;IIII[J)I" } : Jvm.MethodName) method_4_code (7 : Nat) (Option.some Jvm.ClassFile.FieldType.int) [((0 : Nat), (14 : Nat), (17 : Nat), (19 : Nat))]) ∈ lw_all := lw_g (lw_at lw_m8 163 rfl) rfl
theorem q1959 : (Jvm.Cond.classLink "ProbeConsoleLaw" (19 : Nat) "java/lang/IndexOutOfBoundsException") ∈ lw_all := lw_g (lw_at lw_m8 164 rfl) rfl
theorem q1978 : (Jvm.Cond.methodLink "ProbeConsoleLaw" (15 : Nat) ({ cls := "ProbeConsole", name := "call", desc := "(IIII)I" } : Jvm.MethodName)) ∈ lw_all := lw_g (lw_at lw_m8 183 rfl) rfl
theorem q2147 : (Jvm.Cond.methodLink "ProbeConsoleLaw" (91 : Nat) ({ cls := "ProbeConsoleLaw", name := "record", desc := "(LProbeConsole;II[J)I" } : Jvm.MethodName)) ∈ lw_all := lw_g (lw_at lw_m9 112 rfl) rfl
theorem q2148 : (Jvm.Cond.static ({ cls := "ProbeConsoleLaw", name := "record", desc := "(LProbeConsole;II[J)I" } : Jvm.MethodName)) ∈ lw_all := lw_g (lw_at lw_m9 113 rfl) rfl
theorem q2149 : (Jvm.Cond.codeWith ({ cls := "ProbeConsoleLaw", name := "record", desc := "(LProbeConsole;II[J)I" } : Jvm.MethodName) method_5_code (5 : Nat) (Option.some Jvm.ClassFile.FieldType.int) [((0 : Nat), (10 : Nat), (13 : Nat), (19 : Nat)), ((0 : Nat), (10 : Nat), (17 : Nat), (13 : Nat))]) ∈ lw_all := lw_g (lw_at lw_m9 114 rfl) rfl
theorem q2150 : (Jvm.Cond.methodLink "ProbeConsoleLaw" (21 : Nat) ({ cls := "ProbeConsole", name := "record", desc := "(II)I" } : Jvm.MethodName)) ∈ lw_all := lw_g (lw_at lw_m9 115 rfl) rfl
theorem q2175 : (Jvm.Cond.methodLink "ProbeConsoleLaw" (99 : Nat) ({ cls := "ProbeConsoleLaw", name := "job", desc := "(LProbeConsole;II[J)I" } : Jvm.MethodName)) ∈ lw_all := lw_g (lw_at lw_m9 140 rfl) rfl
theorem q2176 : (Jvm.Cond.static ({ cls := "ProbeConsoleLaw", name := "job", desc := "(LProbeConsole;II[J)I" } : Jvm.MethodName)) ∈ lw_all := lw_g (lw_at lw_m9 141 rfl) rfl
theorem q2177 : (Jvm.Cond.codeWith ({ cls := "ProbeConsoleLaw", name := "job", desc := "(LProbeConsole;II[J)I" } : Jvm.MethodName) method_6_code (5 : Nat) (Option.some Jvm.ClassFile.FieldType.int) [((0 : Nat), (10 : Nat), (13 : Nat), (19 : Nat)), ((0 : Nat), (10 : Nat), (17 : Nat), (13 : Nat))]) ∈ lw_all := lw_g (lw_at lw_m9 142 rfl) rfl
theorem q2178 : (Jvm.Cond.methodLink "ProbeConsoleLaw" (25 : Nat) ({ cls := "ProbeConsole", name := "job", desc := "(II)I" } : Jvm.MethodName)) ∈ lw_all := lw_g (lw_at lw_m9 143 rfl) rfl
theorem q2184 : (Jvm.Cond.methodLink "ProbeConsoleLaw" (102 : Nat) ({ cls := "ProbeConsoleLaw", name := "counted", desc := "(LProbeConsole;III[J)I" } : Jvm.MethodName)) ∈ lw_all := lw_g (lw_at lw_m9 149 rfl) rfl
theorem q2185 : (Jvm.Cond.static ({ cls := "ProbeConsoleLaw", name := "counted", desc := "(LProbeConsole;III[J)I" } : Jvm.MethodName)) ∈ lw_all := lw_g (lw_at lw_m9 150 rfl) rfl
theorem q2186 : (Jvm.Cond.codeWith ({ cls := "ProbeConsoleLaw", name := "counted", desc := "(LProbeConsole;III[J)I" } : Jvm.MethodName) method_7_code (6 : Nat) (Option.some Jvm.ClassFile.FieldType.int) [((0 : Nat), (12 : Nat), (15 : Nat), (19 : Nat)), ((0 : Nat), (12 : Nat), (19 : Nat), (13 : Nat))]) ∈ lw_all := lw_g (lw_at lw_m9 151 rfl) rfl
theorem q2187 : (Jvm.Cond.methodLink "ProbeConsoleLaw" (28 : Nat) ({ cls := "ProbeConsole", name := "counted", desc := "(III)I" } : Jvm.MethodName)) ∈ lw_all := lw_g (lw_at lw_m9 152 rfl) rfl
theorem q2191 : (Jvm.Cond.methodLink "ProbeConsoleLaw" (110 : Nat) ({ cls := "ProbeConsoleLaw", name := "kept", desc := "(LProbeConsole;II[J)I" } : Jvm.MethodName)) ∈ lw_all := lw_g (lw_at lw_m9 156 rfl) rfl
theorem q2192 : (Jvm.Cond.static ({ cls := "ProbeConsoleLaw", name := "kept", desc := "(LProbeConsole;II[J)I" } : Jvm.MethodName)) ∈ lw_all := lw_g (lw_at lw_m9 157 rfl) rfl
theorem q2193 : (Jvm.Cond.codeWith ({ cls := "ProbeConsoleLaw", name := "kept", desc := "(LProbeConsole;II[J)I" } : Jvm.MethodName) method_8_code (5 : Nat) (Option.some Jvm.ClassFile.FieldType.int) [((0 : Nat), (10 : Nat), (13 : Nat), (19 : Nat)), ((0 : Nat), (10 : Nat), (17 : Nat), (13 : Nat))]) ∈ lw_all := lw_g (lw_at lw_m9 158 rfl) rfl
theorem q2194 : (Jvm.Cond.methodLink "ProbeConsoleLaw" (32 : Nat) ({ cls := "ProbeConsole", name := "kept", desc := "(II)I" } : Jvm.MethodName)) ∈ lw_all := lw_g (lw_at lw_m9 159 rfl) rfl
theorem q2227 : (Jvm.Cond.methodLink "ProbeConsoleLaw" (113 : Nat) ({ cls := "ProbeConsoleLaw", name := "replay", desc := "(LProbeConsole;I[J)I" } : Jvm.MethodName)) ∈ lw_all := lw_g (lw_at lw_m9 192 rfl) rfl
theorem q2228 : (Jvm.Cond.static ({ cls := "ProbeConsoleLaw", name := "replay", desc := "(LProbeConsole;I[J)I" } : Jvm.MethodName)) ∈ lw_all := lw_g (lw_at lw_m9 193 rfl) rfl
theorem q2229 : (Jvm.Cond.codeWith ({ cls := "ProbeConsoleLaw", name := "replay", desc := "(LProbeConsole;I[J)I" } : Jvm.MethodName) method_9_code (4 : Nat) (Option.some Jvm.ClassFile.FieldType.int) [((0 : Nat), (9 : Nat), (12 : Nat), (19 : Nat))]) ∈ lw_all := lw_g (lw_at lw_m9 194 rfl) rfl
theorem q2230 : (Jvm.Cond.methodLink "ProbeConsoleLaw" (35 : Nat) ({ cls := "ProbeConsole", name := "replay", desc := "(I)I" } : Jvm.MethodName)) ∈ lw_all := lw_g (lw_at lw_m9 195 rfl) rfl
theorem q2234 : (Jvm.Cond.classLink "ProbeConsoleLaw" (40 : Nat) "ProbeConsoleModel") ∈ lw_all := lw_g (lw_at lw_m9 199 rfl) rfl
theorem q2236 : (Jvm.Cond.methodLink "ProbeConsoleLaw" (42 : Nat) ({ cls := "ProbeConsoleModel", name := "<init>", desc := "()V" } : Jvm.MethodName)) ∈ lw_all := lw_g (lw_at lw_m9 201 rfl) rfl
theorem q2423 : (Jvm.Cond.methodLink "ProbeConsoleLaw" (51 : Nat) ({ cls := "ProbeConsoleModel", name := "thrown", desc := "()I" } : Jvm.MethodName)) ∈ lw_all := lw_g (lw_at lw_m10 148 rfl) rfl
theorem q2427 : (Jvm.Cond.methodLink "ProbeConsoleLaw" (50 : Nat) ({ cls := "ProbeConsoleModel", name := "feed", desc := "(IJ)I" } : Jvm.MethodName)) ∈ lw_all := lw_g (lw_at lw_m10 152 rfl) rfl
theorem q2432 : (Jvm.Cond.methodLink "ProbeConsoleLaw" (58 : Nat) ({ cls := "ProbeConsoleModel", name := "wipe", desc := "()I" } : Jvm.MethodName)) ∈ lw_all := lw_g (lw_at lw_m10 157 rfl) rfl
theorem q2436 : (Jvm.Cond.methodLink "ProbeConsoleLaw" (62 : Nat) ({ cls := "ProbeConsoleModel", name := "method", desc := "()I" } : Jvm.MethodName)) ∈ lw_all := lw_g (lw_at lw_m10 161 rfl) rfl
theorem q2576 : (Jvm.Cond.methodLink "ProbeConsoleLaw" (66 : Nat) ({ cls := "ProbeConsoleModel", name := "command", desc := "()I" } : Jvm.MethodName)) ∈ lw_all := lw_g (lw_at lw_m11 61 rfl) rfl
theorem q2640 : (Jvm.Cond.methodLink "ProbeConsoleLaw" (70 : Nat) ({ cls := "ProbeConsoleModel", name := "fault", desc := "()I" } : Jvm.MethodName)) ∈ lw_all := lw_g (lw_at lw_m11 125 rfl) rfl
theorem q2644 : (Jvm.Cond.methodLink "ProbeConsoleLaw" (74 : Nat) ({ cls := "ProbeConsoleModel", name := "place", desc := "()I" } : Jvm.MethodName)) ∈ lw_all := lw_g (lw_at lw_m11 129 rfl) rfl
theorem q2648 : (Jvm.Cond.methodLink "ProbeConsoleLaw" (78 : Nat) ({ cls := "ProbeConsoleModel", name := "call", desc := "(IIII)I" } : Jvm.MethodName)) ∈ lw_all := lw_g (lw_at lw_m11 133 rfl) rfl
theorem q2728 : (Jvm.Cond.methodLink "ProbeConsoleLaw" (82 : Nat) ({ cls := "ProbeConsoleModel", name := "value", desc := "()I" } : Jvm.MethodName)) ∈ lw_all := lw_g (lw_at lw_m11 213 rfl) rfl
theorem q2732 : (Jvm.Cond.methodLink "ProbeConsoleLaw" (86 : Nat) ({ cls := "ProbeConsoleModel", name := "invoked", desc := "()I" } : Jvm.MethodName)) ∈ lw_all := lw_g (lw_at lw_m11 217 rfl) rfl
theorem q2736 : (Jvm.Cond.methodLink "ProbeConsoleLaw" (90 : Nat) ({ cls := "ProbeConsoleModel", name := "records", desc := "()I" } : Jvm.MethodName)) ∈ lw_all := lw_g (lw_at lw_m11 221 rfl) rfl
theorem q2740 : (Jvm.Cond.methodLink "ProbeConsoleLaw" (94 : Nat) ({ cls := "ProbeConsoleModel", name := "record", desc := "(II)I" } : Jvm.MethodName)) ∈ lw_all := lw_g (lw_at lw_m11 225 rfl) rfl
theorem q2744 : (Jvm.Cond.methodLink "ProbeConsoleLaw" (98 : Nat) ({ cls := "ProbeConsoleModel", name := "clear", desc := "()I" } : Jvm.MethodName)) ∈ lw_all := lw_g (lw_at lw_m11 229 rfl) rfl
theorem q2748 : (Jvm.Cond.methodLink "ProbeConsoleLaw" (101 : Nat) ({ cls := "ProbeConsoleModel", name := "job", desc := "(II)I" } : Jvm.MethodName)) ∈ lw_all := lw_g (lw_at lw_m11 233 rfl) rfl
theorem q2752 : (Jvm.Cond.methodLink "ProbeConsoleLaw" (105 : Nat) ({ cls := "ProbeConsoleModel", name := "counted", desc := "(III)I" } : Jvm.MethodName)) ∈ lw_all := lw_g (lw_at lw_m11 237 rfl) rfl
theorem q2756 : (Jvm.Cond.methodLink "ProbeConsoleLaw" (109 : Nat) ({ cls := "ProbeConsoleModel", name := "keeps", desc := "()I" } : Jvm.MethodName)) ∈ lw_all := lw_g (lw_at lw_m12 1 rfl) rfl
theorem q2760 : (Jvm.Cond.methodLink "ProbeConsoleLaw" (112 : Nat) ({ cls := "ProbeConsoleModel", name := "kept", desc := "(II)I" } : Jvm.MethodName)) ∈ lw_all := lw_g (lw_at lw_m12 5 rfl) rfl
theorem q2764 : (Jvm.Cond.methodLink "ProbeConsoleLaw" (116 : Nat) ({ cls := "ProbeConsoleModel", name := "replay", desc := "(I)I" } : Jvm.MethodName)) ∈ lw_all := lw_g (lw_at lw_m12 9 rfl) rfl
theorem q2768 : (Jvm.Cond.constantLong "ProbeConsoleLaw" (43 : Nat) (4294967295 : Int64)) ∈ lw_all := lw_g (lw_at lw_m12 13 rfl) rfl
/-! ProbeConsole -/
set_option maxRecDepth 100000
def RX1 : String := "ProbeConsole"
def TX1 : u_T := fun k => match k with
  | 0 => ("ProbeConsole", "tape", "[B", true)
  | 1 => ("ProbeConsole", "size", "I", false)
  | 2 => ("ProbeConsole", "parser", "LProbeConsole$Parser;", true)
  | 3 => ("ProbeConsole", "machine", "LProbeConsole$Machine;", true)
  | _ => ("ProbeConsole", "value", "I", false)
def tyX1 : Nat → FieldType := fun k => match k with
  | 0 => .array .byte
  | 1 => .int
  | 2 => .object "ProbeConsole$Parser"
  | 3 => .object "ProbeConsole$Machine"
  | _ => .int
abbrev wsX10 : List Cond := u_ws RX1 TX1 5
theorem nmX1 : ∀ a, a < 5 → ∀ b, b < 5 → a ≠ b → (TX1 a).2.1 ≠ (TX1 b).2.1 := by decide +kernel
theorem tyX1_ok : ∀ k, k < 5 → parseFieldDescriptor (TX1 k).2.2.1 = some (tyX1 k) := by decide +kernel
abbrev cX1_init : ByteArray := prog_1_method_1_code
def yX1_init : MethodName := ⟨RX1, "<init>", "()V"⟩
def dkwX1_init_1 : List UInt8 := [183, 0, 15, 181, 0, 18, 42, 187, 0, 22, 89, 183, 0, 24, 181, 0, 25, 177]
abbrev dktX1_init_1 : List UInt8 := dkwX1_init_1 ++ []
def dkwX1_init_0 : List UInt8 := [42, 183, 0, 1, 42, 17, 0, 200, 188, 8, 181, 0, 9, 42, 187, 0, 13, 89, 42, 180, 0, 9]
abbrev dktX1_init_0 : List UInt8 := dkwX1_init_0 ++ dktX1_init_1
theorem dksX1_init_0 : cX1_init.data.toList.drop 0 = dktX1_init_0 := by decide +kernel
theorem dksX1_init_1 : cX1_init.data.toList.drop 22 = dktX1_init_1 := dk_seg dksX1_init_0 22 rfl rfl
theorem dX1_init_0 : decode cX1_init 0 = .ok (.aload_n 0, 1) := dk_42 (dk_at dksX1_init_0 0 rfl rfl)
theorem dX1_init_1 : decode cX1_init 1 = .ok (.invokespecial 1, 3) := dk_183 0 1 (dk_at dksX1_init_0 1 rfl rfl)
theorem dX1_init_4 : decode cX1_init 4 = .ok (.aload_n 0, 1) := dk_42 (dk_at dksX1_init_0 4 rfl rfl)
theorem dX1_init_5 : decode cX1_init 5 = .ok (.sipush 200, 3) := dk_17 0 200 (dk_at dksX1_init_0 5 rfl rfl)
theorem dX1_init_8 : decode cX1_init 8 = .ok (.newarray .byte, 2) := dk_188_8 (dk_at dksX1_init_0 8 rfl rfl)
theorem dX1_init_10 : decode cX1_init 10 = .ok (.putfield 9, 3) := dk_181 0 9 (dk_at dksX1_init_0 10 rfl rfl)
theorem dX1_init_13 : decode cX1_init 13 = .ok (.aload_n 0, 1) := dk_42 (dk_at dksX1_init_0 13 rfl rfl)
theorem dX1_init_14 : decode cX1_init 14 = .ok (.new 13, 3) := dk_187 0 13 (dk_at dksX1_init_0 14 rfl rfl)
theorem dX1_init_17 : decode cX1_init 17 = .ok (.dup, 1) := dk_89 (dk_at dksX1_init_0 17 rfl rfl)
theorem dX1_init_18 : decode cX1_init 18 = .ok (.aload_n 0, 1) := dk_42 (dk_at dksX1_init_0 18 rfl rfl)
theorem dX1_init_19 : decode cX1_init 19 = .ok (.getfield 9, 3) := dk_180 0 9 (dk_at dksX1_init_0 19 rfl rfl)
theorem dX1_init_22 : decode cX1_init 22 = .ok (.invokespecial 15, 3) := dk_183 0 15 (dk_at dksX1_init_1 0 rfl rfl)
theorem dX1_init_25 : decode cX1_init 25 = .ok (.putfield 18, 3) := dk_181 0 18 (dk_at dksX1_init_1 3 rfl rfl)
theorem dX1_init_28 : decode cX1_init 28 = .ok (.aload_n 0, 1) := dk_42 (dk_at dksX1_init_1 6 rfl rfl)
theorem dX1_init_29 : decode cX1_init 29 = .ok (.new 22, 3) := dk_187 0 22 (dk_at dksX1_init_1 7 rfl rfl)
theorem dX1_init_32 : decode cX1_init 32 = .ok (.dup, 1) := dk_89 (dk_at dksX1_init_1 10 rfl rfl)
theorem dX1_init_33 : decode cX1_init 33 = .ok (.invokespecial 24, 3) := dk_183 0 24 (dk_at dksX1_init_1 11 rfl rfl)
theorem dX1_init_36 : decode cX1_init 36 = .ok (.putfield 25, 3) := dk_181 0 25 (dk_at dksX1_init_1 14 rfl rfl)
theorem dX1_init_39 : decode cX1_init 39 = .ok (.return_, 1) := dk_177 (dk_at dksX1_init_1 17 rfl rfl)
abbrev cX1_wipe : ByteArray := prog_1_method_5_code
def yX1_wipe : MethodName := ⟨RX1, "wipe", "()I"⟩
def dkwX1_wipe_0 : List UInt8 := [42, 180, 0, 45, 60, 42, 3, 181, 0, 45, 27, 172]
abbrev dktX1_wipe_0 : List UInt8 := dkwX1_wipe_0 ++ []
theorem dksX1_wipe_0 : cX1_wipe.data.toList.drop 0 = dktX1_wipe_0 := by decide +kernel
theorem dX1_wipe_0 : decode cX1_wipe 0 = .ok (.aload_n 0, 1) := dk_42 (dk_at dksX1_wipe_0 0 rfl rfl)
theorem dX1_wipe_1 : decode cX1_wipe 1 = .ok (.getfield 45, 3) := dk_180 0 45 (dk_at dksX1_wipe_0 1 rfl rfl)
theorem dX1_wipe_4 : decode cX1_wipe 4 = .ok (.istore_n 1, 1) := dk_60 (dk_at dksX1_wipe_0 4 rfl rfl)
theorem dX1_wipe_5 : decode cX1_wipe 5 = .ok (.aload_n 0, 1) := dk_42 (dk_at dksX1_wipe_0 5 rfl rfl)
theorem dX1_wipe_6 : decode cX1_wipe 6 = .ok (.iconst 0, 1) := dk_3 (dk_at dksX1_wipe_0 6 rfl rfl)
theorem dX1_wipe_7 : decode cX1_wipe 7 = .ok (.putfield 45, 3) := dk_181 0 45 (dk_at dksX1_wipe_0 7 rfl rfl)
theorem dX1_wipe_10 : decode cX1_wipe 10 = .ok (.iload_n 1, 1) := dk_27 (dk_at dksX1_wipe_0 10 rfl rfl)
theorem dX1_wipe_11 : decode cX1_wipe 11 = .ok (.ireturn, 1) := dk_172 (dk_at dksX1_wipe_0 11 rfl rfl)
abbrev cX1_method : ByteArray := prog_1_method_7_code
def yX1_method : MethodName := ⟨RX1, "method", "()I"⟩
def dkwX1_method_4 : List UInt8 := [185, 0, 95, 3, 0, 87, 42, 180, 0, 25, 180, 0, 55, 44, 185, 0, 99, 2, 0, 87, 27, 172]
abbrev dktX1_method_4 : List UInt8 := dkwX1_method_4 ++ []
def dkwX1_method_3 : List UInt8 := [167, 0, 4, 3, 182, 0, 91, 154, 0, 5, 2, 172, 42, 180, 0, 25, 180, 0, 81, 45, 44]
abbrev dktX1_method_3 : List UInt8 := dkwX1_method_3 ++ dktX1_method_4
def dkwX1_method_2 : List UInt8 := [16, 16, 162, 0, 23, 42, 180, 0, 25, 180, 0, 81, 45, 185, 0, 85, 2, 0, 154, 0, 7, 4]
abbrev dktX1_method_2 : List UInt8 := dkwX1_method_2 ++ dktX1_method_3
def dkwX1_method_1 : List UInt8 := [182, 0, 64, 77, 44, 199, 0, 5, 2, 172, 44, 180, 0, 68, 44, 180, 0, 74, 184, 0, 77, 78, 42, 27]
abbrev dktX1_method_1 : List UInt8 := dkwX1_method_1 ++ dktX1_method_2
def dkwX1_method_0 : List UInt8 := [42, 180, 0, 25, 180, 0, 55, 185, 0, 59, 1, 0, 60, 42, 180, 0, 18, 42, 180, 0, 45, 27]
abbrev dktX1_method_0 : List UInt8 := dkwX1_method_0 ++ dktX1_method_1
theorem dksX1_method_0 : cX1_method.data.toList.drop 0 = dktX1_method_0 := by decide +kernel
theorem dksX1_method_1 : cX1_method.data.toList.drop 22 = dktX1_method_1 := dk_seg dksX1_method_0 22 rfl rfl
theorem dksX1_method_2 : cX1_method.data.toList.drop 46 = dktX1_method_2 := dk_seg dksX1_method_1 24 rfl rfl
theorem dksX1_method_3 : cX1_method.data.toList.drop 68 = dktX1_method_3 := dk_seg dksX1_method_2 22 rfl rfl
theorem dksX1_method_4 : cX1_method.data.toList.drop 89 = dktX1_method_4 := dk_seg dksX1_method_3 21 rfl rfl
theorem dX1_method_0 : decode cX1_method 0 = .ok (.aload_n 0, 1) := dk_42 (dk_at dksX1_method_0 0 rfl rfl)
theorem dX1_method_1 : decode cX1_method 1 = .ok (.getfield 25, 3) := dk_180 0 25 (dk_at dksX1_method_0 1 rfl rfl)
theorem dX1_method_4 : decode cX1_method 4 = .ok (.getfield 55, 3) := dk_180 0 55 (dk_at dksX1_method_0 4 rfl rfl)
theorem dX1_method_7 : decode cX1_method 7 = .ok (.invokeinterface 59 1, 5) := by decide +kernel
theorem dX1_method_12 : decode cX1_method 12 = .ok (.istore_n 1, 1) := dk_60 (dk_at dksX1_method_0 12 rfl rfl)
theorem dX1_method_13 : decode cX1_method 13 = .ok (.aload_n 0, 1) := dk_42 (dk_at dksX1_method_0 13 rfl rfl)
theorem dX1_method_14 : decode cX1_method 14 = .ok (.getfield 18, 3) := dk_180 0 18 (dk_at dksX1_method_0 14 rfl rfl)
theorem dX1_method_17 : decode cX1_method 17 = .ok (.aload_n 0, 1) := dk_42 (dk_at dksX1_method_0 17 rfl rfl)
theorem dX1_method_18 : decode cX1_method 18 = .ok (.getfield 45, 3) := dk_180 0 45 (dk_at dksX1_method_0 18 rfl rfl)
theorem dX1_method_21 : decode cX1_method 21 = .ok (.iload_n 1, 1) := dk_27 (dk_at dksX1_method_0 21 rfl rfl)
theorem dX1_method_22 : decode cX1_method 22 = .ok (.invokevirtual 64, 3) := dk_182 0 64 (dk_at dksX1_method_1 0 rfl rfl)
theorem dX1_method_25 : decode cX1_method 25 = .ok (.astore_n 2, 1) := dk_77 (dk_at dksX1_method_1 3 rfl rfl)
theorem dX1_method_26 : decode cX1_method 26 = .ok (.aload_n 2, 1) := dk_44 (dk_at dksX1_method_1 4 rfl rfl)
theorem dX1_method_27 : decode cX1_method 27 = .ok (.ifnonnull 5, 3) := dk_199 0 5 (dk_at dksX1_method_1 5 rfl rfl)
theorem dX1_method_30 : decode cX1_method 30 = .ok (.iconst (-1), 1) := dk_2 (dk_at dksX1_method_1 8 rfl rfl)
theorem dX1_method_31 : decode cX1_method 31 = .ok (.ireturn, 1) := dk_172 (dk_at dksX1_method_1 9 rfl rfl)
theorem dX1_method_32 : decode cX1_method 32 = .ok (.aload_n 2, 1) := dk_44 (dk_at dksX1_method_1 10 rfl rfl)
theorem dX1_method_33 : decode cX1_method 33 = .ok (.getfield 68, 3) := dk_180 0 68 (dk_at dksX1_method_1 11 rfl rfl)
theorem dX1_method_36 : decode cX1_method 36 = .ok (.aload_n 2, 1) := dk_44 (dk_at dksX1_method_1 14 rfl rfl)
theorem dX1_method_37 : decode cX1_method 37 = .ok (.getfield 74, 3) := dk_180 0 74 (dk_at dksX1_method_1 15 rfl rfl)
theorem dX1_method_40 : decode cX1_method 40 = .ok (.invokestatic 77, 3) := dk_184 0 77 (dk_at dksX1_method_1 18 rfl rfl)
theorem dX1_method_43 : decode cX1_method 43 = .ok (.astore_n 3, 1) := dk_78 (dk_at dksX1_method_1 21 rfl rfl)
theorem dX1_method_44 : decode cX1_method 44 = .ok (.aload_n 0, 1) := dk_42 (dk_at dksX1_method_1 22 rfl rfl)
theorem dX1_method_45 : decode cX1_method 45 = .ok (.iload_n 1, 1) := dk_27 (dk_at dksX1_method_1 23 rfl rfl)
theorem dX1_method_46 : decode cX1_method 46 = .ok (.bipush 16, 2) := dk_16 16 (dk_at dksX1_method_2 0 rfl rfl)
theorem dX1_method_48 : decode cX1_method 48 = .ok (.if_icmp .ge 23, 3) := dk_162 0 23 (dk_at dksX1_method_2 2 rfl rfl)
theorem dX1_method_51 : decode cX1_method 51 = .ok (.aload_n 0, 1) := dk_42 (dk_at dksX1_method_2 5 rfl rfl)
theorem dX1_method_52 : decode cX1_method 52 = .ok (.getfield 25, 3) := dk_180 0 25 (dk_at dksX1_method_2 6 rfl rfl)
theorem dX1_method_55 : decode cX1_method 55 = .ok (.getfield 81, 3) := dk_180 0 81 (dk_at dksX1_method_2 9 rfl rfl)
theorem dX1_method_58 : decode cX1_method 58 = .ok (.aload_n 3, 1) := dk_45 (dk_at dksX1_method_2 12 rfl rfl)
theorem dX1_method_59 : decode cX1_method 59 = .ok (.invokeinterface 85 2, 5) := by decide +kernel
theorem dX1_method_64 : decode cX1_method 64 = .ok (.ifCond .ne 7, 3) := dk_154 0 7 (dk_at dksX1_method_2 18 rfl rfl)
theorem dX1_method_67 : decode cX1_method 67 = .ok (.iconst 1, 1) := dk_4 (dk_at dksX1_method_2 21 rfl rfl)
theorem dX1_method_68 : decode cX1_method 68 = .ok (.goto 4, 3) := dk_167 0 4 (dk_at dksX1_method_3 0 rfl rfl)
theorem dX1_method_71 : decode cX1_method 71 = .ok (.iconst 0, 1) := dk_3 (dk_at dksX1_method_3 3 rfl rfl)
theorem dX1_method_72 : decode cX1_method 72 = .ok (.invokevirtual 91, 3) := dk_182 0 91 (dk_at dksX1_method_3 4 rfl rfl)
theorem dX1_method_75 : decode cX1_method 75 = .ok (.ifCond .ne 5, 3) := dk_154 0 5 (dk_at dksX1_method_3 7 rfl rfl)
theorem dX1_method_78 : decode cX1_method 78 = .ok (.iconst (-1), 1) := dk_2 (dk_at dksX1_method_3 10 rfl rfl)
theorem dX1_method_79 : decode cX1_method 79 = .ok (.ireturn, 1) := dk_172 (dk_at dksX1_method_3 11 rfl rfl)
theorem dX1_method_80 : decode cX1_method 80 = .ok (.aload_n 0, 1) := dk_42 (dk_at dksX1_method_3 12 rfl rfl)
theorem dX1_method_81 : decode cX1_method 81 = .ok (.getfield 25, 3) := dk_180 0 25 (dk_at dksX1_method_3 13 rfl rfl)
theorem dX1_method_84 : decode cX1_method 84 = .ok (.getfield 81, 3) := dk_180 0 81 (dk_at dksX1_method_3 16 rfl rfl)
theorem dX1_method_87 : decode cX1_method 87 = .ok (.aload_n 3, 1) := dk_45 (dk_at dksX1_method_3 19 rfl rfl)
theorem dX1_method_88 : decode cX1_method 88 = .ok (.aload_n 2, 1) := dk_44 (dk_at dksX1_method_3 20 rfl rfl)
theorem dX1_method_89 : decode cX1_method 89 = .ok (.invokeinterface 95 3, 5) := by decide +kernel
theorem dX1_method_94 : decode cX1_method 94 = .ok (.pop, 1) := dk_87 (dk_at dksX1_method_4 5 rfl rfl)
theorem dX1_method_95 : decode cX1_method 95 = .ok (.aload_n 0, 1) := dk_42 (dk_at dksX1_method_4 6 rfl rfl)
theorem dX1_method_96 : decode cX1_method 96 = .ok (.getfield 25, 3) := dk_180 0 25 (dk_at dksX1_method_4 7 rfl rfl)
theorem dX1_method_99 : decode cX1_method 99 = .ok (.getfield 55, 3) := dk_180 0 55 (dk_at dksX1_method_4 10 rfl rfl)
theorem dX1_method_102 : decode cX1_method 102 = .ok (.aload_n 2, 1) := dk_44 (dk_at dksX1_method_4 13 rfl rfl)
theorem dX1_method_103 : decode cX1_method 103 = .ok (.invokeinterface 99 2, 5) := by decide +kernel
theorem dX1_method_108 : decode cX1_method 108 = .ok (.pop, 1) := dk_87 (dk_at dksX1_method_4 19 rfl rfl)
theorem dX1_method_109 : decode cX1_method 109 = .ok (.iload_n 1, 1) := dk_27 (dk_at dksX1_method_4 20 rfl rfl)
theorem dX1_method_110 : decode cX1_method 110 = .ok (.ireturn, 1) := dk_172 (dk_at dksX1_method_4 21 rfl rfl)
abbrev cX1_atEnd : ByteArray := prog_1_method_6_code
def yX1_atEnd : MethodName := ⟨RX1, "atEnd", "(Z)Z"⟩
def dkwX1_atEnd_1 : List UInt8 := [172]
abbrev dktX1_atEnd_1 : List UInt8 := dkwX1_atEnd_1 ++ []
def dkwX1_atEnd_0 : List UInt8 := [27, 154, 0, 22, 42, 180, 0, 18, 8, 181, 0, 49, 42, 180, 0, 18, 42, 180, 0, 45, 181, 0, 52, 27]
abbrev dktX1_atEnd_0 : List UInt8 := dkwX1_atEnd_0 ++ dktX1_atEnd_1
theorem dksX1_atEnd_0 : cX1_atEnd.data.toList.drop 0 = dktX1_atEnd_0 := by decide +kernel
theorem dksX1_atEnd_1 : cX1_atEnd.data.toList.drop 24 = dktX1_atEnd_1 := dk_seg dksX1_atEnd_0 24 rfl rfl
theorem dX1_atEnd_0 : decode cX1_atEnd 0 = .ok (.iload_n 1, 1) := dk_27 (dk_at dksX1_atEnd_0 0 rfl rfl)
theorem dX1_atEnd_1 : decode cX1_atEnd 1 = .ok (.ifCond .ne 22, 3) := dk_154 0 22 (dk_at dksX1_atEnd_0 1 rfl rfl)
theorem dX1_atEnd_4 : decode cX1_atEnd 4 = .ok (.aload_n 0, 1) := dk_42 (dk_at dksX1_atEnd_0 4 rfl rfl)
theorem dX1_atEnd_5 : decode cX1_atEnd 5 = .ok (.getfield 18, 3) := dk_180 0 18 (dk_at dksX1_atEnd_0 5 rfl rfl)
theorem dX1_atEnd_8 : decode cX1_atEnd 8 = .ok (.iconst 5, 1) := dk_8 (dk_at dksX1_atEnd_0 8 rfl rfl)
theorem dX1_atEnd_9 : decode cX1_atEnd 9 = .ok (.putfield 49, 3) := dk_181 0 49 (dk_at dksX1_atEnd_0 9 rfl rfl)
theorem dX1_atEnd_12 : decode cX1_atEnd 12 = .ok (.aload_n 0, 1) := dk_42 (dk_at dksX1_atEnd_0 12 rfl rfl)
theorem dX1_atEnd_13 : decode cX1_atEnd 13 = .ok (.getfield 18, 3) := dk_180 0 18 (dk_at dksX1_atEnd_0 13 rfl rfl)
theorem dX1_atEnd_16 : decode cX1_atEnd 16 = .ok (.aload_n 0, 1) := dk_42 (dk_at dksX1_atEnd_0 16 rfl rfl)
theorem dX1_atEnd_17 : decode cX1_atEnd 17 = .ok (.getfield 45, 3) := dk_180 0 45 (dk_at dksX1_atEnd_0 17 rfl rfl)
theorem dX1_atEnd_20 : decode cX1_atEnd 20 = .ok (.putfield 52, 3) := dk_181 0 52 (dk_at dksX1_atEnd_0 20 rfl rfl)
theorem dX1_atEnd_23 : decode cX1_atEnd 23 = .ok (.iload_n 1, 1) := dk_27 (dk_at dksX1_atEnd_0 23 rfl rfl)
theorem dX1_atEnd_24 : decode cX1_atEnd 24 = .ok (.ireturn, 1) := dk_172 (dk_at dksX1_atEnd_1 0 rfl rfl)
abbrev cX1_command : ByteArray := prog_1_method_12_code
def yX1_command : MethodName := ⟨RX1, "command", "()I"⟩
def dkwX1_command_0 : List UInt8 := [42, 180, 0, 18, 42, 180, 0, 45, 182, 0, 157, 42, 182, 0, 161, 172, 76, 2, 172]
abbrev dktX1_command_0 : List UInt8 := dkwX1_command_0 ++ []
theorem dksX1_command_0 : cX1_command.data.toList.drop 0 = dktX1_command_0 := by decide +kernel
theorem dX1_command_0 : decode cX1_command 0 = .ok (.aload_n 0, 1) := dk_42 (dk_at dksX1_command_0 0 rfl rfl)
theorem dX1_command_1 : decode cX1_command 1 = .ok (.getfield 18, 3) := dk_180 0 18 (dk_at dksX1_command_0 1 rfl rfl)
theorem dX1_command_4 : decode cX1_command 4 = .ok (.aload_n 0, 1) := dk_42 (dk_at dksX1_command_0 4 rfl rfl)
theorem dX1_command_5 : decode cX1_command 5 = .ok (.getfield 45, 3) := dk_180 0 45 (dk_at dksX1_command_0 5 rfl rfl)
theorem dX1_command_8 : decode cX1_command 8 = .ok (.invokevirtual 157, 3) := dk_182 0 157 (dk_at dksX1_command_0 8 rfl rfl)
theorem dX1_command_11 : decode cX1_command 11 = .ok (.aload_n 0, 1) := dk_42 (dk_at dksX1_command_0 11 rfl rfl)
theorem dX1_command_12 : decode cX1_command 12 = .ok (.invokevirtual 161, 3) := dk_182 0 161 (dk_at dksX1_command_0 12 rfl rfl)
theorem dX1_command_15 : decode cX1_command 15 = .ok (.ireturn, 1) := dk_172 (dk_at dksX1_command_0 15 rfl rfl)
theorem dX1_command_16 : decode cX1_command 16 = .ok (.astore_n 1, 1) := dk_76 (dk_at dksX1_command_0 16 rfl rfl)
theorem dX1_command_17 : decode cX1_command 17 = .ok (.iconst (-1), 1) := dk_2 (dk_at dksX1_command_0 17 rfl rfl)
theorem dX1_command_18 : decode cX1_command 18 = .ok (.ireturn, 1) := dk_172 (dk_at dksX1_command_0 18 rfl rfl)
abbrev cX1_obey : ByteArray := prog_1_method_11_code
def yX1_obey : MethodName := ⟨RX1, "obey", "()I"⟩
def dkwX1_obey_3 : List UInt8 := [182, 0, 150, 182, 0, 154, 172]
abbrev dktX1_obey_3 : List UInt8 := dkwX1_obey_3 ++ []
def dkwX1_obey_2 : List UInt8 := [167, 0, 29, 27, 7, 160, 0, 10, 42, 182, 0, 148, 167, 0, 17, 42, 42, 180, 0, 18, 27, 4, 96]
abbrev dktX1_obey_2 : List UInt8 := dkwX1_obey_2 ++ dktX1_obey_3
def dkwX1_obey_1 : List UInt8 := [6, 18, 138, 83, 89, 7, 18, 140, 83, 182, 0, 142, 60, 27, 6, 160, 0, 10, 42, 182, 0, 146]
abbrev dktX1_obey_1 : List UInt8 := dkwX1_obey_1 ++ dktX1_obey_2
def dkwX1_obey_0 : List UInt8 := [42, 180, 0, 18, 8, 189, 0, 130, 89, 3, 18, 132, 83, 89, 4, 18, 134, 83, 89, 5, 18, 136, 83, 89]
abbrev dktX1_obey_0 : List UInt8 := dkwX1_obey_0 ++ dktX1_obey_1
theorem dksX1_obey_0 : cX1_obey.data.toList.drop 0 = dktX1_obey_0 := by decide +kernel
theorem dksX1_obey_1 : cX1_obey.data.toList.drop 24 = dktX1_obey_1 := dk_seg dksX1_obey_0 24 rfl rfl
theorem dksX1_obey_2 : cX1_obey.data.toList.drop 46 = dktX1_obey_2 := dk_seg dksX1_obey_1 22 rfl rfl
theorem dksX1_obey_3 : cX1_obey.data.toList.drop 69 = dktX1_obey_3 := dk_seg dksX1_obey_2 23 rfl rfl
theorem dX1_obey_0 : decode cX1_obey 0 = .ok (.aload_n 0, 1) := dk_42 (dk_at dksX1_obey_0 0 rfl rfl)
theorem dX1_obey_1 : decode cX1_obey 1 = .ok (.getfield 18, 3) := dk_180 0 18 (dk_at dksX1_obey_0 1 rfl rfl)
theorem dX1_obey_4 : decode cX1_obey 4 = .ok (.iconst 5, 1) := dk_8 (dk_at dksX1_obey_0 4 rfl rfl)
theorem dX1_obey_5 : decode cX1_obey 5 = .ok (.anewarray 130, 3) := dk_189 0 130 (dk_at dksX1_obey_0 5 rfl rfl)
theorem dX1_obey_8 : decode cX1_obey 8 = .ok (.dup, 1) := dk_89 (dk_at dksX1_obey_0 8 rfl rfl)
theorem dX1_obey_9 : decode cX1_obey 9 = .ok (.iconst 0, 1) := dk_3 (dk_at dksX1_obey_0 9 rfl rfl)
theorem dX1_obey_10 : decode cX1_obey 10 = .ok (.ldc 132, 2) := dk_18 132 (dk_at dksX1_obey_0 10 rfl rfl)
theorem dX1_obey_12 : decode cX1_obey 12 = .ok (.aastore, 1) := dk_83 (dk_at dksX1_obey_0 12 rfl rfl)
theorem dX1_obey_13 : decode cX1_obey 13 = .ok (.dup, 1) := dk_89 (dk_at dksX1_obey_0 13 rfl rfl)
theorem dX1_obey_14 : decode cX1_obey 14 = .ok (.iconst 1, 1) := dk_4 (dk_at dksX1_obey_0 14 rfl rfl)
theorem dX1_obey_15 : decode cX1_obey 15 = .ok (.ldc 134, 2) := dk_18 134 (dk_at dksX1_obey_0 15 rfl rfl)
theorem dX1_obey_17 : decode cX1_obey 17 = .ok (.aastore, 1) := dk_83 (dk_at dksX1_obey_0 17 rfl rfl)
theorem dX1_obey_18 : decode cX1_obey 18 = .ok (.dup, 1) := dk_89 (dk_at dksX1_obey_0 18 rfl rfl)
theorem dX1_obey_19 : decode cX1_obey 19 = .ok (.iconst 2, 1) := dk_5 (dk_at dksX1_obey_0 19 rfl rfl)
theorem dX1_obey_20 : decode cX1_obey 20 = .ok (.ldc 136, 2) := dk_18 136 (dk_at dksX1_obey_0 20 rfl rfl)
theorem dX1_obey_22 : decode cX1_obey 22 = .ok (.aastore, 1) := dk_83 (dk_at dksX1_obey_0 22 rfl rfl)
theorem dX1_obey_23 : decode cX1_obey 23 = .ok (.dup, 1) := dk_89 (dk_at dksX1_obey_0 23 rfl rfl)
theorem dX1_obey_24 : decode cX1_obey 24 = .ok (.iconst 3, 1) := dk_6 (dk_at dksX1_obey_1 0 rfl rfl)
theorem dX1_obey_25 : decode cX1_obey 25 = .ok (.ldc 138, 2) := dk_18 138 (dk_at dksX1_obey_1 1 rfl rfl)
theorem dX1_obey_27 : decode cX1_obey 27 = .ok (.aastore, 1) := dk_83 (dk_at dksX1_obey_1 3 rfl rfl)
theorem dX1_obey_28 : decode cX1_obey 28 = .ok (.dup, 1) := dk_89 (dk_at dksX1_obey_1 4 rfl rfl)
theorem dX1_obey_29 : decode cX1_obey 29 = .ok (.iconst 4, 1) := dk_7 (dk_at dksX1_obey_1 5 rfl rfl)
theorem dX1_obey_30 : decode cX1_obey 30 = .ok (.ldc 140, 2) := dk_18 140 (dk_at dksX1_obey_1 6 rfl rfl)
theorem dX1_obey_32 : decode cX1_obey 32 = .ok (.aastore, 1) := dk_83 (dk_at dksX1_obey_1 8 rfl rfl)
theorem dX1_obey_33 : decode cX1_obey 33 = .ok (.invokevirtual 142, 3) := dk_182 0 142 (dk_at dksX1_obey_1 9 rfl rfl)
theorem dX1_obey_36 : decode cX1_obey 36 = .ok (.istore_n 1, 1) := dk_60 (dk_at dksX1_obey_1 12 rfl rfl)
theorem dX1_obey_37 : decode cX1_obey 37 = .ok (.iload_n 1, 1) := dk_27 (dk_at dksX1_obey_1 13 rfl rfl)
theorem dX1_obey_38 : decode cX1_obey 38 = .ok (.iconst 3, 1) := dk_6 (dk_at dksX1_obey_1 14 rfl rfl)
theorem dX1_obey_39 : decode cX1_obey 39 = .ok (.if_icmp .ne 10, 3) := dk_160 0 10 (dk_at dksX1_obey_1 15 rfl rfl)
theorem dX1_obey_42 : decode cX1_obey 42 = .ok (.aload_n 0, 1) := dk_42 (dk_at dksX1_obey_1 18 rfl rfl)
theorem dX1_obey_43 : decode cX1_obey 43 = .ok (.invokevirtual 146, 3) := dk_182 0 146 (dk_at dksX1_obey_1 19 rfl rfl)
theorem dX1_obey_46 : decode cX1_obey 46 = .ok (.goto 29, 3) := dk_167 0 29 (dk_at dksX1_obey_2 0 rfl rfl)
theorem dX1_obey_49 : decode cX1_obey 49 = .ok (.iload_n 1, 1) := dk_27 (dk_at dksX1_obey_2 3 rfl rfl)
theorem dX1_obey_50 : decode cX1_obey 50 = .ok (.iconst 4, 1) := dk_7 (dk_at dksX1_obey_2 4 rfl rfl)
theorem dX1_obey_51 : decode cX1_obey 51 = .ok (.if_icmp .ne 10, 3) := dk_160 0 10 (dk_at dksX1_obey_2 5 rfl rfl)
theorem dX1_obey_54 : decode cX1_obey 54 = .ok (.aload_n 0, 1) := dk_42 (dk_at dksX1_obey_2 8 rfl rfl)
theorem dX1_obey_55 : decode cX1_obey 55 = .ok (.invokevirtual 148, 3) := dk_182 0 148 (dk_at dksX1_obey_2 9 rfl rfl)
theorem dX1_obey_58 : decode cX1_obey 58 = .ok (.goto 17, 3) := dk_167 0 17 (dk_at dksX1_obey_2 12 rfl rfl)
theorem dX1_obey_61 : decode cX1_obey 61 = .ok (.aload_n 0, 1) := dk_42 (dk_at dksX1_obey_2 15 rfl rfl)
theorem dX1_obey_62 : decode cX1_obey 62 = .ok (.aload_n 0, 1) := dk_42 (dk_at dksX1_obey_2 16 rfl rfl)
theorem dX1_obey_63 : decode cX1_obey 63 = .ok (.getfield 18, 3) := dk_180 0 18 (dk_at dksX1_obey_2 17 rfl rfl)
theorem dX1_obey_66 : decode cX1_obey 66 = .ok (.iload_n 1, 1) := dk_27 (dk_at dksX1_obey_2 20 rfl rfl)
theorem dX1_obey_67 : decode cX1_obey 67 = .ok (.iconst 1, 1) := dk_4 (dk_at dksX1_obey_2 21 rfl rfl)
theorem dX1_obey_68 : decode cX1_obey 68 = .ok (.iadd, 1) := dk_96 (dk_at dksX1_obey_2 22 rfl rfl)
theorem dX1_obey_69 : decode cX1_obey 69 = .ok (.invokevirtual 150, 3) := dk_182 0 150 (dk_at dksX1_obey_3 0 rfl rfl)
theorem dX1_obey_72 : decode cX1_obey 72 = .ok (.invokevirtual 154, 3) := dk_182 0 154 (dk_at dksX1_obey_3 3 rfl rfl)
theorem dX1_obey_75 : decode cX1_obey 75 = .ok (.ireturn, 1) := dk_172 (dk_at dksX1_obey_3 6 rfl rfl)
abbrev cX1_kill : ByteArray := prog_1_method_9_code
def yX1_kill : MethodName := ⟨RX1, "kill", "()I"⟩
def dkwX1_kill_2 : List UInt8 := [2, 172]
abbrev dktX1_kill_2 : List UInt8 := dkwX1_kill_2 ++ []
def dkwX1_kill_1 : List UInt8 := [184, 0, 106, 182, 0, 122, 198, 0, 7, 4, 167, 0, 4, 3, 182, 0, 91, 153, 0, 7, 27, 167, 0, 4]
abbrev dktX1_kill_1 : List UInt8 := dkwX1_kill_1 ++ dktX1_kill_2
def dkwX1_kill_0 : List UInt8 := [42, 180, 0, 18, 182, 0, 116, 60, 42, 180, 0, 18, 182, 0, 119, 42, 42, 180, 0, 25, 180, 0, 102, 27]
abbrev dktX1_kill_0 : List UInt8 := dkwX1_kill_0 ++ dktX1_kill_1
theorem dksX1_kill_0 : cX1_kill.data.toList.drop 0 = dktX1_kill_0 := by decide +kernel
theorem dksX1_kill_1 : cX1_kill.data.toList.drop 24 = dktX1_kill_1 := dk_seg dksX1_kill_0 24 rfl rfl
theorem dksX1_kill_2 : cX1_kill.data.toList.drop 48 = dktX1_kill_2 := dk_seg dksX1_kill_1 24 rfl rfl
theorem dX1_kill_0 : decode cX1_kill 0 = .ok (.aload_n 0, 1) := dk_42 (dk_at dksX1_kill_0 0 rfl rfl)
theorem dX1_kill_1 : decode cX1_kill 1 = .ok (.getfield 18, 3) := dk_180 0 18 (dk_at dksX1_kill_0 1 rfl rfl)
theorem dX1_kill_4 : decode cX1_kill 4 = .ok (.invokevirtual 116, 3) := dk_182 0 116 (dk_at dksX1_kill_0 4 rfl rfl)
theorem dX1_kill_7 : decode cX1_kill 7 = .ok (.istore_n 1, 1) := dk_60 (dk_at dksX1_kill_0 7 rfl rfl)
theorem dX1_kill_8 : decode cX1_kill 8 = .ok (.aload_n 0, 1) := dk_42 (dk_at dksX1_kill_0 8 rfl rfl)
theorem dX1_kill_9 : decode cX1_kill 9 = .ok (.getfield 18, 3) := dk_180 0 18 (dk_at dksX1_kill_0 9 rfl rfl)
theorem dX1_kill_12 : decode cX1_kill 12 = .ok (.invokevirtual 119, 3) := dk_182 0 119 (dk_at dksX1_kill_0 12 rfl rfl)
theorem dX1_kill_15 : decode cX1_kill 15 = .ok (.aload_n 0, 1) := dk_42 (dk_at dksX1_kill_0 15 rfl rfl)
theorem dX1_kill_16 : decode cX1_kill 16 = .ok (.aload_n 0, 1) := dk_42 (dk_at dksX1_kill_0 16 rfl rfl)
theorem dX1_kill_17 : decode cX1_kill 17 = .ok (.getfield 25, 3) := dk_180 0 25 (dk_at dksX1_kill_0 17 rfl rfl)
theorem dX1_kill_20 : decode cX1_kill 20 = .ok (.getfield 102, 3) := dk_180 0 102 (dk_at dksX1_kill_0 20 rfl rfl)
theorem dX1_kill_23 : decode cX1_kill 23 = .ok (.iload_n 1, 1) := dk_27 (dk_at dksX1_kill_0 23 rfl rfl)
theorem dX1_kill_24 : decode cX1_kill 24 = .ok (.invokestatic 106, 3) := dk_184 0 106 (dk_at dksX1_kill_1 0 rfl rfl)
theorem dX1_kill_27 : decode cX1_kill 27 = .ok (.invokevirtual 122, 3) := dk_182 0 122 (dk_at dksX1_kill_1 3 rfl rfl)
theorem dX1_kill_30 : decode cX1_kill 30 = .ok (.ifnull 7, 3) := dk_198 0 7 (dk_at dksX1_kill_1 6 rfl rfl)
theorem dX1_kill_33 : decode cX1_kill 33 = .ok (.iconst 1, 1) := dk_4 (dk_at dksX1_kill_1 9 rfl rfl)
theorem dX1_kill_34 : decode cX1_kill 34 = .ok (.goto 4, 3) := dk_167 0 4 (dk_at dksX1_kill_1 10 rfl rfl)
theorem dX1_kill_37 : decode cX1_kill 37 = .ok (.iconst 0, 1) := dk_3 (dk_at dksX1_kill_1 13 rfl rfl)
theorem dX1_kill_38 : decode cX1_kill 38 = .ok (.invokevirtual 91, 3) := dk_182 0 91 (dk_at dksX1_kill_1 14 rfl rfl)
theorem dX1_kill_41 : decode cX1_kill 41 = .ok (.ifCond .eq 7, 3) := dk_153 0 7 (dk_at dksX1_kill_1 17 rfl rfl)
theorem dX1_kill_44 : decode cX1_kill 44 = .ok (.iload_n 1, 1) := dk_27 (dk_at dksX1_kill_1 20 rfl rfl)
theorem dX1_kill_45 : decode cX1_kill 45 = .ok (.goto 4, 3) := dk_167 0 4 (dk_at dksX1_kill_1 21 rfl rfl)
theorem dX1_kill_48 : decode cX1_kill 48 = .ok (.iconst (-1), 1) := dk_2 (dk_at dksX1_kill_2 0 rfl rfl)
theorem dX1_kill_49 : decode cX1_kill 49 = .ok (.ireturn, 1) := dk_172 (dk_at dksX1_kill_2 1 rfl rfl)
abbrev cX1_reset : ByteArray := prog_1_method_10_code
def yX1_reset : MethodName := ⟨RX1, "reset", "()I"⟩
def dkwX1_reset_1 : List UInt8 := [180, 0, 102, 182, 0, 127, 27, 172]
abbrev dktX1_reset_1 : List UInt8 := dkwX1_reset_1 ++ []
def dkwX1_reset_0 : List UInt8 := [42, 180, 0, 18, 182, 0, 119, 42, 180, 0, 25, 180, 0, 102, 182, 0, 126, 60, 42, 180, 0, 25]
abbrev dktX1_reset_0 : List UInt8 := dkwX1_reset_0 ++ dktX1_reset_1
theorem dksX1_reset_0 : cX1_reset.data.toList.drop 0 = dktX1_reset_0 := by decide +kernel
theorem dksX1_reset_1 : cX1_reset.data.toList.drop 22 = dktX1_reset_1 := dk_seg dksX1_reset_0 22 rfl rfl
theorem dX1_reset_0 : decode cX1_reset 0 = .ok (.aload_n 0, 1) := dk_42 (dk_at dksX1_reset_0 0 rfl rfl)
theorem dX1_reset_1 : decode cX1_reset 1 = .ok (.getfield 18, 3) := dk_180 0 18 (dk_at dksX1_reset_0 1 rfl rfl)
theorem dX1_reset_4 : decode cX1_reset 4 = .ok (.invokevirtual 119, 3) := dk_182 0 119 (dk_at dksX1_reset_0 4 rfl rfl)
theorem dX1_reset_7 : decode cX1_reset 7 = .ok (.aload_n 0, 1) := dk_42 (dk_at dksX1_reset_0 7 rfl rfl)
theorem dX1_reset_8 : decode cX1_reset 8 = .ok (.getfield 25, 3) := dk_180 0 25 (dk_at dksX1_reset_0 8 rfl rfl)
theorem dX1_reset_11 : decode cX1_reset 11 = .ok (.getfield 102, 3) := dk_180 0 102 (dk_at dksX1_reset_0 11 rfl rfl)
theorem dX1_reset_14 : decode cX1_reset 14 = .ok (.invokevirtual 126, 3) := dk_182 0 126 (dk_at dksX1_reset_0 14 rfl rfl)
theorem dX1_reset_17 : decode cX1_reset 17 = .ok (.istore_n 1, 1) := dk_60 (dk_at dksX1_reset_0 17 rfl rfl)
theorem dX1_reset_18 : decode cX1_reset 18 = .ok (.aload_n 0, 1) := dk_42 (dk_at dksX1_reset_0 18 rfl rfl)
theorem dX1_reset_19 : decode cX1_reset 19 = .ok (.getfield 25, 3) := dk_180 0 25 (dk_at dksX1_reset_0 19 rfl rfl)
theorem dX1_reset_22 : decode cX1_reset 22 = .ok (.getfield 102, 3) := dk_180 0 102 (dk_at dksX1_reset_1 0 rfl rfl)
theorem dX1_reset_25 : decode cX1_reset 25 = .ok (.invokevirtual 127, 3) := dk_182 0 127 (dk_at dksX1_reset_1 3 rfl rfl)
theorem dX1_reset_28 : decode cX1_reset 28 = .ok (.iload_n 1, 1) := dk_27 (dk_at dksX1_reset_1 6 rfl rfl)
theorem dX1_reset_29 : decode cX1_reset 29 = .ok (.ireturn, 1) := dk_172 (dk_at dksX1_reset_1 7 rfl rfl)
abbrev cX1_put : ByteArray := prog_1_method_8_code
def yX1_put : MethodName := ⟨RX1, "put", "(LProbeConsole$Job;)I"⟩
def dkwX1_put_2 : List UInt8 := [180, 0, 25, 180, 0, 102, 28, 184, 0, 106, 43, 182, 0, 115, 87, 28, 172]
abbrev dktX1_put_2 : List UInt8 := dkwX1_put_2 ++ []
def dkwX1_put_1 : List UInt8 := [167, 255, 236, 42, 28, 16, 8, 162, 0, 7, 4, 167, 0, 4, 3, 182, 0, 91, 154, 0, 5, 2, 172, 42]
abbrev dktX1_put_1 : List UInt8 := dkwX1_put_1 ++ dktX1_put_2
def dkwX1_put_0 : List UInt8 := [3, 61, 42, 180, 0, 25, 180, 0, 102, 28, 184, 0, 106, 182, 0, 112, 153, 0, 9, 132, 2, 1]
abbrev dktX1_put_0 : List UInt8 := dkwX1_put_0 ++ dktX1_put_1
theorem dksX1_put_0 : cX1_put.data.toList.drop 0 = dktX1_put_0 := by decide +kernel
theorem dksX1_put_1 : cX1_put.data.toList.drop 22 = dktX1_put_1 := dk_seg dksX1_put_0 22 rfl rfl
theorem dksX1_put_2 : cX1_put.data.toList.drop 46 = dktX1_put_2 := dk_seg dksX1_put_1 24 rfl rfl
theorem dX1_put_0 : decode cX1_put 0 = .ok (.iconst 0, 1) := dk_3 (dk_at dksX1_put_0 0 rfl rfl)
theorem dX1_put_1 : decode cX1_put 1 = .ok (.istore_n 2, 1) := dk_61 (dk_at dksX1_put_0 1 rfl rfl)
theorem dX1_put_2 : decode cX1_put 2 = .ok (.aload_n 0, 1) := dk_42 (dk_at dksX1_put_0 2 rfl rfl)
theorem dX1_put_3 : decode cX1_put 3 = .ok (.getfield 25, 3) := dk_180 0 25 (dk_at dksX1_put_0 3 rfl rfl)
theorem dX1_put_6 : decode cX1_put 6 = .ok (.getfield 102, 3) := dk_180 0 102 (dk_at dksX1_put_0 6 rfl rfl)
theorem dX1_put_9 : decode cX1_put 9 = .ok (.iload_n 2, 1) := dk_28 (dk_at dksX1_put_0 9 rfl rfl)
theorem dX1_put_10 : decode cX1_put 10 = .ok (.invokestatic 106, 3) := dk_184 0 106 (dk_at dksX1_put_0 10 rfl rfl)
theorem dX1_put_13 : decode cX1_put 13 = .ok (.invokevirtual 112, 3) := dk_182 0 112 (dk_at dksX1_put_0 13 rfl rfl)
theorem dX1_put_16 : decode cX1_put 16 = .ok (.ifCond .eq 9, 3) := dk_153 0 9 (dk_at dksX1_put_0 16 rfl rfl)
theorem dX1_put_19 : decode cX1_put 19 = .ok (.iinc 2 1, 3) := dk_132 2 1 (dk_at dksX1_put_0 19 rfl rfl)
theorem dX1_put_22 : decode cX1_put 22 = .ok (.goto (-20), 3) := dk_167 255 236 (dk_at dksX1_put_1 0 rfl rfl)
theorem dX1_put_25 : decode cX1_put 25 = .ok (.aload_n 0, 1) := dk_42 (dk_at dksX1_put_1 3 rfl rfl)
theorem dX1_put_26 : decode cX1_put 26 = .ok (.iload_n 2, 1) := dk_28 (dk_at dksX1_put_1 4 rfl rfl)
theorem dX1_put_27 : decode cX1_put 27 = .ok (.bipush 8, 2) := dk_16 8 (dk_at dksX1_put_1 5 rfl rfl)
theorem dX1_put_29 : decode cX1_put 29 = .ok (.if_icmp .ge 7, 3) := dk_162 0 7 (dk_at dksX1_put_1 7 rfl rfl)
theorem dX1_put_32 : decode cX1_put 32 = .ok (.iconst 1, 1) := dk_4 (dk_at dksX1_put_1 10 rfl rfl)
theorem dX1_put_33 : decode cX1_put 33 = .ok (.goto 4, 3) := dk_167 0 4 (dk_at dksX1_put_1 11 rfl rfl)
theorem dX1_put_36 : decode cX1_put 36 = .ok (.iconst 0, 1) := dk_3 (dk_at dksX1_put_1 14 rfl rfl)
theorem dX1_put_37 : decode cX1_put 37 = .ok (.invokevirtual 91, 3) := dk_182 0 91 (dk_at dksX1_put_1 15 rfl rfl)
theorem dX1_put_40 : decode cX1_put 40 = .ok (.ifCond .ne 5, 3) := dk_154 0 5 (dk_at dksX1_put_1 18 rfl rfl)
theorem dX1_put_43 : decode cX1_put 43 = .ok (.iconst (-1), 1) := dk_2 (dk_at dksX1_put_1 21 rfl rfl)
theorem dX1_put_44 : decode cX1_put 44 = .ok (.ireturn, 1) := dk_172 (dk_at dksX1_put_1 22 rfl rfl)
theorem dX1_put_45 : decode cX1_put 45 = .ok (.aload_n 0, 1) := dk_42 (dk_at dksX1_put_1 23 rfl rfl)
theorem dX1_put_46 : decode cX1_put 46 = .ok (.getfield 25, 3) := dk_180 0 25 (dk_at dksX1_put_2 0 rfl rfl)
theorem dX1_put_49 : decode cX1_put 49 = .ok (.getfield 102, 3) := dk_180 0 102 (dk_at dksX1_put_2 3 rfl rfl)
theorem dX1_put_52 : decode cX1_put 52 = .ok (.iload_n 2, 1) := dk_28 (dk_at dksX1_put_2 6 rfl rfl)
theorem dX1_put_53 : decode cX1_put 53 = .ok (.invokestatic 106, 3) := dk_184 0 106 (dk_at dksX1_put_2 7 rfl rfl)
theorem dX1_put_56 : decode cX1_put 56 = .ok (.aload_n 1, 1) := dk_43 (dk_at dksX1_put_2 10 rfl rfl)
theorem dX1_put_57 : decode cX1_put 57 = .ok (.invokevirtual 115, 3) := dk_182 0 115 (dk_at dksX1_put_2 11 rfl rfl)
theorem dX1_put_60 : decode cX1_put 60 = .ok (.pop, 1) := dk_87 (dk_at dksX1_put_2 14 rfl rfl)
theorem dX1_put_61 : decode cX1_put 61 = .ok (.iload_n 2, 1) := dk_28 (dk_at dksX1_put_2 15 rfl rfl)
theorem dX1_put_62 : decode cX1_put 62 = .ok (.ireturn, 1) := dk_172 (dk_at dksX1_put_2 16 rfl rfl)
abbrev cX1_fault : ByteArray := prog_1_method_13_code
def yX1_fault : MethodName := ⟨RX1, "fault", "()I"⟩
def dkwX1_fault_0 : List UInt8 := [42, 180, 0, 18, 180, 0, 49, 172]
abbrev dktX1_fault_0 : List UInt8 := dkwX1_fault_0 ++ []
theorem dksX1_fault_0 : cX1_fault.data.toList.drop 0 = dktX1_fault_0 := by decide +kernel
theorem dX1_fault_0 : decode cX1_fault 0 = .ok (.aload_n 0, 1) := dk_42 (dk_at dksX1_fault_0 0 rfl rfl)
theorem dX1_fault_1 : decode cX1_fault 1 = .ok (.getfield 18, 3) := dk_180 0 18 (dk_at dksX1_fault_0 1 rfl rfl)
theorem dX1_fault_4 : decode cX1_fault 4 = .ok (.getfield 49, 3) := dk_180 0 49 (dk_at dksX1_fault_0 4 rfl rfl)
theorem dX1_fault_7 : decode cX1_fault 7 = .ok (.ireturn, 1) := dk_172 (dk_at dksX1_fault_0 7 rfl rfl)
abbrev cX1_place : ByteArray := prog_1_method_14_code
def yX1_place : MethodName := ⟨RX1, "place", "()I"⟩
def dkwX1_place_0 : List UInt8 := [42, 180, 0, 18, 180, 0, 52, 172]
abbrev dktX1_place_0 : List UInt8 := dkwX1_place_0 ++ []
theorem dksX1_place_0 : cX1_place.data.toList.drop 0 = dktX1_place_0 := by decide +kernel
theorem dX1_place_0 : decode cX1_place 0 = .ok (.aload_n 0, 1) := dk_42 (dk_at dksX1_place_0 0 rfl rfl)
theorem dX1_place_1 : decode cX1_place 1 = .ok (.getfield 18, 3) := dk_180 0 18 (dk_at dksX1_place_0 1 rfl rfl)
theorem dX1_place_4 : decode cX1_place 4 = .ok (.getfield 52, 3) := dk_180 0 52 (dk_at dksX1_place_0 4 rfl rfl)
theorem dX1_place_7 : decode cX1_place 7 = .ok (.ireturn, 1) := dk_172 (dk_at dksX1_place_0 7 rfl rfl)
abbrev cX1_value : ByteArray := prog_1_method_17_code
def yX1_value : MethodName := ⟨RX1, "value", "()I"⟩
theorem dX1_value_0 : decode cX1_value 0 = .ok (.aload_n 0, 1) := by decide +kernel
theorem dX1_value_1 : decode cX1_value 1 = .ok (.getfield 169, 3) := by decide +kernel
theorem dX1_value_4 : decode cX1_value 4 = .ok (.ireturn, 1) := by decide +kernel
abbrev cX1_invoked : ByteArray := prog_1_method_18_code
def yX1_invoked : MethodName := ⟨RX1, "invoked", "()I"⟩
def dkwX1_invoked_0 : List UInt8 := [42, 180, 0, 25, 180, 0, 185, 172]
abbrev dktX1_invoked_0 : List UInt8 := dkwX1_invoked_0 ++ []
theorem dksX1_invoked_0 : cX1_invoked.data.toList.drop 0 = dktX1_invoked_0 := by decide +kernel
theorem dX1_invoked_0 : decode cX1_invoked 0 = .ok (.aload_n 0, 1) := dk_42 (dk_at dksX1_invoked_0 0 rfl rfl)
theorem dX1_invoked_1 : decode cX1_invoked 1 = .ok (.getfield 25, 3) := dk_180 0 25 (dk_at dksX1_invoked_0 1 rfl rfl)
theorem dX1_invoked_4 : decode cX1_invoked 4 = .ok (.getfield 185, 3) := dk_180 0 185 (dk_at dksX1_invoked_0 4 rfl rfl)
theorem dX1_invoked_7 : decode cX1_invoked 7 = .ok (.ireturn, 1) := dk_172 (dk_at dksX1_invoked_0 7 rfl rfl)
abbrev cX1_records : ByteArray := prog_1_method_19_code
def yX1_records : MethodName := ⟨RX1, "records", "()I"⟩
def dkwX1_records_0 : List UInt8 := [42, 180, 0, 25, 180, 0, 188, 185, 0, 59, 1, 0, 172]
abbrev dktX1_records_0 : List UInt8 := dkwX1_records_0 ++ []
theorem dksX1_records_0 : cX1_records.data.toList.drop 0 = dktX1_records_0 := by decide +kernel
theorem dX1_records_0 : decode cX1_records 0 = .ok (.aload_n 0, 1) := dk_42 (dk_at dksX1_records_0 0 rfl rfl)
theorem dX1_records_1 : decode cX1_records 1 = .ok (.getfield 25, 3) := dk_180 0 25 (dk_at dksX1_records_0 1 rfl rfl)
theorem dX1_records_4 : decode cX1_records 4 = .ok (.getfield 188, 3) := dk_180 0 188 (dk_at dksX1_records_0 4 rfl rfl)
theorem dX1_records_7 : decode cX1_records 7 = .ok (.invokeinterface 59 1, 5) := by decide +kernel
theorem dX1_records_12 : decode cX1_records 12 = .ok (.ireturn, 1) := dk_172 (dk_at dksX1_records_0 12 rfl rfl)
abbrev cX1_clear : ByteArray := prog_1_method_21_code
def yX1_clear : MethodName := ⟨RX1, "clear", "()I"⟩
def dkwX1_clear_1 : List UInt8 := [185, 0, 206, 1, 0, 42, 180, 0, 25, 180, 0, 207, 185, 0, 206, 1, 0, 27, 172]
abbrev dktX1_clear_1 : List UInt8 := dkwX1_clear_1 ++ []
def dkwX1_clear_0 : List UInt8 := [42, 180, 0, 25, 180, 0, 188, 185, 0, 59, 1, 0, 60, 42, 180, 0, 25, 180, 0, 188]
abbrev dktX1_clear_0 : List UInt8 := dkwX1_clear_0 ++ dktX1_clear_1
theorem dksX1_clear_0 : cX1_clear.data.toList.drop 0 = dktX1_clear_0 := by decide +kernel
theorem dksX1_clear_1 : cX1_clear.data.toList.drop 20 = dktX1_clear_1 := dk_seg dksX1_clear_0 20 rfl rfl
theorem dX1_clear_0 : decode cX1_clear 0 = .ok (.aload_n 0, 1) := dk_42 (dk_at dksX1_clear_0 0 rfl rfl)
theorem dX1_clear_1 : decode cX1_clear 1 = .ok (.getfield 25, 3) := dk_180 0 25 (dk_at dksX1_clear_0 1 rfl rfl)
theorem dX1_clear_4 : decode cX1_clear 4 = .ok (.getfield 188, 3) := dk_180 0 188 (dk_at dksX1_clear_0 4 rfl rfl)
theorem dX1_clear_7 : decode cX1_clear 7 = .ok (.invokeinterface 59 1, 5) := by decide +kernel
theorem dX1_clear_12 : decode cX1_clear 12 = .ok (.istore_n 1, 1) := dk_60 (dk_at dksX1_clear_0 12 rfl rfl)
theorem dX1_clear_13 : decode cX1_clear 13 = .ok (.aload_n 0, 1) := dk_42 (dk_at dksX1_clear_0 13 rfl rfl)
theorem dX1_clear_14 : decode cX1_clear 14 = .ok (.getfield 25, 3) := dk_180 0 25 (dk_at dksX1_clear_0 14 rfl rfl)
theorem dX1_clear_17 : decode cX1_clear 17 = .ok (.getfield 188, 3) := dk_180 0 188 (dk_at dksX1_clear_0 17 rfl rfl)
theorem dX1_clear_20 : decode cX1_clear 20 = .ok (.invokeinterface 206 1, 5) := by decide +kernel
theorem dX1_clear_25 : decode cX1_clear 25 = .ok (.aload_n 0, 1) := dk_42 (dk_at dksX1_clear_1 5 rfl rfl)
theorem dX1_clear_26 : decode cX1_clear 26 = .ok (.getfield 25, 3) := dk_180 0 25 (dk_at dksX1_clear_1 6 rfl rfl)
theorem dX1_clear_29 : decode cX1_clear 29 = .ok (.getfield 207, 3) := dk_180 0 207 (dk_at dksX1_clear_1 9 rfl rfl)
theorem dX1_clear_32 : decode cX1_clear 32 = .ok (.invokeinterface 206 1, 5) := by decide +kernel
theorem dX1_clear_37 : decode cX1_clear 37 = .ok (.iload_n 1, 1) := dk_27 (dk_at dksX1_clear_1 17 rfl rfl)
theorem dX1_clear_38 : decode cX1_clear 38 = .ok (.ireturn, 1) := dk_172 (dk_at dksX1_clear_1 18 rfl rfl)
abbrev cX1_keeps : ByteArray := prog_1_method_24_code
def yX1_keeps : MethodName := ⟨RX1, "keeps", "()I"⟩
def dkwX1_keeps_0 : List UInt8 := [42, 180, 0, 25, 180, 0, 207, 185, 0, 59, 1, 0, 172]
abbrev dktX1_keeps_0 : List UInt8 := dkwX1_keeps_0 ++ []
theorem dksX1_keeps_0 : cX1_keeps.data.toList.drop 0 = dktX1_keeps_0 := by decide +kernel
theorem dX1_keeps_0 : decode cX1_keeps 0 = .ok (.aload_n 0, 1) := dk_42 (dk_at dksX1_keeps_0 0 rfl rfl)
theorem dX1_keeps_1 : decode cX1_keeps 1 = .ok (.getfield 25, 3) := dk_180 0 25 (dk_at dksX1_keeps_0 1 rfl rfl)
theorem dX1_keeps_4 : decode cX1_keeps 4 = .ok (.getfield 207, 3) := dk_180 0 207 (dk_at dksX1_keeps_0 4 rfl rfl)
theorem dX1_keeps_7 : decode cX1_keeps 7 = .ok (.invokeinterface 59 1, 5) := by decide +kernel
theorem dX1_keeps_12 : decode cX1_keeps 12 = .ok (.ireturn, 1) := dk_172 (dk_at dksX1_keeps_0 12 rfl rfl)
abbrev cX1_feed : ByteArray := prog_1_method_4_code
def yX1_feed : MethodName := ⟨RX1, "feed", "(IJ)I"⟩
def dkwX1_feed_3 : List UInt8 := [132, 4, 1, 167, 255, 219, 42, 180, 0, 45, 172]
abbrev dktX1_feed_3 : List UInt8 := dkwX1_feed_3 ++ []
def dkwX1_feed_2 : List UInt8 := [180, 0, 45, 32, 16, 8, 21, 4, 104, 123, 136, 145, 84, 42, 89, 180, 0, 45, 4, 96, 181, 0, 45]
abbrev dktX1_feed_2 : List UInt8 := dkwX1_feed_2 ++ dktX1_feed_3
def dkwX1_feed_1 : List UInt8 := [96, 17, 0, 200, 164, 0, 5, 2, 172, 3, 54, 4, 21, 4, 27, 162, 0, 37, 42, 180, 0, 9, 42]
abbrev dktX1_feed_1 : List UInt8 := dkwX1_feed_1 ++ dktX1_feed_2
def dkwX1_feed_0 : List UInt8 := [27, 4, 161, 0, 13, 27, 16, 8, 163, 0, 7, 4, 167, 0, 4, 3, 184, 0, 41, 42, 180, 0, 45, 27]
abbrev dktX1_feed_0 : List UInt8 := dkwX1_feed_0 ++ dktX1_feed_1
theorem dksX1_feed_0 : cX1_feed.data.toList.drop 0 = dktX1_feed_0 := by decide +kernel
theorem dksX1_feed_1 : cX1_feed.data.toList.drop 24 = dktX1_feed_1 := dk_seg dksX1_feed_0 24 rfl rfl
theorem dksX1_feed_2 : cX1_feed.data.toList.drop 47 = dktX1_feed_2 := dk_seg dksX1_feed_1 23 rfl rfl
theorem dksX1_feed_3 : cX1_feed.data.toList.drop 70 = dktX1_feed_3 := dk_seg dksX1_feed_2 23 rfl rfl
theorem dX1_feed_0 : decode cX1_feed 0 = .ok (.iload_n 1, 1) := dk_27 (dk_at dksX1_feed_0 0 rfl rfl)
theorem dX1_feed_1 : decode cX1_feed 1 = .ok (.iconst 1, 1) := dk_4 (dk_at dksX1_feed_0 1 rfl rfl)
theorem dX1_feed_2 : decode cX1_feed 2 = .ok (.if_icmp .lt 13, 3) := dk_161 0 13 (dk_at dksX1_feed_0 2 rfl rfl)
theorem dX1_feed_5 : decode cX1_feed 5 = .ok (.iload_n 1, 1) := dk_27 (dk_at dksX1_feed_0 5 rfl rfl)
theorem dX1_feed_6 : decode cX1_feed 6 = .ok (.bipush 8, 2) := dk_16 8 (dk_at dksX1_feed_0 6 rfl rfl)
theorem dX1_feed_8 : decode cX1_feed 8 = .ok (.if_icmp .gt 7, 3) := dk_163 0 7 (dk_at dksX1_feed_0 8 rfl rfl)
theorem dX1_feed_11 : decode cX1_feed 11 = .ok (.iconst 1, 1) := dk_4 (dk_at dksX1_feed_0 11 rfl rfl)
theorem dX1_feed_12 : decode cX1_feed 12 = .ok (.goto 4, 3) := dk_167 0 4 (dk_at dksX1_feed_0 12 rfl rfl)
theorem dX1_feed_15 : decode cX1_feed 15 = .ok (.iconst 0, 1) := dk_3 (dk_at dksX1_feed_0 15 rfl rfl)
theorem dX1_feed_16 : decode cX1_feed 16 = .ok (.invokestatic 41, 3) := dk_184 0 41 (dk_at dksX1_feed_0 16 rfl rfl)
theorem dX1_feed_19 : decode cX1_feed 19 = .ok (.aload_n 0, 1) := dk_42 (dk_at dksX1_feed_0 19 rfl rfl)
theorem dX1_feed_20 : decode cX1_feed 20 = .ok (.getfield 45, 3) := dk_180 0 45 (dk_at dksX1_feed_0 20 rfl rfl)
theorem dX1_feed_23 : decode cX1_feed 23 = .ok (.iload_n 1, 1) := dk_27 (dk_at dksX1_feed_0 23 rfl rfl)
theorem dX1_feed_24 : decode cX1_feed 24 = .ok (.iadd, 1) := dk_96 (dk_at dksX1_feed_1 0 rfl rfl)
theorem dX1_feed_25 : decode cX1_feed 25 = .ok (.sipush 200, 3) := dk_17 0 200 (dk_at dksX1_feed_1 1 rfl rfl)
theorem dX1_feed_28 : decode cX1_feed 28 = .ok (.if_icmp .le 5, 3) := dk_164 0 5 (dk_at dksX1_feed_1 4 rfl rfl)
theorem dX1_feed_31 : decode cX1_feed 31 = .ok (.iconst (-1), 1) := dk_2 (dk_at dksX1_feed_1 7 rfl rfl)
theorem dX1_feed_32 : decode cX1_feed 32 = .ok (.ireturn, 1) := dk_172 (dk_at dksX1_feed_1 8 rfl rfl)
theorem dX1_feed_33 : decode cX1_feed 33 = .ok (.iconst 0, 1) := dk_3 (dk_at dksX1_feed_1 9 rfl rfl)
theorem dX1_feed_34 : decode cX1_feed 34 = .ok (.istore 4, 2) := dk_54 4 (dk_at dksX1_feed_1 10 rfl rfl)
theorem dX1_feed_36 : decode cX1_feed 36 = .ok (.iload 4, 2) := dk_21 4 (dk_at dksX1_feed_1 12 rfl rfl)
theorem dX1_feed_38 : decode cX1_feed 38 = .ok (.iload_n 1, 1) := dk_27 (dk_at dksX1_feed_1 14 rfl rfl)
theorem dX1_feed_39 : decode cX1_feed 39 = .ok (.if_icmp .ge 37, 3) := dk_162 0 37 (dk_at dksX1_feed_1 15 rfl rfl)
theorem dX1_feed_42 : decode cX1_feed 42 = .ok (.aload_n 0, 1) := dk_42 (dk_at dksX1_feed_1 18 rfl rfl)
theorem dX1_feed_43 : decode cX1_feed 43 = .ok (.getfield 9, 3) := dk_180 0 9 (dk_at dksX1_feed_1 19 rfl rfl)
theorem dX1_feed_46 : decode cX1_feed 46 = .ok (.aload_n 0, 1) := dk_42 (dk_at dksX1_feed_1 22 rfl rfl)
theorem dX1_feed_47 : decode cX1_feed 47 = .ok (.getfield 45, 3) := dk_180 0 45 (dk_at dksX1_feed_2 0 rfl rfl)
theorem dX1_feed_50 : decode cX1_feed 50 = .ok (.lload_n 2, 1) := dk_32 (dk_at dksX1_feed_2 3 rfl rfl)
theorem dX1_feed_51 : decode cX1_feed 51 = .ok (.bipush 8, 2) := dk_16 8 (dk_at dksX1_feed_2 4 rfl rfl)
theorem dX1_feed_53 : decode cX1_feed 53 = .ok (.iload 4, 2) := dk_21 4 (dk_at dksX1_feed_2 6 rfl rfl)
theorem dX1_feed_55 : decode cX1_feed 55 = .ok (.imul, 1) := dk_104 (dk_at dksX1_feed_2 8 rfl rfl)
theorem dX1_feed_56 : decode cX1_feed 56 = .ok (.lshr, 1) := dk_123 (dk_at dksX1_feed_2 9 rfl rfl)
theorem dX1_feed_57 : decode cX1_feed 57 = .ok (.l2i, 1) := dk_136 (dk_at dksX1_feed_2 10 rfl rfl)
theorem dX1_feed_58 : decode cX1_feed 58 = .ok (.i2b, 1) := dk_145 (dk_at dksX1_feed_2 11 rfl rfl)
theorem dX1_feed_59 : decode cX1_feed 59 = .ok (.bastore, 1) := dk_84 (dk_at dksX1_feed_2 12 rfl rfl)
theorem dX1_feed_60 : decode cX1_feed 60 = .ok (.aload_n 0, 1) := dk_42 (dk_at dksX1_feed_2 13 rfl rfl)
theorem dX1_feed_61 : decode cX1_feed 61 = .ok (.dup, 1) := dk_89 (dk_at dksX1_feed_2 14 rfl rfl)
theorem dX1_feed_62 : decode cX1_feed 62 = .ok (.getfield 45, 3) := dk_180 0 45 (dk_at dksX1_feed_2 15 rfl rfl)
theorem dX1_feed_65 : decode cX1_feed 65 = .ok (.iconst 1, 1) := dk_4 (dk_at dksX1_feed_2 18 rfl rfl)
theorem dX1_feed_66 : decode cX1_feed 66 = .ok (.iadd, 1) := dk_96 (dk_at dksX1_feed_2 19 rfl rfl)
theorem dX1_feed_67 : decode cX1_feed 67 = .ok (.putfield 45, 3) := dk_181 0 45 (dk_at dksX1_feed_2 20 rfl rfl)
theorem dX1_feed_70 : decode cX1_feed 70 = .ok (.iinc 4 1, 3) := dk_132 4 1 (dk_at dksX1_feed_3 0 rfl rfl)
theorem dX1_feed_73 : decode cX1_feed 73 = .ok (.goto (-37), 3) := dk_167 255 219 (dk_at dksX1_feed_3 3 rfl rfl)
theorem dX1_feed_76 : decode cX1_feed 76 = .ok (.aload_n 0, 1) := dk_42 (dk_at dksX1_feed_3 6 rfl rfl)
theorem dX1_feed_77 : decode cX1_feed 77 = .ok (.getfield 45, 3) := dk_180 0 45 (dk_at dksX1_feed_3 7 rfl rfl)
theorem dX1_feed_80 : decode cX1_feed 80 = .ok (.ireturn, 1) := dk_172 (dk_at dksX1_feed_3 10 rfl rfl)
abbrev cX1_fits : ByteArray := prog_1_method_2_code
def yX1_fits : MethodName := ⟨RX1, "fits", "(Z)V"⟩
def dkwX1_fits_0 : List UInt8 := [26, 154, 0, 13, 187, 0, 29, 89, 18, 31, 183, 0, 33, 191, 177]
abbrev dktX1_fits_0 : List UInt8 := dkwX1_fits_0 ++ []
theorem dksX1_fits_0 : cX1_fits.data.toList.drop 0 = dktX1_fits_0 := by decide +kernel
theorem dX1_fits_0 : decode cX1_fits 0 = .ok (.iload_n 0, 1) := dk_26 (dk_at dksX1_fits_0 0 rfl rfl)
theorem dX1_fits_1 : decode cX1_fits 1 = .ok (.ifCond .ne 13, 3) := dk_154 0 13 (dk_at dksX1_fits_0 1 rfl rfl)
theorem dX1_fits_4 : decode cX1_fits 4 = .ok (.new 29, 3) := dk_187 0 29 (dk_at dksX1_fits_0 4 rfl rfl)
theorem dX1_fits_7 : decode cX1_fits 7 = .ok (.dup, 1) := dk_89 (dk_at dksX1_fits_0 7 rfl rfl)
theorem dX1_fits_8 : decode cX1_fits 8 = .ok (.ldc 31, 2) := dk_18 31 (dk_at dksX1_fits_0 8 rfl rfl)
theorem dX1_fits_10 : decode cX1_fits 10 = .ok (.invokespecial 33, 3) := dk_183 0 33 (dk_at dksX1_fits_0 10 rfl rfl)
theorem dX1_fits_13 : decode cX1_fits 13 = .ok (.athrow, 1) := dk_191 (dk_at dksX1_fits_0 13 rfl rfl)
theorem dX1_fits_14 : decode cX1_fits 14 = .ok (.return_, 1) := dk_177 (dk_at dksX1_fits_0 14 rfl rfl)
abbrev cX1_call : ByteArray := prog_1_method_16_code
def yX1_call : MethodName := ⟨RX1, "call", "(IIII)I"⟩
def dkwX1_call_1 : List UInt8 := [27, 185, 0, 180, 2, 0, 192, 0, 69, 28, 29, 21, 4, 3, 182, 0, 184, 172]
abbrev dktX1_call_1 : List UInt8 := dkwX1_call_1 ++ []
def dkwX1_call_0 : List UInt8 := [27, 42, 180, 0, 25, 180, 0, 55, 185, 0, 59, 1, 0, 184, 0, 176, 42, 42, 180, 0, 25, 180, 0, 55]
abbrev dktX1_call_0 : List UInt8 := dkwX1_call_0 ++ dktX1_call_1
theorem dksX1_call_0 : cX1_call.data.toList.drop 0 = dktX1_call_0 := by decide +kernel
theorem dksX1_call_1 : cX1_call.data.toList.drop 24 = dktX1_call_1 := dk_seg dksX1_call_0 24 rfl rfl
theorem dX1_call_0 : decode cX1_call 0 = .ok (.iload_n 1, 1) := dk_27 (dk_at dksX1_call_0 0 rfl rfl)
theorem dX1_call_1 : decode cX1_call 1 = .ok (.aload_n 0, 1) := dk_42 (dk_at dksX1_call_0 1 rfl rfl)
theorem dX1_call_2 : decode cX1_call 2 = .ok (.getfield 25, 3) := dk_180 0 25 (dk_at dksX1_call_0 2 rfl rfl)
theorem dX1_call_5 : decode cX1_call 5 = .ok (.getfield 55, 3) := dk_180 0 55 (dk_at dksX1_call_0 5 rfl rfl)
theorem dX1_call_8 : decode cX1_call 8 = .ok (.invokeinterface 59 1, 5) := by decide +kernel
theorem dX1_call_13 : decode cX1_call 13 = .ok (.invokestatic 176, 3) := dk_184 0 176 (dk_at dksX1_call_0 13 rfl rfl)
theorem dX1_call_16 : decode cX1_call 16 = .ok (.aload_n 0, 1) := dk_42 (dk_at dksX1_call_0 16 rfl rfl)
theorem dX1_call_17 : decode cX1_call 17 = .ok (.aload_n 0, 1) := dk_42 (dk_at dksX1_call_0 17 rfl rfl)
theorem dX1_call_18 : decode cX1_call 18 = .ok (.getfield 25, 3) := dk_180 0 25 (dk_at dksX1_call_0 18 rfl rfl)
theorem dX1_call_21 : decode cX1_call 21 = .ok (.getfield 55, 3) := dk_180 0 55 (dk_at dksX1_call_0 21 rfl rfl)
theorem dX1_call_24 : decode cX1_call 24 = .ok (.iload_n 1, 1) := dk_27 (dk_at dksX1_call_1 0 rfl rfl)
theorem dX1_call_25 : decode cX1_call 25 = .ok (.invokeinterface 180 2, 5) := by decide +kernel
theorem dX1_call_30 : decode cX1_call 30 = .ok (.checkcast 69, 3) := dk_192 0 69 (dk_at dksX1_call_1 6 rfl rfl)
theorem dX1_call_33 : decode cX1_call 33 = .ok (.iload_n 2, 1) := dk_28 (dk_at dksX1_call_1 9 rfl rfl)
theorem dX1_call_34 : decode cX1_call 34 = .ok (.iload_n 3, 1) := dk_29 (dk_at dksX1_call_1 10 rfl rfl)
theorem dX1_call_35 : decode cX1_call 35 = .ok (.iload 4, 2) := dk_21 4 (dk_at dksX1_call_1 11 rfl rfl)
theorem dX1_call_37 : decode cX1_call 37 = .ok (.iconst 0, 1) := dk_3 (dk_at dksX1_call_1 13 rfl rfl)
theorem dX1_call_38 : decode cX1_call 38 = .ok (.invokevirtual 184, 3) := dk_182 0 184 (dk_at dksX1_call_1 14 rfl rfl)
theorem dX1_call_41 : decode cX1_call 41 = .ok (.ireturn, 1) := dk_172 (dk_at dksX1_call_1 17 rfl rfl)
abbrev cX1_lies : ByteArray := prog_1_method_3_code
def yX1_lies : MethodName := ⟨RX1, "lies", "(II)V"⟩
def dkwX1_lies_0 : List UInt8 := [26, 155, 0, 8, 26, 27, 161, 0, 13, 187, 0, 36, 89, 18, 38, 183, 0, 40, 191, 177]
abbrev dktX1_lies_0 : List UInt8 := dkwX1_lies_0 ++ []
theorem dksX1_lies_0 : cX1_lies.data.toList.drop 0 = dktX1_lies_0 := by decide +kernel
theorem dX1_lies_0 : decode cX1_lies 0 = .ok (.iload_n 0, 1) := dk_26 (dk_at dksX1_lies_0 0 rfl rfl)
theorem dX1_lies_1 : decode cX1_lies 1 = .ok (.ifCond .lt 8, 3) := dk_155 0 8 (dk_at dksX1_lies_0 1 rfl rfl)
theorem dX1_lies_4 : decode cX1_lies 4 = .ok (.iload_n 0, 1) := dk_26 (dk_at dksX1_lies_0 4 rfl rfl)
theorem dX1_lies_5 : decode cX1_lies 5 = .ok (.iload_n 1, 1) := dk_27 (dk_at dksX1_lies_0 5 rfl rfl)
theorem dX1_lies_6 : decode cX1_lies 6 = .ok (.if_icmp .lt 13, 3) := dk_161 0 13 (dk_at dksX1_lies_0 6 rfl rfl)
theorem dX1_lies_9 : decode cX1_lies 9 = .ok (.new 36, 3) := dk_187 0 36 (dk_at dksX1_lies_0 9 rfl rfl)
theorem dX1_lies_12 : decode cX1_lies 12 = .ok (.dup, 1) := dk_89 (dk_at dksX1_lies_0 12 rfl rfl)
theorem dX1_lies_13 : decode cX1_lies 13 = .ok (.ldc 38, 2) := dk_18 38 (dk_at dksX1_lies_0 13 rfl rfl)
theorem dX1_lies_15 : decode cX1_lies 15 = .ok (.invokespecial 40, 3) := dk_183 0 40 (dk_at dksX1_lies_0 15 rfl rfl)
theorem dX1_lies_18 : decode cX1_lies 18 = .ok (.athrow, 1) := dk_191 (dk_at dksX1_lies_0 18 rfl rfl)
theorem dX1_lies_19 : decode cX1_lies 19 = .ok (.return_, 1) := dk_177 (dk_at dksX1_lies_0 19 rfl rfl)
abbrev cX1_begin : ByteArray := prog_1_method_15_code
def yX1_begin : MethodName := ⟨RX1, "begin", "(LProbeConsole$Method;IIIZ)I"⟩
def dkwX1_begin_1 : List UInt8 := [180, 0, 172, 153, 0, 7, 4, 167, 0, 4, 3, 172]
abbrev dktX1_begin_1 : List UInt8 := dkwX1_begin_1 ++ []
def dkwX1_begin_0 : List UInt8 := [42, 42, 180, 0, 25, 43, 28, 29, 21, 4, 21, 5, 182, 0, 166, 181, 0, 169, 42, 180, 0, 25]
abbrev dktX1_begin_0 : List UInt8 := dkwX1_begin_0 ++ dktX1_begin_1
theorem dksX1_begin_0 : cX1_begin.data.toList.drop 0 = dktX1_begin_0 := by decide +kernel
theorem dksX1_begin_1 : cX1_begin.data.toList.drop 22 = dktX1_begin_1 := dk_seg dksX1_begin_0 22 rfl rfl
theorem dX1_begin_0 : decode cX1_begin 0 = .ok (.aload_n 0, 1) := dk_42 (dk_at dksX1_begin_0 0 rfl rfl)
theorem dX1_begin_1 : decode cX1_begin 1 = .ok (.aload_n 0, 1) := dk_42 (dk_at dksX1_begin_0 1 rfl rfl)
theorem dX1_begin_2 : decode cX1_begin 2 = .ok (.getfield 25, 3) := dk_180 0 25 (dk_at dksX1_begin_0 2 rfl rfl)
theorem dX1_begin_5 : decode cX1_begin 5 = .ok (.aload_n 1, 1) := dk_43 (dk_at dksX1_begin_0 5 rfl rfl)
theorem dX1_begin_6 : decode cX1_begin 6 = .ok (.iload_n 2, 1) := dk_28 (dk_at dksX1_begin_0 6 rfl rfl)
theorem dX1_begin_7 : decode cX1_begin 7 = .ok (.iload_n 3, 1) := dk_29 (dk_at dksX1_begin_0 7 rfl rfl)
theorem dX1_begin_8 : decode cX1_begin 8 = .ok (.iload 4, 2) := dk_21 4 (dk_at dksX1_begin_0 8 rfl rfl)
theorem dX1_begin_10 : decode cX1_begin 10 = .ok (.iload 5, 2) := dk_21 5 (dk_at dksX1_begin_0 10 rfl rfl)
theorem dX1_begin_12 : decode cX1_begin 12 = .ok (.invokevirtual 166, 3) := dk_182 0 166 (dk_at dksX1_begin_0 12 rfl rfl)
theorem dX1_begin_15 : decode cX1_begin 15 = .ok (.putfield 169, 3) := dk_181 0 169 (dk_at dksX1_begin_0 15 rfl rfl)
theorem dX1_begin_18 : decode cX1_begin 18 = .ok (.aload_n 0, 1) := dk_42 (dk_at dksX1_begin_0 18 rfl rfl)
theorem dX1_begin_19 : decode cX1_begin 19 = .ok (.getfield 25, 3) := dk_180 0 25 (dk_at dksX1_begin_0 19 rfl rfl)
theorem dX1_begin_22 : decode cX1_begin 22 = .ok (.getfield 172, 3) := dk_180 0 172 (dk_at dksX1_begin_1 0 rfl rfl)
theorem dX1_begin_25 : decode cX1_begin 25 = .ok (.ifCond .eq 7, 3) := dk_153 0 7 (dk_at dksX1_begin_1 3 rfl rfl)
theorem dX1_begin_28 : decode cX1_begin 28 = .ok (.iconst 1, 1) := dk_4 (dk_at dksX1_begin_1 6 rfl rfl)
theorem dX1_begin_29 : decode cX1_begin 29 = .ok (.goto 4, 3) := dk_167 0 4 (dk_at dksX1_begin_1 7 rfl rfl)
theorem dX1_begin_32 : decode cX1_begin 32 = .ok (.iconst 0, 1) := dk_3 (dk_at dksX1_begin_1 10 rfl rfl)
theorem dX1_begin_33 : decode cX1_begin 33 = .ok (.ireturn, 1) := dk_172 (dk_at dksX1_begin_1 11 rfl rfl)
abbrev cX1_record : ByteArray := prog_1_method_20_code
def yX1_record : MethodName := ⟨RX1, "record", "(II)I"⟩
def dkwX1_record_5 : List UInt8 := [182, 0, 199, 153, 0, 7, 4, 167, 0, 11, 3, 167, 0, 7, 45, 182, 0, 203, 172]
abbrev dktX1_record_5 : List UInt8 := dkwX1_record_5 ++ []
def dkwX1_record_4 : List UInt8 := [45, 182, 0, 193, 167, 0, 36, 45, 182, 0, 195, 167, 0, 29, 45, 182, 0, 197, 167, 0, 22, 45]
abbrev dktX1_record_4 : List UInt8 := dkwX1_record_4 ++ dktX1_record_5
def dkwX1_record_3 : List UInt8 := [170, 0, 0, 0, 65, 0, 0, 0, 0, 0, 0, 0, 3, 0, 0, 0, 29, 0, 0, 0, 36, 0, 0, 0, 43, 0, 0, 0, 50]
abbrev dktX1_record_3 : List UInt8 := dkwX1_record_3 ++ dktX1_record_4
def dkwX1_record_2 : List UInt8 := [192, 0, 191, 78, 28]
abbrev dktX1_record_2 : List UInt8 := dkwX1_record_2 ++ dktX1_record_3
def dkwX1_record_1 : List UInt8 := [163, 0, 7, 4, 167, 0, 4, 3, 184, 0, 41, 42, 180, 0, 25, 180, 0, 188, 27, 185, 0, 180, 2, 0]
abbrev dktX1_record_1 : List UInt8 := dkwX1_record_1 ++ dktX1_record_2
def dkwX1_record_0 : List UInt8 := [27, 42, 180, 0, 25, 180, 0, 188, 185, 0, 59, 1, 0, 184, 0, 176, 28, 155, 0, 12, 28, 7]
abbrev dktX1_record_0 : List UInt8 := dkwX1_record_0 ++ dktX1_record_1
theorem dksX1_record_0 : cX1_record.data.toList.drop 0 = dktX1_record_0 := by decide +kernel
theorem dksX1_record_1 : cX1_record.data.toList.drop 22 = dktX1_record_1 := dk_seg dksX1_record_0 22 rfl rfl
theorem dksX1_record_2 : cX1_record.data.toList.drop 46 = dktX1_record_2 := dk_seg dksX1_record_1 24 rfl rfl
theorem dksX1_record_3 : cX1_record.data.toList.drop 51 = dktX1_record_3 := dk_seg dksX1_record_2 5 rfl rfl
theorem dksX1_record_4 : cX1_record.data.toList.drop 80 = dktX1_record_4 := dk_seg dksX1_record_3 29 rfl rfl
theorem dksX1_record_5 : cX1_record.data.toList.drop 102 = dktX1_record_5 := dk_seg dksX1_record_4 22 rfl rfl
theorem dX1_record_0 : decode cX1_record 0 = .ok (.iload_n 1, 1) := dk_27 (dk_at dksX1_record_0 0 rfl rfl)
theorem dX1_record_1 : decode cX1_record 1 = .ok (.aload_n 0, 1) := dk_42 (dk_at dksX1_record_0 1 rfl rfl)
theorem dX1_record_2 : decode cX1_record 2 = .ok (.getfield 25, 3) := dk_180 0 25 (dk_at dksX1_record_0 2 rfl rfl)
theorem dX1_record_5 : decode cX1_record 5 = .ok (.getfield 188, 3) := dk_180 0 188 (dk_at dksX1_record_0 5 rfl rfl)
theorem dX1_record_8 : decode cX1_record 8 = .ok (.invokeinterface 59 1, 5) := by decide +kernel
theorem dX1_record_13 : decode cX1_record 13 = .ok (.invokestatic 176, 3) := dk_184 0 176 (dk_at dksX1_record_0 13 rfl rfl)
theorem dX1_record_16 : decode cX1_record 16 = .ok (.iload_n 2, 1) := dk_28 (dk_at dksX1_record_0 16 rfl rfl)
theorem dX1_record_17 : decode cX1_record 17 = .ok (.ifCond .lt 12, 3) := dk_155 0 12 (dk_at dksX1_record_0 17 rfl rfl)
theorem dX1_record_20 : decode cX1_record 20 = .ok (.iload_n 2, 1) := dk_28 (dk_at dksX1_record_0 20 rfl rfl)
theorem dX1_record_21 : decode cX1_record 21 = .ok (.iconst 4, 1) := dk_7 (dk_at dksX1_record_0 21 rfl rfl)
theorem dX1_record_22 : decode cX1_record 22 = .ok (.if_icmp .gt 7, 3) := dk_163 0 7 (dk_at dksX1_record_1 0 rfl rfl)
theorem dX1_record_25 : decode cX1_record 25 = .ok (.iconst 1, 1) := dk_4 (dk_at dksX1_record_1 3 rfl rfl)
theorem dX1_record_26 : decode cX1_record 26 = .ok (.goto 4, 3) := dk_167 0 4 (dk_at dksX1_record_1 4 rfl rfl)
theorem dX1_record_29 : decode cX1_record 29 = .ok (.iconst 0, 1) := dk_3 (dk_at dksX1_record_1 7 rfl rfl)
theorem dX1_record_30 : decode cX1_record 30 = .ok (.invokestatic 41, 3) := dk_184 0 41 (dk_at dksX1_record_1 8 rfl rfl)
theorem dX1_record_33 : decode cX1_record 33 = .ok (.aload_n 0, 1) := dk_42 (dk_at dksX1_record_1 11 rfl rfl)
theorem dX1_record_34 : decode cX1_record 34 = .ok (.getfield 25, 3) := dk_180 0 25 (dk_at dksX1_record_1 12 rfl rfl)
theorem dX1_record_37 : decode cX1_record 37 = .ok (.getfield 188, 3) := dk_180 0 188 (dk_at dksX1_record_1 15 rfl rfl)
theorem dX1_record_40 : decode cX1_record 40 = .ok (.iload_n 1, 1) := dk_27 (dk_at dksX1_record_1 18 rfl rfl)
theorem dX1_record_41 : decode cX1_record 41 = .ok (.invokeinterface 180 2, 5) := by decide +kernel
theorem dX1_record_46 : decode cX1_record 46 = .ok (.checkcast 191, 3) := dk_192 0 191 (dk_at dksX1_record_2 0 rfl rfl)
theorem dX1_record_49 : decode cX1_record 49 = .ok (.astore_n 3, 1) := dk_78 (dk_at dksX1_record_2 3 rfl rfl)
theorem dX1_record_50 : decode cX1_record 50 = .ok (.iload_n 2, 1) := dk_28 (dk_at dksX1_record_2 4 rfl rfl)
theorem dX1_record_51 : decode cX1_record 51 = .ok (.tableswitch 65 0 3 #[29, 36, 43, 50], 29) := by decide +kernel
theorem dX1_record_80 : decode cX1_record 80 = .ok (.aload_n 3, 1) := dk_45 (dk_at dksX1_record_4 0 rfl rfl)
theorem dX1_record_81 : decode cX1_record 81 = .ok (.invokevirtual 193, 3) := dk_182 0 193 (dk_at dksX1_record_4 1 rfl rfl)
theorem dX1_record_84 : decode cX1_record 84 = .ok (.goto 36, 3) := dk_167 0 36 (dk_at dksX1_record_4 4 rfl rfl)
theorem dX1_record_87 : decode cX1_record 87 = .ok (.aload_n 3, 1) := dk_45 (dk_at dksX1_record_4 7 rfl rfl)
theorem dX1_record_88 : decode cX1_record 88 = .ok (.invokevirtual 195, 3) := dk_182 0 195 (dk_at dksX1_record_4 8 rfl rfl)
theorem dX1_record_91 : decode cX1_record 91 = .ok (.goto 29, 3) := dk_167 0 29 (dk_at dksX1_record_4 11 rfl rfl)
theorem dX1_record_94 : decode cX1_record 94 = .ok (.aload_n 3, 1) := dk_45 (dk_at dksX1_record_4 14 rfl rfl)
theorem dX1_record_95 : decode cX1_record 95 = .ok (.invokevirtual 197, 3) := dk_182 0 197 (dk_at dksX1_record_4 15 rfl rfl)
theorem dX1_record_98 : decode cX1_record 98 = .ok (.goto 22, 3) := dk_167 0 22 (dk_at dksX1_record_4 18 rfl rfl)
theorem dX1_record_101 : decode cX1_record 101 = .ok (.aload_n 3, 1) := dk_45 (dk_at dksX1_record_4 21 rfl rfl)
theorem dX1_record_102 : decode cX1_record 102 = .ok (.invokevirtual 199, 3) := dk_182 0 199 (dk_at dksX1_record_5 0 rfl rfl)
theorem dX1_record_105 : decode cX1_record 105 = .ok (.ifCond .eq 7, 3) := dk_153 0 7 (dk_at dksX1_record_5 3 rfl rfl)
theorem dX1_record_108 : decode cX1_record 108 = .ok (.iconst 1, 1) := dk_4 (dk_at dksX1_record_5 6 rfl rfl)
theorem dX1_record_109 : decode cX1_record 109 = .ok (.goto 11, 3) := dk_167 0 11 (dk_at dksX1_record_5 7 rfl rfl)
theorem dX1_record_112 : decode cX1_record 112 = .ok (.iconst 0, 1) := dk_3 (dk_at dksX1_record_5 10 rfl rfl)
theorem dX1_record_113 : decode cX1_record 113 = .ok (.goto 7, 3) := dk_167 0 7 (dk_at dksX1_record_5 11 rfl rfl)
theorem dX1_record_116 : decode cX1_record 116 = .ok (.aload_n 3, 1) := dk_45 (dk_at dksX1_record_5 14 rfl rfl)
theorem dX1_record_117 : decode cX1_record 117 = .ok (.invokevirtual 203, 3) := dk_182 0 203 (dk_at dksX1_record_5 15 rfl rfl)
theorem dX1_record_120 : decode cX1_record 120 = .ok (.ireturn, 1) := dk_172 (dk_at dksX1_record_5 18 rfl rfl)
abbrev cX1_job : ByteArray := prog_1_method_22_code
def yX1_job : MethodName := ⟨RX1, "job", "(II)I"⟩
def dkwX1_job_3 : List UInt8 := [180, 0, 220, 100, 167, 0, 4, 3, 172]
abbrev dktX1_job_3 : List UInt8 := dkwX1_job_3 ++ []
def dkwX1_job_2 : List UInt8 := [154, 0, 10, 45, 180, 0, 214, 167, 0, 24, 45, 180, 0, 214, 4, 160, 0, 15, 45, 180, 0, 217, 45]
abbrev dktX1_job_2 : List UInt8 := dkwX1_job_2 ++ dktX1_job_3
def dkwX1_job_1 : List UInt8 := [180, 0, 25, 180, 0, 102, 27, 184, 0, 106, 182, 0, 210, 192, 0, 212, 78, 45, 199, 0, 5, 3, 172, 28]
abbrev dktX1_job_1 : List UInt8 := dkwX1_job_1 ++ dktX1_job_2
def dkwX1_job_0 : List UInt8 := [27, 16, 8, 184, 0, 176, 28, 155, 0, 12, 28, 4, 163, 0, 7, 4, 167, 0, 4, 3, 184, 0, 41, 42]
abbrev dktX1_job_0 : List UInt8 := dkwX1_job_0 ++ dktX1_job_1
theorem dksX1_job_0 : cX1_job.data.toList.drop 0 = dktX1_job_0 := by decide +kernel
theorem dksX1_job_1 : cX1_job.data.toList.drop 24 = dktX1_job_1 := dk_seg dksX1_job_0 24 rfl rfl
theorem dksX1_job_2 : cX1_job.data.toList.drop 48 = dktX1_job_2 := dk_seg dksX1_job_1 24 rfl rfl
theorem dksX1_job_3 : cX1_job.data.toList.drop 71 = dktX1_job_3 := dk_seg dksX1_job_2 23 rfl rfl
theorem dX1_job_0 : decode cX1_job 0 = .ok (.iload_n 1, 1) := dk_27 (dk_at dksX1_job_0 0 rfl rfl)
theorem dX1_job_1 : decode cX1_job 1 = .ok (.bipush 8, 2) := dk_16 8 (dk_at dksX1_job_0 1 rfl rfl)
theorem dX1_job_3 : decode cX1_job 3 = .ok (.invokestatic 176, 3) := dk_184 0 176 (dk_at dksX1_job_0 3 rfl rfl)
theorem dX1_job_6 : decode cX1_job 6 = .ok (.iload_n 2, 1) := dk_28 (dk_at dksX1_job_0 6 rfl rfl)
theorem dX1_job_7 : decode cX1_job 7 = .ok (.ifCond .lt 12, 3) := dk_155 0 12 (dk_at dksX1_job_0 7 rfl rfl)
theorem dX1_job_10 : decode cX1_job 10 = .ok (.iload_n 2, 1) := dk_28 (dk_at dksX1_job_0 10 rfl rfl)
theorem dX1_job_11 : decode cX1_job 11 = .ok (.iconst 1, 1) := dk_4 (dk_at dksX1_job_0 11 rfl rfl)
theorem dX1_job_12 : decode cX1_job 12 = .ok (.if_icmp .gt 7, 3) := dk_163 0 7 (dk_at dksX1_job_0 12 rfl rfl)
theorem dX1_job_15 : decode cX1_job 15 = .ok (.iconst 1, 1) := dk_4 (dk_at dksX1_job_0 15 rfl rfl)
theorem dX1_job_16 : decode cX1_job 16 = .ok (.goto 4, 3) := dk_167 0 4 (dk_at dksX1_job_0 16 rfl rfl)
theorem dX1_job_19 : decode cX1_job 19 = .ok (.iconst 0, 1) := dk_3 (dk_at dksX1_job_0 19 rfl rfl)
theorem dX1_job_20 : decode cX1_job 20 = .ok (.invokestatic 41, 3) := dk_184 0 41 (dk_at dksX1_job_0 20 rfl rfl)
theorem dX1_job_23 : decode cX1_job 23 = .ok (.aload_n 0, 1) := dk_42 (dk_at dksX1_job_0 23 rfl rfl)
theorem dX1_job_24 : decode cX1_job 24 = .ok (.getfield 25, 3) := dk_180 0 25 (dk_at dksX1_job_1 0 rfl rfl)
theorem dX1_job_27 : decode cX1_job 27 = .ok (.getfield 102, 3) := dk_180 0 102 (dk_at dksX1_job_1 3 rfl rfl)
theorem dX1_job_30 : decode cX1_job 30 = .ok (.iload_n 1, 1) := dk_27 (dk_at dksX1_job_1 6 rfl rfl)
theorem dX1_job_31 : decode cX1_job 31 = .ok (.invokestatic 106, 3) := dk_184 0 106 (dk_at dksX1_job_1 7 rfl rfl)
theorem dX1_job_34 : decode cX1_job 34 = .ok (.invokevirtual 210, 3) := dk_182 0 210 (dk_at dksX1_job_1 10 rfl rfl)
theorem dX1_job_37 : decode cX1_job 37 = .ok (.checkcast 212, 3) := dk_192 0 212 (dk_at dksX1_job_1 13 rfl rfl)
theorem dX1_job_40 : decode cX1_job 40 = .ok (.astore_n 3, 1) := dk_78 (dk_at dksX1_job_1 16 rfl rfl)
theorem dX1_job_41 : decode cX1_job 41 = .ok (.aload_n 3, 1) := dk_45 (dk_at dksX1_job_1 17 rfl rfl)
theorem dX1_job_42 : decode cX1_job 42 = .ok (.ifnonnull 5, 3) := dk_199 0 5 (dk_at dksX1_job_1 18 rfl rfl)
theorem dX1_job_45 : decode cX1_job 45 = .ok (.iconst 0, 1) := dk_3 (dk_at dksX1_job_1 21 rfl rfl)
theorem dX1_job_46 : decode cX1_job 46 = .ok (.ireturn, 1) := dk_172 (dk_at dksX1_job_1 22 rfl rfl)
theorem dX1_job_47 : decode cX1_job 47 = .ok (.iload_n 2, 1) := dk_28 (dk_at dksX1_job_1 23 rfl rfl)
theorem dX1_job_48 : decode cX1_job 48 = .ok (.ifCond .ne 10, 3) := dk_154 0 10 (dk_at dksX1_job_2 0 rfl rfl)
theorem dX1_job_51 : decode cX1_job 51 = .ok (.aload_n 3, 1) := dk_45 (dk_at dksX1_job_2 3 rfl rfl)
theorem dX1_job_52 : decode cX1_job 52 = .ok (.getfield 214, 3) := dk_180 0 214 (dk_at dksX1_job_2 4 rfl rfl)
theorem dX1_job_55 : decode cX1_job 55 = .ok (.goto 24, 3) := dk_167 0 24 (dk_at dksX1_job_2 7 rfl rfl)
theorem dX1_job_58 : decode cX1_job 58 = .ok (.aload_n 3, 1) := dk_45 (dk_at dksX1_job_2 10 rfl rfl)
theorem dX1_job_59 : decode cX1_job 59 = .ok (.getfield 214, 3) := dk_180 0 214 (dk_at dksX1_job_2 11 rfl rfl)
theorem dX1_job_62 : decode cX1_job 62 = .ok (.iconst 1, 1) := dk_4 (dk_at dksX1_job_2 14 rfl rfl)
theorem dX1_job_63 : decode cX1_job 63 = .ok (.if_icmp .ne 15, 3) := dk_160 0 15 (dk_at dksX1_job_2 15 rfl rfl)
theorem dX1_job_66 : decode cX1_job 66 = .ok (.aload_n 3, 1) := dk_45 (dk_at dksX1_job_2 18 rfl rfl)
theorem dX1_job_67 : decode cX1_job 67 = .ok (.getfield 217, 3) := dk_180 0 217 (dk_at dksX1_job_2 19 rfl rfl)
theorem dX1_job_70 : decode cX1_job 70 = .ok (.aload_n 3, 1) := dk_45 (dk_at dksX1_job_2 22 rfl rfl)
theorem dX1_job_71 : decode cX1_job 71 = .ok (.getfield 220, 3) := dk_180 0 220 (dk_at dksX1_job_3 0 rfl rfl)
theorem dX1_job_74 : decode cX1_job 74 = .ok (.isub, 1) := dk_100 (dk_at dksX1_job_3 3 rfl rfl)
theorem dX1_job_75 : decode cX1_job 75 = .ok (.goto 4, 3) := dk_167 0 4 (dk_at dksX1_job_3 4 rfl rfl)
theorem dX1_job_78 : decode cX1_job 78 = .ok (.iconst 0, 1) := dk_3 (dk_at dksX1_job_3 7 rfl rfl)
theorem dX1_job_79 : decode cX1_job 79 = .ok (.ireturn, 1) := dk_172 (dk_at dksX1_job_3 8 rfl rfl)
abbrev cX1_counted : ByteArray := prog_1_method_23_code
def yX1_counted : MethodName := ⟨RX1, "counted", "(III)I"⟩
def dkwX1_counted_3 : List UInt8 := [184, 0, 41, 25, 4, 180, 0, 223, 6, 28, 104, 29, 96, 46, 172]
abbrev dktX1_counted_3 : List UInt8 := dkwX1_counted_3 ++ []
def dkwX1_counted_2 : List UInt8 := [185, 0, 59, 1, 0, 184, 0, 176, 29, 155, 0, 12, 29, 5, 163, 0, 7, 4, 167, 0, 4, 3]
abbrev dktX1_counted_2 : List UInt8 := dkwX1_counted_2 ++ dktX1_counted_3
def dkwX1_counted_1 : List UInt8 := [25, 4, 180, 0, 214, 5, 160, 0, 7, 28, 167, 0, 4, 2, 42, 180, 0, 25, 180, 0, 55]
abbrev dktX1_counted_1 : List UInt8 := dkwX1_counted_1 ++ dktX1_counted_2
def dkwX1_counted_0 : List UInt8 := [42, 180, 0, 25, 180, 0, 102, 27, 184, 0, 106, 182, 0, 210, 192, 0, 212, 58, 4, 25, 4, 198, 0, 16]
abbrev dktX1_counted_0 : List UInt8 := dkwX1_counted_0 ++ dktX1_counted_1
theorem dksX1_counted_0 : cX1_counted.data.toList.drop 0 = dktX1_counted_0 := by decide +kernel
theorem dksX1_counted_1 : cX1_counted.data.toList.drop 24 = dktX1_counted_1 := dk_seg dksX1_counted_0 24 rfl rfl
theorem dksX1_counted_2 : cX1_counted.data.toList.drop 45 = dktX1_counted_2 := dk_seg dksX1_counted_1 21 rfl rfl
theorem dksX1_counted_3 : cX1_counted.data.toList.drop 67 = dktX1_counted_3 := dk_seg dksX1_counted_2 22 rfl rfl
theorem dX1_counted_0 : decode cX1_counted 0 = .ok (.aload_n 0, 1) := dk_42 (dk_at dksX1_counted_0 0 rfl rfl)
theorem dX1_counted_1 : decode cX1_counted 1 = .ok (.getfield 25, 3) := dk_180 0 25 (dk_at dksX1_counted_0 1 rfl rfl)
theorem dX1_counted_4 : decode cX1_counted 4 = .ok (.getfield 102, 3) := dk_180 0 102 (dk_at dksX1_counted_0 4 rfl rfl)
theorem dX1_counted_7 : decode cX1_counted 7 = .ok (.iload_n 1, 1) := dk_27 (dk_at dksX1_counted_0 7 rfl rfl)
theorem dX1_counted_8 : decode cX1_counted 8 = .ok (.invokestatic 106, 3) := dk_184 0 106 (dk_at dksX1_counted_0 8 rfl rfl)
theorem dX1_counted_11 : decode cX1_counted 11 = .ok (.invokevirtual 210, 3) := dk_182 0 210 (dk_at dksX1_counted_0 11 rfl rfl)
theorem dX1_counted_14 : decode cX1_counted 14 = .ok (.checkcast 212, 3) := dk_192 0 212 (dk_at dksX1_counted_0 14 rfl rfl)
theorem dX1_counted_17 : decode cX1_counted 17 = .ok (.astore 4, 2) := dk_58 4 (dk_at dksX1_counted_0 17 rfl rfl)
theorem dX1_counted_19 : decode cX1_counted 19 = .ok (.aload 4, 2) := dk_25 4 (dk_at dksX1_counted_0 19 rfl rfl)
theorem dX1_counted_21 : decode cX1_counted 21 = .ok (.ifnull 16, 3) := dk_198 0 16 (dk_at dksX1_counted_0 21 rfl rfl)
theorem dX1_counted_24 : decode cX1_counted 24 = .ok (.aload 4, 2) := dk_25 4 (dk_at dksX1_counted_1 0 rfl rfl)
theorem dX1_counted_26 : decode cX1_counted 26 = .ok (.getfield 214, 3) := dk_180 0 214 (dk_at dksX1_counted_1 2 rfl rfl)
theorem dX1_counted_29 : decode cX1_counted 29 = .ok (.iconst 2, 1) := dk_5 (dk_at dksX1_counted_1 5 rfl rfl)
theorem dX1_counted_30 : decode cX1_counted 30 = .ok (.if_icmp .ne 7, 3) := dk_160 0 7 (dk_at dksX1_counted_1 6 rfl rfl)
theorem dX1_counted_33 : decode cX1_counted 33 = .ok (.iload_n 2, 1) := dk_28 (dk_at dksX1_counted_1 9 rfl rfl)
theorem dX1_counted_34 : decode cX1_counted 34 = .ok (.goto 4, 3) := dk_167 0 4 (dk_at dksX1_counted_1 10 rfl rfl)
theorem dX1_counted_37 : decode cX1_counted 37 = .ok (.iconst (-1), 1) := dk_2 (dk_at dksX1_counted_1 13 rfl rfl)
theorem dX1_counted_38 : decode cX1_counted 38 = .ok (.aload_n 0, 1) := dk_42 (dk_at dksX1_counted_1 14 rfl rfl)
theorem dX1_counted_39 : decode cX1_counted 39 = .ok (.getfield 25, 3) := dk_180 0 25 (dk_at dksX1_counted_1 15 rfl rfl)
theorem dX1_counted_42 : decode cX1_counted 42 = .ok (.getfield 55, 3) := dk_180 0 55 (dk_at dksX1_counted_1 18 rfl rfl)
theorem dX1_counted_45 : decode cX1_counted 45 = .ok (.invokeinterface 59 1, 5) := by decide +kernel
theorem dX1_counted_50 : decode cX1_counted 50 = .ok (.invokestatic 176, 3) := dk_184 0 176 (dk_at dksX1_counted_2 5 rfl rfl)
theorem dX1_counted_53 : decode cX1_counted 53 = .ok (.iload_n 3, 1) := dk_29 (dk_at dksX1_counted_2 8 rfl rfl)
theorem dX1_counted_54 : decode cX1_counted 54 = .ok (.ifCond .lt 12, 3) := dk_155 0 12 (dk_at dksX1_counted_2 9 rfl rfl)
theorem dX1_counted_57 : decode cX1_counted 57 = .ok (.iload_n 3, 1) := dk_29 (dk_at dksX1_counted_2 12 rfl rfl)
theorem dX1_counted_58 : decode cX1_counted 58 = .ok (.iconst 2, 1) := dk_5 (dk_at dksX1_counted_2 13 rfl rfl)
theorem dX1_counted_59 : decode cX1_counted 59 = .ok (.if_icmp .gt 7, 3) := dk_163 0 7 (dk_at dksX1_counted_2 14 rfl rfl)
theorem dX1_counted_62 : decode cX1_counted 62 = .ok (.iconst 1, 1) := dk_4 (dk_at dksX1_counted_2 17 rfl rfl)
theorem dX1_counted_63 : decode cX1_counted 63 = .ok (.goto 4, 3) := dk_167 0 4 (dk_at dksX1_counted_2 18 rfl rfl)
theorem dX1_counted_66 : decode cX1_counted 66 = .ok (.iconst 0, 1) := dk_3 (dk_at dksX1_counted_2 21 rfl rfl)
theorem dX1_counted_67 : decode cX1_counted 67 = .ok (.invokestatic 41, 3) := dk_184 0 41 (dk_at dksX1_counted_3 0 rfl rfl)
theorem dX1_counted_70 : decode cX1_counted 70 = .ok (.aload 4, 2) := dk_25 4 (dk_at dksX1_counted_3 3 rfl rfl)
theorem dX1_counted_72 : decode cX1_counted 72 = .ok (.getfield 223, 3) := dk_180 0 223 (dk_at dksX1_counted_3 5 rfl rfl)
theorem dX1_counted_75 : decode cX1_counted 75 = .ok (.iconst 3, 1) := dk_6 (dk_at dksX1_counted_3 8 rfl rfl)
theorem dX1_counted_76 : decode cX1_counted 76 = .ok (.iload_n 2, 1) := dk_28 (dk_at dksX1_counted_3 9 rfl rfl)
theorem dX1_counted_77 : decode cX1_counted 77 = .ok (.imul, 1) := dk_104 (dk_at dksX1_counted_3 10 rfl rfl)
theorem dX1_counted_78 : decode cX1_counted 78 = .ok (.iload_n 3, 1) := dk_29 (dk_at dksX1_counted_3 11 rfl rfl)
theorem dX1_counted_79 : decode cX1_counted 79 = .ok (.iadd, 1) := dk_96 (dk_at dksX1_counted_3 12 rfl rfl)
theorem dX1_counted_80 : decode cX1_counted 80 = .ok (.iaload, 1) := dk_46 (dk_at dksX1_counted_3 13 rfl rfl)
theorem dX1_counted_81 : decode cX1_counted 81 = .ok (.ireturn, 1) := dk_172 (dk_at dksX1_counted_3 14 rfl rfl)
abbrev cX1_kept : ByteArray := prog_1_method_25_code
def yX1_kept : MethodName := ⟨RX1, "kept", "(II)I"⟩
def dkwX1_kept_6 : List UInt8 := [3, 167, 0, 7, 45, 182, 0, 243, 172]
abbrev dktX1_kept_6 : List UInt8 := dkwX1_kept_6 ++ []
def dkwX1_kept_5 : List UInt8 := [182, 0, 234, 167, 0, 29, 45, 182, 0, 237, 167, 0, 22, 45, 182, 0, 240, 153, 0, 7, 4, 167, 0, 11]
abbrev dktX1_kept_5 : List UInt8 := dkwX1_kept_5 ++ dktX1_kept_6
def dkwX1_kept_4 : List UInt8 := [45, 182, 0, 229, 167, 0, 50, 45, 182, 0, 230, 167, 0, 43, 45, 182, 0, 231, 167, 0, 36, 45]
abbrev dktX1_kept_4 : List UInt8 := dkwX1_kept_4 ++ dktX1_kept_5
def dkwX1_kept_3 : List UInt8 := [170, 0, 0, 0, 0, 0, 0, 90, 0, 0, 0, 0, 0, 0, 0, 5, 0, 0, 0, 40, 0, 0, 0, 47, 0, 0, 0, 54, 0, 0, 0, 61, 0, 0, 0, 68, 0, 0, 0, 75]
abbrev dktX1_kept_3 : List UInt8 := dkwX1_kept_3 ++ dktX1_kept_4
def dkwX1_kept_2 : List UInt8 := [192, 0, 227, 78, 28]
abbrev dktX1_kept_2 : List UInt8 := dkwX1_kept_2 ++ dktX1_kept_3
def dkwX1_kept_1 : List UInt8 := [163, 0, 7, 4, 167, 0, 4, 3, 184, 0, 41, 42, 180, 0, 25, 180, 0, 207, 27, 185, 0, 180, 2, 0]
abbrev dktX1_kept_1 : List UInt8 := dkwX1_kept_1 ++ dktX1_kept_2
def dkwX1_kept_0 : List UInt8 := [27, 42, 180, 0, 25, 180, 0, 207, 185, 0, 59, 1, 0, 184, 0, 176, 28, 155, 0, 13, 28, 16, 6]
abbrev dktX1_kept_0 : List UInt8 := dkwX1_kept_0 ++ dktX1_kept_1
theorem dksX1_kept_0 : cX1_kept.data.toList.drop 0 = dktX1_kept_0 := by decide +kernel
theorem dksX1_kept_1 : cX1_kept.data.toList.drop 23 = dktX1_kept_1 := dk_seg dksX1_kept_0 23 rfl rfl
theorem dksX1_kept_2 : cX1_kept.data.toList.drop 47 = dktX1_kept_2 := dk_seg dksX1_kept_1 24 rfl rfl
theorem dksX1_kept_3 : cX1_kept.data.toList.drop 52 = dktX1_kept_3 := dk_seg dksX1_kept_2 5 rfl rfl
theorem dksX1_kept_4 : cX1_kept.data.toList.drop 92 = dktX1_kept_4 := dk_seg dksX1_kept_3 40 rfl rfl
theorem dksX1_kept_5 : cX1_kept.data.toList.drop 114 = dktX1_kept_5 := dk_seg dksX1_kept_4 22 rfl rfl
theorem dksX1_kept_6 : cX1_kept.data.toList.drop 138 = dktX1_kept_6 := dk_seg dksX1_kept_5 24 rfl rfl
theorem dX1_kept_0 : decode cX1_kept 0 = .ok (.iload_n 1, 1) := dk_27 (dk_at dksX1_kept_0 0 rfl rfl)
theorem dX1_kept_1 : decode cX1_kept 1 = .ok (.aload_n 0, 1) := dk_42 (dk_at dksX1_kept_0 1 rfl rfl)
theorem dX1_kept_2 : decode cX1_kept 2 = .ok (.getfield 25, 3) := dk_180 0 25 (dk_at dksX1_kept_0 2 rfl rfl)
theorem dX1_kept_5 : decode cX1_kept 5 = .ok (.getfield 207, 3) := dk_180 0 207 (dk_at dksX1_kept_0 5 rfl rfl)
theorem dX1_kept_8 : decode cX1_kept 8 = .ok (.invokeinterface 59 1, 5) := by decide +kernel
theorem dX1_kept_13 : decode cX1_kept 13 = .ok (.invokestatic 176, 3) := dk_184 0 176 (dk_at dksX1_kept_0 13 rfl rfl)
theorem dX1_kept_16 : decode cX1_kept 16 = .ok (.iload_n 2, 1) := dk_28 (dk_at dksX1_kept_0 16 rfl rfl)
theorem dX1_kept_17 : decode cX1_kept 17 = .ok (.ifCond .lt 13, 3) := dk_155 0 13 (dk_at dksX1_kept_0 17 rfl rfl)
theorem dX1_kept_20 : decode cX1_kept 20 = .ok (.iload_n 2, 1) := dk_28 (dk_at dksX1_kept_0 20 rfl rfl)
theorem dX1_kept_21 : decode cX1_kept 21 = .ok (.bipush 6, 2) := dk_16 6 (dk_at dksX1_kept_0 21 rfl rfl)
theorem dX1_kept_23 : decode cX1_kept 23 = .ok (.if_icmp .gt 7, 3) := dk_163 0 7 (dk_at dksX1_kept_1 0 rfl rfl)
theorem dX1_kept_26 : decode cX1_kept 26 = .ok (.iconst 1, 1) := dk_4 (dk_at dksX1_kept_1 3 rfl rfl)
theorem dX1_kept_27 : decode cX1_kept 27 = .ok (.goto 4, 3) := dk_167 0 4 (dk_at dksX1_kept_1 4 rfl rfl)
theorem dX1_kept_30 : decode cX1_kept 30 = .ok (.iconst 0, 1) := dk_3 (dk_at dksX1_kept_1 7 rfl rfl)
theorem dX1_kept_31 : decode cX1_kept 31 = .ok (.invokestatic 41, 3) := dk_184 0 41 (dk_at dksX1_kept_1 8 rfl rfl)
theorem dX1_kept_34 : decode cX1_kept 34 = .ok (.aload_n 0, 1) := dk_42 (dk_at dksX1_kept_1 11 rfl rfl)
theorem dX1_kept_35 : decode cX1_kept 35 = .ok (.getfield 25, 3) := dk_180 0 25 (dk_at dksX1_kept_1 12 rfl rfl)
theorem dX1_kept_38 : decode cX1_kept 38 = .ok (.getfield 207, 3) := dk_180 0 207 (dk_at dksX1_kept_1 15 rfl rfl)
theorem dX1_kept_41 : decode cX1_kept 41 = .ok (.iload_n 1, 1) := dk_27 (dk_at dksX1_kept_1 18 rfl rfl)
theorem dX1_kept_42 : decode cX1_kept 42 = .ok (.invokeinterface 180 2, 5) := by decide +kernel
theorem dX1_kept_47 : decode cX1_kept 47 = .ok (.checkcast 227, 3) := dk_192 0 227 (dk_at dksX1_kept_2 0 rfl rfl)
theorem dX1_kept_50 : decode cX1_kept 50 = .ok (.astore_n 3, 1) := dk_78 (dk_at dksX1_kept_2 3 rfl rfl)
theorem dX1_kept_51 : decode cX1_kept 51 = .ok (.iload_n 2, 1) := dk_28 (dk_at dksX1_kept_2 4 rfl rfl)
theorem dX1_kept_52 : decode cX1_kept 52 = .ok (.tableswitch 90 0 5 #[40, 47, 54, 61, 68, 75], 40) := by decide +kernel
theorem dX1_kept_92 : decode cX1_kept 92 = .ok (.aload_n 3, 1) := dk_45 (dk_at dksX1_kept_4 0 rfl rfl)
theorem dX1_kept_93 : decode cX1_kept 93 = .ok (.invokevirtual 229, 3) := dk_182 0 229 (dk_at dksX1_kept_4 1 rfl rfl)
theorem dX1_kept_96 : decode cX1_kept 96 = .ok (.goto 50, 3) := dk_167 0 50 (dk_at dksX1_kept_4 4 rfl rfl)
theorem dX1_kept_99 : decode cX1_kept 99 = .ok (.aload_n 3, 1) := dk_45 (dk_at dksX1_kept_4 7 rfl rfl)
theorem dX1_kept_100 : decode cX1_kept 100 = .ok (.invokevirtual 230, 3) := dk_182 0 230 (dk_at dksX1_kept_4 8 rfl rfl)
theorem dX1_kept_103 : decode cX1_kept 103 = .ok (.goto 43, 3) := dk_167 0 43 (dk_at dksX1_kept_4 11 rfl rfl)
theorem dX1_kept_106 : decode cX1_kept 106 = .ok (.aload_n 3, 1) := dk_45 (dk_at dksX1_kept_4 14 rfl rfl)
theorem dX1_kept_107 : decode cX1_kept 107 = .ok (.invokevirtual 231, 3) := dk_182 0 231 (dk_at dksX1_kept_4 15 rfl rfl)
theorem dX1_kept_110 : decode cX1_kept 110 = .ok (.goto 36, 3) := dk_167 0 36 (dk_at dksX1_kept_4 18 rfl rfl)
theorem dX1_kept_113 : decode cX1_kept 113 = .ok (.aload_n 3, 1) := dk_45 (dk_at dksX1_kept_4 21 rfl rfl)
theorem dX1_kept_114 : decode cX1_kept 114 = .ok (.invokevirtual 234, 3) := dk_182 0 234 (dk_at dksX1_kept_5 0 rfl rfl)
theorem dX1_kept_117 : decode cX1_kept 117 = .ok (.goto 29, 3) := dk_167 0 29 (dk_at dksX1_kept_5 3 rfl rfl)
theorem dX1_kept_120 : decode cX1_kept 120 = .ok (.aload_n 3, 1) := dk_45 (dk_at dksX1_kept_5 6 rfl rfl)
theorem dX1_kept_121 : decode cX1_kept 121 = .ok (.invokevirtual 237, 3) := dk_182 0 237 (dk_at dksX1_kept_5 7 rfl rfl)
theorem dX1_kept_124 : decode cX1_kept 124 = .ok (.goto 22, 3) := dk_167 0 22 (dk_at dksX1_kept_5 10 rfl rfl)
theorem dX1_kept_127 : decode cX1_kept 127 = .ok (.aload_n 3, 1) := dk_45 (dk_at dksX1_kept_5 13 rfl rfl)
theorem dX1_kept_128 : decode cX1_kept 128 = .ok (.invokevirtual 240, 3) := dk_182 0 240 (dk_at dksX1_kept_5 14 rfl rfl)
theorem dX1_kept_131 : decode cX1_kept 131 = .ok (.ifCond .eq 7, 3) := dk_153 0 7 (dk_at dksX1_kept_5 17 rfl rfl)
theorem dX1_kept_134 : decode cX1_kept 134 = .ok (.iconst 1, 1) := dk_4 (dk_at dksX1_kept_5 20 rfl rfl)
theorem dX1_kept_135 : decode cX1_kept 135 = .ok (.goto 11, 3) := dk_167 0 11 (dk_at dksX1_kept_5 21 rfl rfl)
theorem dX1_kept_138 : decode cX1_kept 138 = .ok (.iconst 0, 1) := dk_3 (dk_at dksX1_kept_6 0 rfl rfl)
theorem dX1_kept_139 : decode cX1_kept 139 = .ok (.goto 7, 3) := dk_167 0 7 (dk_at dksX1_kept_6 1 rfl rfl)
theorem dX1_kept_142 : decode cX1_kept 142 = .ok (.aload_n 3, 1) := dk_45 (dk_at dksX1_kept_6 4 rfl rfl)
theorem dX1_kept_143 : decode cX1_kept 143 = .ok (.invokevirtual 243, 3) := dk_182 0 243 (dk_at dksX1_kept_6 5 rfl rfl)
theorem dX1_kept_146 : decode cX1_kept 146 = .ok (.ireturn, 1) := dk_172 (dk_at dksX1_kept_6 8 rfl rfl)
abbrev cX1_replay : ByteArray := prog_1_method_26_code
def yX1_replay : MethodName := ⟨RX1, "replay", "(I)I"⟩
def dkwX1_replay_3 : List UInt8 := [172]
abbrev dktX1_replay_3 : List UInt8 := dkwX1_replay_3 ++ []
def dkwX1_replay_2 : List UInt8 := [185, 0, 180, 2, 0, 192, 0, 69, 44, 182, 0, 231, 44, 182, 0, 234, 44, 182, 0, 237, 4, 182, 0, 184]
abbrev dktX1_replay_2 : List UInt8 := dkwX1_replay_2 ++ dktX1_replay_3
def dkwX1_replay_1 : List UInt8 := [185, 0, 180, 2, 0, 192, 0, 227, 77, 42, 42, 180, 0, 25, 180, 0, 55, 44, 182, 0, 230]
abbrev dktX1_replay_1 : List UInt8 := dkwX1_replay_1 ++ dktX1_replay_2
def dkwX1_replay_0 : List UInt8 := [27, 42, 180, 0, 25, 180, 0, 207, 185, 0, 59, 1, 0, 184, 0, 176, 42, 180, 0, 25, 180, 0, 207, 27]
abbrev dktX1_replay_0 : List UInt8 := dkwX1_replay_0 ++ dktX1_replay_1
theorem dksX1_replay_0 : cX1_replay.data.toList.drop 0 = dktX1_replay_0 := by decide +kernel
theorem dksX1_replay_1 : cX1_replay.data.toList.drop 24 = dktX1_replay_1 := dk_seg dksX1_replay_0 24 rfl rfl
theorem dksX1_replay_2 : cX1_replay.data.toList.drop 45 = dktX1_replay_2 := dk_seg dksX1_replay_1 21 rfl rfl
theorem dksX1_replay_3 : cX1_replay.data.toList.drop 69 = dktX1_replay_3 := dk_seg dksX1_replay_2 24 rfl rfl
theorem dX1_replay_0 : decode cX1_replay 0 = .ok (.iload_n 1, 1) := dk_27 (dk_at dksX1_replay_0 0 rfl rfl)
theorem dX1_replay_1 : decode cX1_replay 1 = .ok (.aload_n 0, 1) := dk_42 (dk_at dksX1_replay_0 1 rfl rfl)
theorem dX1_replay_2 : decode cX1_replay 2 = .ok (.getfield 25, 3) := dk_180 0 25 (dk_at dksX1_replay_0 2 rfl rfl)
theorem dX1_replay_5 : decode cX1_replay 5 = .ok (.getfield 207, 3) := dk_180 0 207 (dk_at dksX1_replay_0 5 rfl rfl)
theorem dX1_replay_8 : decode cX1_replay 8 = .ok (.invokeinterface 59 1, 5) := by decide +kernel
theorem dX1_replay_13 : decode cX1_replay 13 = .ok (.invokestatic 176, 3) := dk_184 0 176 (dk_at dksX1_replay_0 13 rfl rfl)
theorem dX1_replay_16 : decode cX1_replay 16 = .ok (.aload_n 0, 1) := dk_42 (dk_at dksX1_replay_0 16 rfl rfl)
theorem dX1_replay_17 : decode cX1_replay 17 = .ok (.getfield 25, 3) := dk_180 0 25 (dk_at dksX1_replay_0 17 rfl rfl)
theorem dX1_replay_20 : decode cX1_replay 20 = .ok (.getfield 207, 3) := dk_180 0 207 (dk_at dksX1_replay_0 20 rfl rfl)
theorem dX1_replay_23 : decode cX1_replay 23 = .ok (.iload_n 1, 1) := dk_27 (dk_at dksX1_replay_0 23 rfl rfl)
theorem dX1_replay_24 : decode cX1_replay 24 = .ok (.invokeinterface 180 2, 5) := by decide +kernel
theorem dX1_replay_29 : decode cX1_replay 29 = .ok (.checkcast 227, 3) := dk_192 0 227 (dk_at dksX1_replay_1 5 rfl rfl)
theorem dX1_replay_32 : decode cX1_replay 32 = .ok (.astore_n 2, 1) := dk_77 (dk_at dksX1_replay_1 8 rfl rfl)
theorem dX1_replay_33 : decode cX1_replay 33 = .ok (.aload_n 0, 1) := dk_42 (dk_at dksX1_replay_1 9 rfl rfl)
theorem dX1_replay_34 : decode cX1_replay 34 = .ok (.aload_n 0, 1) := dk_42 (dk_at dksX1_replay_1 10 rfl rfl)
theorem dX1_replay_35 : decode cX1_replay 35 = .ok (.getfield 25, 3) := dk_180 0 25 (dk_at dksX1_replay_1 11 rfl rfl)
theorem dX1_replay_38 : decode cX1_replay 38 = .ok (.getfield 55, 3) := dk_180 0 55 (dk_at dksX1_replay_1 14 rfl rfl)
theorem dX1_replay_41 : decode cX1_replay 41 = .ok (.aload_n 2, 1) := dk_44 (dk_at dksX1_replay_1 17 rfl rfl)
theorem dX1_replay_42 : decode cX1_replay 42 = .ok (.invokevirtual 230, 3) := dk_182 0 230 (dk_at dksX1_replay_1 18 rfl rfl)
theorem dX1_replay_45 : decode cX1_replay 45 = .ok (.invokeinterface 180 2, 5) := by decide +kernel
theorem dX1_replay_50 : decode cX1_replay 50 = .ok (.checkcast 69, 3) := dk_192 0 69 (dk_at dksX1_replay_2 5 rfl rfl)
theorem dX1_replay_53 : decode cX1_replay 53 = .ok (.aload_n 2, 1) := dk_44 (dk_at dksX1_replay_2 8 rfl rfl)
theorem dX1_replay_54 : decode cX1_replay 54 = .ok (.invokevirtual 231, 3) := dk_182 0 231 (dk_at dksX1_replay_2 9 rfl rfl)
theorem dX1_replay_57 : decode cX1_replay 57 = .ok (.aload_n 2, 1) := dk_44 (dk_at dksX1_replay_2 12 rfl rfl)
theorem dX1_replay_58 : decode cX1_replay 58 = .ok (.invokevirtual 234, 3) := dk_182 0 234 (dk_at dksX1_replay_2 13 rfl rfl)
theorem dX1_replay_61 : decode cX1_replay 61 = .ok (.aload_n 2, 1) := dk_44 (dk_at dksX1_replay_2 16 rfl rfl)
theorem dX1_replay_62 : decode cX1_replay 62 = .ok (.invokevirtual 237, 3) := dk_182 0 237 (dk_at dksX1_replay_2 17 rfl rfl)
theorem dX1_replay_65 : decode cX1_replay 65 = .ok (.iconst 1, 1) := dk_4 (dk_at dksX1_replay_2 20 rfl rfl)
theorem dX1_replay_66 : decode cX1_replay 66 = .ok (.invokevirtual 184, 3) := dk_182 0 184 (dk_at dksX1_replay_2 21 rfl rfl)
theorem dX1_replay_69 : decode cX1_replay 69 = .ok (.ireturn, 1) := dk_172 (dk_at dksX1_replay_3 0 rfl rfl)
theorem q116 : (Jvm.Cond.initialized "ProbeConsole") ∈ lw_all := lw_g (lw_at lw_m1 1 rfl) rfl
theorem q166 : (Jvm.Cond.instantiable "ProbeConsole" (5 : Nat)) ∈ lw_all := lw_g (lw_at lw_m1 51 rfl) rfl
theorem q168 : (Jvm.Cond.instanceMethod ({ cls := "ProbeConsole", name := "<init>", desc := "()V" } : Jvm.MethodName)) ∈ lw_all := lw_g (lw_at lw_m1 53 rfl) rfl
theorem q169 : (Jvm.Cond.code ({ cls := "ProbeConsole", name := "<init>", desc := "()V" } : Jvm.MethodName) prog_1_method_1_code (1 : Nat) (Option.none : Option Jvm.ClassFile.FieldType)) ∈ lw_all := lw_g (lw_at lw_m1 54 rfl) rfl
theorem q170 : (Jvm.Cond.methodLink "ProbeConsole" (1 : Nat) ({ cls := "java/lang/Object", name := "<init>", desc := "()V" } : Jvm.MethodName)) ∈ lw_all := lw_g (lw_at lw_m1 55 rfl) rfl
theorem q173 : (Jvm.Cond.classLink "ProbeConsole" (13 : Nat) "ProbeConsole$Parser") ∈ lw_all := lw_g (lw_at lw_m1 58 rfl) rfl
theorem q175 : (Jvm.Cond.methodLink "ProbeConsole" (15 : Nat) ({ cls := "ProbeConsole$Parser", name := "<init>", desc := "([B)V" } : Jvm.MethodName)) ∈ lw_all := lw_g (lw_at lw_m1 60 rfl) rfl
theorem q184 : (Jvm.Cond.fieldLinkNest "ProbeConsole" (49 : Nat) "ProbeConsole$Parser" "fault" "I" "ProbeConsole") ∈ lw_tbl := lw_at lw_m1 69 rfl
theorem q186 : (Jvm.Cond.fieldLinkNest "ProbeConsole" (52 : Nat) "ProbeConsole$Parser" "place" "I" "ProbeConsole") ∈ lw_tbl := lw_at lw_m1 71 rfl
theorem q211 : (Jvm.Cond.classLink "ProbeConsole" (22 : Nat) "ProbeConsole$Machine") ∈ lw_all := lw_g (lw_at lw_m1 96 rfl) rfl
theorem q213 : (Jvm.Cond.methodLink "ProbeConsole" (24 : Nat) ({ cls := "ProbeConsole$Machine", name := "<init>", desc := "()V" } : Jvm.MethodName)) ∈ lw_all := lw_g (lw_at lw_m1 98 rfl) rfl
theorem q316 : (Jvm.Cond.fieldLinkNest "ProbeConsole" (81 : Nat) "ProbeConsole$Machine" "methods" "Ljava/util/Map;" "ProbeConsole") ∈ lw_tbl := lw_at lw_m1 201 rfl
theorem q318 : (Jvm.Cond.fieldLinkNest "ProbeConsole" (55 : Nat) "ProbeConsole$Machine" "all" "Ljava/util/List;" "ProbeConsole") ∈ lw_tbl := lw_at lw_m1 203 rfl
theorem q320 : (Jvm.Cond.fieldLinkNest "ProbeConsole" (102 : Nat) "ProbeConsole$Machine" "jobs" "Ljava/util/TreeMap;" "ProbeConsole") ∈ lw_tbl := lw_at lw_m1 205 rfl
theorem q322 : (Jvm.Cond.fieldLinkNest "ProbeConsole" (188 : Nat) "ProbeConsole$Machine" "records" "Ljava/util/List;" "ProbeConsole") ∈ lw_tbl := lw_at lw_m1 207 rfl
theorem q324 : (Jvm.Cond.fieldLinkNest "ProbeConsole" (207 : Nat) "ProbeConsole$Machine" "kept" "Ljava/util/List;" "ProbeConsole") ∈ lw_tbl := lw_at lw_m1 209 rfl
theorem q326 : (Jvm.Cond.fieldLinkNest "ProbeConsole" (172 : Nat) "ProbeConsole$Machine" "thrown" "Z" "ProbeConsole") ∈ lw_tbl := lw_at lw_m1 211 rfl
theorem q329 : (Jvm.Cond.fieldLinkNest "ProbeConsole" (185 : Nat) "ProbeConsole$Machine" "invoked" "I" "ProbeConsole") ∈ lw_tbl := lw_at lw_m1 214 rfl
theorem q353 : (Jvm.Cond.fieldLink "ProbeConsole" (9 : Nat) "ProbeConsole" "tape" "[B") ∈ lw_all := lw_g (lw_at lw_m1 238 rfl) rfl
theorem q354 : (Jvm.Cond.fieldLink "ProbeConsole" (45 : Nat) "ProbeConsole" "size" "I") ∈ lw_all := lw_g (lw_at lw_m1 239 rfl) rfl
theorem q355 : (Jvm.Cond.fieldLink "ProbeConsole" (18 : Nat) "ProbeConsole" "parser" "LProbeConsole$Parser;") ∈ lw_all := lw_g (lw_at lw_m2 0 rfl) rfl
theorem q356 : (Jvm.Cond.fieldLink "ProbeConsole" (25 : Nat) "ProbeConsole" "machine" "LProbeConsole$Machine;") ∈ lw_all := lw_g (lw_at lw_m2 1 rfl) rfl
theorem q357 : (Jvm.Cond.fieldLink "ProbeConsole" (169 : Nat) "ProbeConsole" "value" "I") ∈ lw_all := lw_g (lw_at lw_m2 2 rfl) rfl
theorem q358 : (Jvm.Cond.laysFinal "ProbeConsole" "ProbeConsole" "tape" "[B") ∈ lw_all := lw_g (lw_at lw_m2 3 rfl) rfl
theorem q359 : (Jvm.Cond.soleField "ProbeConsole" "tape") ∈ lw_all := lw_g (lw_at lw_m2 4 rfl) rfl
theorem q360 : (Jvm.Cond.lays "ProbeConsole" "ProbeConsole" "size" "I") ∈ lw_all := lw_g (lw_at lw_m2 5 rfl) rfl
theorem q361 : (Jvm.Cond.soleField "ProbeConsole" "size") ∈ lw_all := lw_g (lw_at lw_m2 6 rfl) rfl
theorem q362 : (Jvm.Cond.laysFinal "ProbeConsole" "ProbeConsole" "parser" "LProbeConsole$Parser;") ∈ lw_all := lw_g (lw_at lw_m2 7 rfl) rfl
theorem q363 : (Jvm.Cond.soleField "ProbeConsole" "parser") ∈ lw_all := lw_g (lw_at lw_m2 8 rfl) rfl
theorem q364 : (Jvm.Cond.laysFinal "ProbeConsole" "ProbeConsole" "machine" "LProbeConsole$Machine;") ∈ lw_all := lw_g (lw_at lw_m2 9 rfl) rfl
theorem q365 : (Jvm.Cond.soleField "ProbeConsole" "machine") ∈ lw_all := lw_g (lw_at lw_m2 10 rfl) rfl
theorem q366 : (Jvm.Cond.lays "ProbeConsole" "ProbeConsole" "value" "I") ∈ lw_all := lw_g (lw_at lw_m2 11 rfl) rfl
theorem q367 : (Jvm.Cond.soleField "ProbeConsole" "value") ∈ lw_all := lw_g (lw_at lw_m2 12 rfl) rfl
theorem q368 : (Jvm.Cond.superclass "ProbeConsole" "java/lang/Object") ∈ lw_all := lw_g (lw_at lw_m2 13 rfl) rfl
theorem q370 : (Jvm.Cond.instanceMethod ({ cls := "ProbeConsole", name := "wipe", desc := "()I" } : Jvm.MethodName)) ∈ lw_all := lw_g (lw_at lw_m2 15 rfl) rfl
theorem q371 : (Jvm.Cond.selects "ProbeConsole" ({ cls := "ProbeConsole", name := "wipe", desc := "()I" } : Jvm.MethodName) ({ cls := "ProbeConsole", name := "wipe", desc := "()I" } : Jvm.MethodName)) ∈ lw_all := lw_g (lw_at lw_m2 16 rfl) rfl
theorem q372 : (Jvm.Cond.code ({ cls := "ProbeConsole", name := "wipe", desc := "()I" } : Jvm.MethodName) prog_1_method_5_code (2 : Nat) (Option.some Jvm.ClassFile.FieldType.int)) ∈ lw_all := lw_g (lw_at lw_m2 17 rfl) rfl
theorem q374 : (Jvm.Cond.instanceMethod ({ cls := "ProbeConsole", name := "method", desc := "()I" } : Jvm.MethodName)) ∈ lw_all := lw_g (lw_at lw_m2 19 rfl) rfl
theorem q375 : (Jvm.Cond.selects "ProbeConsole" ({ cls := "ProbeConsole", name := "method", desc := "()I" } : Jvm.MethodName) ({ cls := "ProbeConsole", name := "method", desc := "()I" } : Jvm.MethodName)) ∈ lw_all := lw_g (lw_at lw_m2 20 rfl) rfl
theorem q376 : (Jvm.Cond.code ({ cls := "ProbeConsole", name := "method", desc := "()I" } : Jvm.MethodName) prog_1_method_7_code (4 : Nat) (Option.some Jvm.ClassFile.FieldType.int)) ∈ lw_all := lw_g (lw_at lw_m2 21 rfl) rfl
theorem q377 : (Jvm.Cond.interfaceEntry "ProbeConsole" (59 : Nat)) ∈ lw_tbl := lw_at lw_m2 22 rfl
theorem q378 : (Jvm.Cond.methodLink "ProbeConsole" (59 : Nat) ({ cls := "java/util/List", name := "size", desc := "()I" } : Jvm.MethodName)) ∈ lw_all := lw_g (lw_at lw_m2 23 rfl) rfl
theorem q387 : (Jvm.Cond.methodLink "ProbeConsole" (64 : Nat) ({ cls := "ProbeConsole$Parser", name := "method", desc := "(II)LProbeConsole$Method;" } : Jvm.MethodName)) ∈ lw_all := lw_g (lw_at lw_m2 32 rfl) rfl
theorem q998 : (Jvm.Cond.selects "ProbeConsole" ({ cls := "java/lang/Object", name := "getClass", desc := "()Ljava/lang/Class;" } : Jvm.MethodName) ({ cls := "java/lang/Object", name := "getClass", desc := "()Ljava/lang/Class;" } : Jvm.MethodName)) ∈ lw_all := lw_g (lw_at lw_m4 163 rfl) rfl
theorem q1083 : (Jvm.Cond.fieldLinkNest "ProbeConsole" (68 : Nat) "ProbeConsole$Method" "name" "Ljava/lang/String;" "ProbeConsole") ∈ lw_tbl := lw_at lw_m5 8 rfl
theorem q1086 : (Jvm.Cond.fieldLinkNest "ProbeConsole" (74 : Nat) "ProbeConsole$Method" "parameters" "I" "ProbeConsole") ∈ lw_tbl := lw_at lw_m5 11 rfl
theorem q1098 : (Jvm.Cond.methodLink "ProbeConsole" (77 : Nat) ({ cls := "ProbeConsole$Machine", name := "key", desc := "(Ljava/lang/String;I)Ljava/lang/String;" } : Jvm.MethodName)) ∈ lw_all := lw_g (lw_at lw_m5 23 rfl) rfl
theorem q1106 : (Jvm.Cond.interfaceEntry "ProbeConsole" (85 : Nat)) ∈ lw_tbl := lw_at lw_m5 31 rfl
theorem q1107 : (Jvm.Cond.methodLink "ProbeConsole" (85 : Nat) ({ cls := "java/util/Map", name := "containsKey", desc := "(Ljava/lang/Object;)Z" } : Jvm.MethodName)) ∈ lw_all := lw_g (lw_at lw_m5 32 rfl) rfl
theorem q1127 : (Jvm.Cond.selects "ProbeConsole" ({ cls := "java/lang/Object", name := "hashCode", desc := "()I" } : Jvm.MethodName) ({ cls := "java/lang/Object", name := "hashCode", desc := "()I" } : Jvm.MethodName)) ∈ lw_all := lw_g (lw_at lw_m5 52 rfl) rfl
theorem q1221 : (Jvm.Cond.selects "ProbeConsole" ({ cls := "java/lang/Object", name := "equals", desc := "(Ljava/lang/Object;)Z" } : Jvm.MethodName) ({ cls := "java/lang/Object", name := "equals", desc := "(Ljava/lang/Object;)Z" } : Jvm.MethodName)) ∈ lw_all := lw_g (lw_at lw_m5 146 rfl) rfl
theorem q1519 : (Jvm.Cond.methodLink "ProbeConsole" (91 : Nat) ({ cls := "ProbeConsole", name := "atEnd", desc := "(Z)Z" } : Jvm.MethodName)) ∈ lw_all := lw_g (lw_at lw_m6 204 rfl) rfl
theorem q1520 : (Jvm.Cond.privateMethod ({ cls := "ProbeConsole", name := "atEnd", desc := "(Z)Z" } : Jvm.MethodName)) ∈ lw_tbl := lw_at lw_m6 205 rfl
theorem q1521 : (Jvm.Cond.instanceMethod ({ cls := "ProbeConsole", name := "atEnd", desc := "(Z)Z" } : Jvm.MethodName)) ∈ lw_all := lw_g (lw_at lw_m6 206 rfl) rfl
theorem q1522 : (Jvm.Cond.code ({ cls := "ProbeConsole", name := "atEnd", desc := "(Z)Z" } : Jvm.MethodName) prog_1_method_6_code (2 : Nat) (Option.some Jvm.ClassFile.FieldType.boolean)) ∈ lw_all := lw_g (lw_at lw_m6 207 rfl) rfl
theorem q1523 : (Jvm.Cond.interfaceEntry "ProbeConsole" (95 : Nat)) ∈ lw_tbl := lw_at lw_m6 208 rfl
theorem q1524 : (Jvm.Cond.methodLink "ProbeConsole" (95 : Nat) ({ cls := "java/util/Map", name := "put", desc := "(Ljava/lang/Object;Ljava/lang/Object;)Ljava/lang/Object;" } : Jvm.MethodName)) ∈ lw_all := lw_g (lw_at lw_m6 209 rfl) rfl
theorem q1745 : (Jvm.Cond.interfaceEntry "ProbeConsole" (99 : Nat)) ∈ lw_tbl := lw_at lw_m7 190 rfl
theorem q1746 : (Jvm.Cond.methodLink "ProbeConsole" (99 : Nat) ({ cls := "java/util/List", name := "add", desc := "(Ljava/lang/Object;)Z" } : Jvm.MethodName)) ∈ lw_all := lw_g (lw_at lw_m7 191 rfl) rfl
theorem q1748 : (Jvm.Cond.instanceMethod ({ cls := "ProbeConsole", name := "command", desc := "()I" } : Jvm.MethodName)) ∈ lw_all := lw_g (lw_at lw_m7 193 rfl) rfl
theorem q1749 : (Jvm.Cond.selects "ProbeConsole" ({ cls := "ProbeConsole", name := "command", desc := "()I" } : Jvm.MethodName) ({ cls := "ProbeConsole", name := "command", desc := "()I" } : Jvm.MethodName)) ∈ lw_all := lw_g (lw_at lw_m7 194 rfl) rfl
theorem q1750 : (Jvm.Cond.codeWith ({ cls := "ProbeConsole", name := "command", desc := "()I" } : Jvm.MethodName) prog_1_method_12_code (2 : Nat) (Option.some Jvm.ClassFile.FieldType.int) [((11 : Nat), (15 : Nat), (16 : Nat), (164 : Nat))]) ∈ lw_all := lw_g (lw_at lw_m7 195 rfl) rfl
theorem q1751 : (Jvm.Cond.classLink "ProbeConsole" (164 : Nat) "java/lang/IllegalStateException") ∈ lw_all := lw_g (lw_at lw_m7 196 rfl) rfl
theorem q1752 : (Jvm.Cond.methodLink "ProbeConsole" (157 : Nat) ({ cls := "ProbeConsole$Parser", name := "begin", desc := "(I)V" } : Jvm.MethodName)) ∈ lw_all := lw_g (lw_at lw_m7 197 rfl) rfl
theorem q1753 : (Jvm.Cond.methodLink "ProbeConsole" (161 : Nat) ({ cls := "ProbeConsole", name := "obey", desc := "()I" } : Jvm.MethodName)) ∈ lw_all := lw_g (lw_at lw_m7 198 rfl) rfl
theorem q1754 : (Jvm.Cond.privateMethod ({ cls := "ProbeConsole", name := "obey", desc := "()I" } : Jvm.MethodName)) ∈ lw_tbl := lw_at lw_m7 199 rfl
theorem q1755 : (Jvm.Cond.instanceMethod ({ cls := "ProbeConsole", name := "obey", desc := "()I" } : Jvm.MethodName)) ∈ lw_all := lw_g (lw_at lw_m7 200 rfl) rfl
theorem q1756 : (Jvm.Cond.code ({ cls := "ProbeConsole", name := "obey", desc := "()I" } : Jvm.MethodName) prog_1_method_11_code (2 : Nat) (Option.some Jvm.ClassFile.FieldType.int)) ∈ lw_all := lw_g (lw_at lw_m7 201 rfl) rfl
theorem q1757 : (Jvm.Cond.classLink "ProbeConsole" (130 : Nat) "java/lang/String") ∈ lw_all := lw_g (lw_at lw_m7 202 rfl) rfl
theorem q1759 : (Jvm.Cond.stringRef "ProbeConsole" (132 : Nat) "watch") ∈ lw_tbl := lw_at lw_m7 204 rfl
theorem q1760 : (Jvm.Cond.stringRef "ProbeConsole" (134 : Nat) "monitor") ∈ lw_tbl := lw_at lw_m7 205 rfl
theorem q1761 : (Jvm.Cond.stringRef "ProbeConsole" (136 : Nat) "keep") ∈ lw_tbl := lw_at lw_m7 206 rfl
theorem q1762 : (Jvm.Cond.stringRef "ProbeConsole" (138 : Nat) "kill") ∈ lw_tbl := lw_at lw_m7 207 rfl
theorem q1763 : (Jvm.Cond.stringRef "ProbeConsole" (140 : Nat) "reset") ∈ lw_tbl := lw_at lw_m7 208 rfl
theorem q1764 : (Jvm.Cond.methodLink "ProbeConsole" (142 : Nat) ({ cls := "ProbeConsole$Parser", name := "word", desc := "([Ljava/lang/String;)I" } : Jvm.MethodName)) ∈ lw_all := lw_g (lw_at lw_m7 209 rfl) rfl
theorem q1777 : (Jvm.Cond.methodLink "ProbeConsole" (146 : Nat) ({ cls := "ProbeConsole", name := "kill", desc := "()I" } : Jvm.MethodName)) ∈ lw_all := lw_g (lw_at lw_m7 222 rfl) rfl
theorem q1778 : (Jvm.Cond.privateMethod ({ cls := "ProbeConsole", name := "kill", desc := "()I" } : Jvm.MethodName)) ∈ lw_tbl := lw_at lw_m7 223 rfl
theorem q1779 : (Jvm.Cond.instanceMethod ({ cls := "ProbeConsole", name := "kill", desc := "()I" } : Jvm.MethodName)) ∈ lw_all := lw_g (lw_at lw_m7 224 rfl) rfl
theorem q1780 : (Jvm.Cond.code ({ cls := "ProbeConsole", name := "kill", desc := "()I" } : Jvm.MethodName) prog_1_method_9_code (2 : Nat) (Option.some Jvm.ClassFile.FieldType.int)) ∈ lw_all := lw_g (lw_at lw_m7 225 rfl) rfl
theorem q1781 : (Jvm.Cond.methodLinkNest "ProbeConsole" (116 : Nat) ({ cls := "ProbeConsole$Parser", name := "figures", desc := "()I" } : Jvm.MethodName) "ProbeConsole") ∈ lw_tbl := lw_at lw_m7 226 rfl
theorem q1785 : (Jvm.Cond.methodLink "ProbeConsole" (119 : Nat) ({ cls := "ProbeConsole$Parser", name := "ends", desc := "()V" } : Jvm.MethodName)) ∈ lw_all := lw_g (lw_at lw_m7 230 rfl) rfl
theorem q1789 : (Jvm.Cond.methodLink "ProbeConsole" (106 : Nat) ({ cls := "java/lang/Integer", name := "valueOf", desc := "(I)Ljava/lang/Integer;" } : Jvm.MethodName)) ∈ lw_all := lw_g (lw_at lw_m7 234 rfl) rfl
theorem q1808 : (Jvm.Cond.methodLink "ProbeConsole" (122 : Nat) ({ cls := "java/util/TreeMap", name := "remove", desc := "(Ljava/lang/Object;)Ljava/lang/Object;" } : Jvm.MethodName)) ∈ lw_all := lw_g (lw_at lw_m8 13 rfl) rfl
theorem q1823 : (Jvm.Cond.methodLink "ProbeConsole" (148 : Nat) ({ cls := "ProbeConsole", name := "reset", desc := "()I" } : Jvm.MethodName)) ∈ lw_all := lw_g (lw_at lw_m8 28 rfl) rfl
theorem q1824 : (Jvm.Cond.privateMethod ({ cls := "ProbeConsole", name := "reset", desc := "()I" } : Jvm.MethodName)) ∈ lw_tbl := lw_at lw_m8 29 rfl
theorem q1825 : (Jvm.Cond.instanceMethod ({ cls := "ProbeConsole", name := "reset", desc := "()I" } : Jvm.MethodName)) ∈ lw_all := lw_g (lw_at lw_m8 30 rfl) rfl
theorem q1826 : (Jvm.Cond.code ({ cls := "ProbeConsole", name := "reset", desc := "()I" } : Jvm.MethodName) prog_1_method_10_code (2 : Nat) (Option.some Jvm.ClassFile.FieldType.int)) ∈ lw_all := lw_g (lw_at lw_m8 31 rfl) rfl
theorem q1827 : (Jvm.Cond.methodLink "ProbeConsole" (126 : Nat) ({ cls := "java/util/TreeMap", name := "size", desc := "()I" } : Jvm.MethodName)) ∈ lw_all := lw_g (lw_at lw_m8 32 rfl) rfl
theorem q1831 : (Jvm.Cond.methodLink "ProbeConsole" (127 : Nat) ({ cls := "java/util/TreeMap", name := "clear", desc := "()V" } : Jvm.MethodName)) ∈ lw_all := lw_g (lw_at lw_m8 36 rfl) rfl
theorem q1835 : (Jvm.Cond.methodLink "ProbeConsole" (150 : Nat) ({ cls := "ProbeConsole$Parser", name := "job", desc := "(I)LProbeConsole$Job;" } : Jvm.MethodName)) ∈ lw_all := lw_g (lw_at lw_m8 40 rfl) rfl
theorem q1856 : (Jvm.Cond.fieldLinkNest "ProbeConsole" (214 : Nat) "ProbeConsole$Job" "kind" "I" "ProbeConsole") ∈ lw_tbl := lw_at lw_m8 61 rfl
theorem q1866 : (Jvm.Cond.fieldLinkNest "ProbeConsole" (217 : Nat) "ProbeConsole$Job" "limit" "I" "ProbeConsole") ∈ lw_tbl := lw_at lw_m8 71 rfl
theorem q1869 : (Jvm.Cond.fieldLinkNest "ProbeConsole" (220 : Nat) "ProbeConsole$Job" "made" "I" "ProbeConsole") ∈ lw_tbl := lw_at lw_m8 74 rfl
theorem q1872 : (Jvm.Cond.fieldLinkNest "ProbeConsole" (223 : Nat) "ProbeConsole$Job" "counts" "[I" "ProbeConsole") ∈ lw_tbl := lw_at lw_m8 77 rfl
theorem q1899 : (Jvm.Cond.methodLink "ProbeConsole" (154 : Nat) ({ cls := "ProbeConsole", name := "put", desc := "(LProbeConsole$Job;)I" } : Jvm.MethodName)) ∈ lw_all := lw_g (lw_at lw_m8 104 rfl) rfl
theorem q1900 : (Jvm.Cond.privateMethod ({ cls := "ProbeConsole", name := "put", desc := "(LProbeConsole$Job;)I" } : Jvm.MethodName)) ∈ lw_tbl := lw_at lw_m8 105 rfl
theorem q1901 : (Jvm.Cond.instanceMethod ({ cls := "ProbeConsole", name := "put", desc := "(LProbeConsole$Job;)I" } : Jvm.MethodName)) ∈ lw_all := lw_g (lw_at lw_m8 106 rfl) rfl
theorem q1902 : (Jvm.Cond.code ({ cls := "ProbeConsole", name := "put", desc := "(LProbeConsole$Job;)I" } : Jvm.MethodName) prog_1_method_8_code (3 : Nat) (Option.some Jvm.ClassFile.FieldType.int)) ∈ lw_all := lw_g (lw_at lw_m8 107 rfl) rfl
theorem q1903 : (Jvm.Cond.methodLink "ProbeConsole" (112 : Nat) ({ cls := "java/util/TreeMap", name := "containsKey", desc := "(Ljava/lang/Object;)Z" } : Jvm.MethodName)) ∈ lw_all := lw_g (lw_at lw_m8 108 rfl) rfl
theorem q1904 : (Jvm.Cond.methodLink "ProbeConsole" (115 : Nat) ({ cls := "java/util/TreeMap", name := "put", desc := "(Ljava/lang/Object;Ljava/lang/Object;)Ljava/lang/Object;" } : Jvm.MethodName)) ∈ lw_all := lw_g (lw_at lw_m8 109 rfl) rfl
theorem q1906 : (Jvm.Cond.instanceMethod ({ cls := "ProbeConsole", name := "fault", desc := "()I" } : Jvm.MethodName)) ∈ lw_all := lw_g (lw_at lw_m8 111 rfl) rfl
theorem q1907 : (Jvm.Cond.selects "ProbeConsole" ({ cls := "ProbeConsole", name := "fault", desc := "()I" } : Jvm.MethodName) ({ cls := "ProbeConsole", name := "fault", desc := "()I" } : Jvm.MethodName)) ∈ lw_all := lw_g (lw_at lw_m8 112 rfl) rfl
theorem q1908 : (Jvm.Cond.code ({ cls := "ProbeConsole", name := "fault", desc := "()I" } : Jvm.MethodName) prog_1_method_13_code (1 : Nat) (Option.some Jvm.ClassFile.FieldType.int)) ∈ lw_all := lw_g (lw_at lw_m8 113 rfl) rfl
theorem q1910 : (Jvm.Cond.instanceMethod ({ cls := "ProbeConsole", name := "place", desc := "()I" } : Jvm.MethodName)) ∈ lw_all := lw_g (lw_at lw_m8 115 rfl) rfl
theorem q1911 : (Jvm.Cond.selects "ProbeConsole" ({ cls := "ProbeConsole", name := "place", desc := "()I" } : Jvm.MethodName) ({ cls := "ProbeConsole", name := "place", desc := "()I" } : Jvm.MethodName)) ∈ lw_all := lw_g (lw_at lw_m8 116 rfl) rfl
theorem q1912 : (Jvm.Cond.code ({ cls := "ProbeConsole", name := "place", desc := "()I" } : Jvm.MethodName) prog_1_method_14_code (1 : Nat) (Option.some Jvm.ClassFile.FieldType.int)) ∈ lw_all := lw_g (lw_at lw_m8 117 rfl) rfl
theorem q1914 : (Jvm.Cond.instanceMethod ({ cls := "ProbeConsole", name := "value", desc := "()I" } : Jvm.MethodName)) ∈ lw_all := lw_g (lw_at lw_m8 119 rfl) rfl
theorem q1915 : (Jvm.Cond.selects "ProbeConsole" ({ cls := "ProbeConsole", name := "value", desc := "()I" } : Jvm.MethodName) ({ cls := "ProbeConsole", name := "value", desc := "()I" } : Jvm.MethodName)) ∈ lw_all := lw_g (lw_at lw_m8 120 rfl) rfl
theorem q1916 : (Jvm.Cond.code ({ cls := "ProbeConsole", name := "value", desc := "()I" } : Jvm.MethodName) prog_1_method_17_code (1 : Nat) (Option.some Jvm.ClassFile.FieldType.int)) ∈ lw_all := lw_g (lw_at lw_m8 121 rfl) rfl
theorem q1918 : (Jvm.Cond.instanceMethod ({ cls := "ProbeConsole", name := "invoked", desc := "()I" } : Jvm.MethodName)) ∈ lw_all := lw_g (lw_at lw_m8 123 rfl) rfl
theorem q1919 : (Jvm.Cond.selects "ProbeConsole" ({ cls := "ProbeConsole", name := "invoked", desc := "()I" } : Jvm.MethodName) ({ cls := "ProbeConsole", name := "invoked", desc := "()I" } : Jvm.MethodName)) ∈ lw_all := lw_g (lw_at lw_m8 124 rfl) rfl
theorem q1920 : (Jvm.Cond.code ({ cls := "ProbeConsole", name := "invoked", desc := "()I" } : Jvm.MethodName) prog_1_method_18_code (1 : Nat) (Option.some Jvm.ClassFile.FieldType.int)) ∈ lw_all := lw_g (lw_at lw_m8 125 rfl) rfl
theorem q1922 : (Jvm.Cond.instanceMethod ({ cls := "ProbeConsole", name := "records", desc := "()I" } : Jvm.MethodName)) ∈ lw_all := lw_g (lw_at lw_m8 127 rfl) rfl
theorem q1923 : (Jvm.Cond.selects "ProbeConsole" ({ cls := "ProbeConsole", name := "records", desc := "()I" } : Jvm.MethodName) ({ cls := "ProbeConsole", name := "records", desc := "()I" } : Jvm.MethodName)) ∈ lw_all := lw_g (lw_at lw_m8 128 rfl) rfl
theorem q1924 : (Jvm.Cond.code ({ cls := "ProbeConsole", name := "records", desc := "()I" } : Jvm.MethodName) prog_1_method_19_code (1 : Nat) (Option.some Jvm.ClassFile.FieldType.int)) ∈ lw_all := lw_g (lw_at lw_m8 129 rfl) rfl
theorem q1926 : (Jvm.Cond.instanceMethod ({ cls := "ProbeConsole", name := "clear", desc := "()I" } : Jvm.MethodName)) ∈ lw_all := lw_g (lw_at lw_m8 131 rfl) rfl
theorem q1927 : (Jvm.Cond.selects "ProbeConsole" ({ cls := "ProbeConsole", name := "clear", desc := "()I" } : Jvm.MethodName) ({ cls := "ProbeConsole", name := "clear", desc := "()I" } : Jvm.MethodName)) ∈ lw_all := lw_g (lw_at lw_m8 132 rfl) rfl
theorem q1928 : (Jvm.Cond.code ({ cls := "ProbeConsole", name := "clear", desc := "()I" } : Jvm.MethodName) prog_1_method_21_code (2 : Nat) (Option.some Jvm.ClassFile.FieldType.int)) ∈ lw_all := lw_g (lw_at lw_m8 133 rfl) rfl
theorem q1929 : (Jvm.Cond.interfaceEntry "ProbeConsole" (206 : Nat)) ∈ lw_tbl := lw_at lw_m8 134 rfl
theorem q1930 : (Jvm.Cond.methodLink "ProbeConsole" (206 : Nat) ({ cls := "java/util/List", name := "clear", desc := "()V" } : Jvm.MethodName)) ∈ lw_all := lw_g (lw_at lw_m8 135 rfl) rfl
theorem q1939 : (Jvm.Cond.instanceMethod ({ cls := "ProbeConsole", name := "keeps", desc := "()I" } : Jvm.MethodName)) ∈ lw_all := lw_g (lw_at lw_m8 144 rfl) rfl
theorem q1940 : (Jvm.Cond.selects "ProbeConsole" ({ cls := "ProbeConsole", name := "keeps", desc := "()I" } : Jvm.MethodName) ({ cls := "ProbeConsole", name := "keeps", desc := "()I" } : Jvm.MethodName)) ∈ lw_all := lw_g (lw_at lw_m8 145 rfl) rfl
theorem q1941 : (Jvm.Cond.code ({ cls := "ProbeConsole", name := "keeps", desc := "()I" } : Jvm.MethodName) prog_1_method_24_code (1 : Nat) (Option.some Jvm.ClassFile.FieldType.int)) ∈ lw_all := lw_g (lw_at lw_m8 146 rfl) rfl
theorem q1947 : (Jvm.Cond.instanceMethod ({ cls := "ProbeConsole", name := "feed", desc := "(IJ)I" } : Jvm.MethodName)) ∈ lw_all := lw_g (lw_at lw_m8 152 rfl) rfl
theorem q1948 : (Jvm.Cond.selects "ProbeConsole" ({ cls := "ProbeConsole", name := "feed", desc := "(IJ)I" } : Jvm.MethodName) ({ cls := "ProbeConsole", name := "feed", desc := "(IJ)I" } : Jvm.MethodName)) ∈ lw_all := lw_g (lw_at lw_m8 153 rfl) rfl
theorem q1949 : (Jvm.Cond.code ({ cls := "ProbeConsole", name := "feed", desc := "(IJ)I" } : Jvm.MethodName) prog_1_method_4_code (5 : Nat) (Option.some Jvm.ClassFile.FieldType.int)) ∈ lw_all := lw_g (lw_at lw_m8 154 rfl) rfl
theorem q1950 : (Jvm.Cond.methodLink "ProbeConsole" (41 : Nat) ({ cls := "ProbeConsole", name := "fits", desc := "(Z)V" } : Jvm.MethodName)) ∈ lw_all := lw_g (lw_at lw_m8 155 rfl) rfl
theorem q1951 : (Jvm.Cond.static ({ cls := "ProbeConsole", name := "fits", desc := "(Z)V" } : Jvm.MethodName)) ∈ lw_all := lw_g (lw_at lw_m8 156 rfl) rfl
theorem q1952 : (Jvm.Cond.code ({ cls := "ProbeConsole", name := "fits", desc := "(Z)V" } : Jvm.MethodName) prog_1_method_2_code (1 : Nat) (Option.none : Option Jvm.ClassFile.FieldType)) ∈ lw_all := lw_g (lw_at lw_m8 157 rfl) rfl
theorem q1953 : (Jvm.Cond.classLink "ProbeConsole" (29 : Nat) "java/lang/IllegalArgumentException") ∈ lw_all := lw_g (lw_at lw_m8 158 rfl) rfl
theorem q1954 : (Jvm.Cond.stringRef "ProbeConsole" (31 : Nat) "out of its range") ∈ lw_tbl := lw_at lw_m8 159 rfl
theorem q1955 : (Jvm.Cond.methodLink "ProbeConsole" (33 : Nat) ({ cls := "java/lang/IllegalArgumentException", name := "<init>", desc := "(Ljava/lang/String;)V" } : Jvm.MethodName)) ∈ lw_all := lw_g (lw_at lw_m8 160 rfl) rfl
theorem q1979 : (Jvm.Cond.instanceMethod ({ cls := "ProbeConsole", name := "call", desc := "(IIII)I" } : Jvm.MethodName)) ∈ lw_all := lw_g (lw_at lw_m8 184 rfl) rfl
theorem q1980 : (Jvm.Cond.selects "ProbeConsole" ({ cls := "ProbeConsole", name := "call", desc := "(IIII)I" } : Jvm.MethodName) ({ cls := "ProbeConsole", name := "call", desc := "(IIII)I" } : Jvm.MethodName)) ∈ lw_all := lw_g (lw_at lw_m8 185 rfl) rfl
theorem q1981 : (Jvm.Cond.code ({ cls := "ProbeConsole", name := "call", desc := "(IIII)I" } : Jvm.MethodName) prog_1_method_16_code (5 : Nat) (Option.some Jvm.ClassFile.FieldType.int)) ∈ lw_all := lw_g (lw_at lw_m8 186 rfl) rfl
theorem q1982 : (Jvm.Cond.methodLink "ProbeConsole" (176 : Nat) ({ cls := "ProbeConsole", name := "lies", desc := "(II)V" } : Jvm.MethodName)) ∈ lw_all := lw_g (lw_at lw_m8 187 rfl) rfl
theorem q1983 : (Jvm.Cond.static ({ cls := "ProbeConsole", name := "lies", desc := "(II)V" } : Jvm.MethodName)) ∈ lw_all := lw_g (lw_at lw_m8 188 rfl) rfl
theorem q1984 : (Jvm.Cond.code ({ cls := "ProbeConsole", name := "lies", desc := "(II)V" } : Jvm.MethodName) prog_1_method_3_code (2 : Nat) (Option.none : Option Jvm.ClassFile.FieldType)) ∈ lw_all := lw_g (lw_at lw_m8 189 rfl) rfl
theorem q1985 : (Jvm.Cond.classLink "ProbeConsole" (36 : Nat) "java/lang/IndexOutOfBoundsException") ∈ lw_all := lw_g (lw_at lw_m8 190 rfl) rfl
theorem q1994 : (Jvm.Cond.stringRef "ProbeConsole" (38 : Nat) "there is none such") ∈ lw_tbl := lw_at lw_m8 199 rfl
theorem q1995 : (Jvm.Cond.methodLink "ProbeConsole" (40 : Nat) ({ cls := "java/lang/IndexOutOfBoundsException", name := "<init>", desc := "(Ljava/lang/String;)V" } : Jvm.MethodName)) ∈ lw_all := lw_g (lw_at lw_m8 200 rfl) rfl
theorem q1998 : (Jvm.Cond.interfaceEntry "ProbeConsole" (180 : Nat)) ∈ lw_tbl := lw_at lw_m8 203 rfl
theorem q1999 : (Jvm.Cond.methodLink "ProbeConsole" (180 : Nat) ({ cls := "java/util/List", name := "get", desc := "(I)Ljava/lang/Object;" } : Jvm.MethodName)) ∈ lw_all := lw_g (lw_at lw_m8 204 rfl) rfl
theorem q2015 : (Jvm.Cond.classLink "ProbeConsole" (69 : Nat) "ProbeConsole$Method") ∈ lw_all := lw_g (lw_at lw_m8 220 rfl) rfl
theorem q2016 : (Jvm.Cond.methodLink "ProbeConsole" (184 : Nat) ({ cls := "ProbeConsole", name := "begin", desc := "(LProbeConsole$Method;IIIZ)I" } : Jvm.MethodName)) ∈ lw_all := lw_g (lw_at lw_m8 221 rfl) rfl
theorem q2017 : (Jvm.Cond.privateMethod ({ cls := "ProbeConsole", name := "begin", desc := "(LProbeConsole$Method;IIIZ)I" } : Jvm.MethodName)) ∈ lw_tbl := lw_at lw_m8 222 rfl
theorem q2018 : (Jvm.Cond.instanceMethod ({ cls := "ProbeConsole", name := "begin", desc := "(LProbeConsole$Method;IIIZ)I" } : Jvm.MethodName)) ∈ lw_all := lw_g (lw_at lw_m8 223 rfl) rfl
theorem q2019 : (Jvm.Cond.code ({ cls := "ProbeConsole", name := "begin", desc := "(LProbeConsole$Method;IIIZ)I" } : Jvm.MethodName) prog_1_method_15_code (6 : Nat) (Option.some Jvm.ClassFile.FieldType.int)) ∈ lw_all := lw_g (lw_at lw_m8 224 rfl) rfl
theorem q2020 : (Jvm.Cond.methodLink "ProbeConsole" (166 : Nat) ({ cls := "ProbeConsole$Machine", name := "begin", desc := "(LProbeConsole$Method;IIIZ)I" } : Jvm.MethodName)) ∈ lw_all := lw_g (lw_at lw_m8 225 rfl) rfl
theorem q2151 : (Jvm.Cond.instanceMethod ({ cls := "ProbeConsole", name := "record", desc := "(II)I" } : Jvm.MethodName)) ∈ lw_all := lw_g (lw_at lw_m9 116 rfl) rfl
theorem q2152 : (Jvm.Cond.selects "ProbeConsole" ({ cls := "ProbeConsole", name := "record", desc := "(II)I" } : Jvm.MethodName) ({ cls := "ProbeConsole", name := "record", desc := "(II)I" } : Jvm.MethodName)) ∈ lw_all := lw_g (lw_at lw_m9 117 rfl) rfl
theorem q2153 : (Jvm.Cond.code ({ cls := "ProbeConsole", name := "record", desc := "(II)I" } : Jvm.MethodName) prog_1_method_20_code (4 : Nat) (Option.some Jvm.ClassFile.FieldType.int)) ∈ lw_all := lw_g (lw_at lw_m9 118 rfl) rfl
theorem q2154 : (Jvm.Cond.classLink "ProbeConsole" (191 : Nat) "ProbeConsole$Seen") ∈ lw_all := lw_g (lw_at lw_m9 119 rfl) rfl
theorem q2155 : (Jvm.Cond.methodLink "ProbeConsole" (193 : Nat) ({ cls := "ProbeConsole$Seen", name := "job", desc := "()I" } : Jvm.MethodName)) ∈ lw_all := lw_g (lw_at lw_m9 120 rfl) rfl
theorem q2159 : (Jvm.Cond.methodLink "ProbeConsole" (195 : Nat) ({ cls := "ProbeConsole$Seen", name := "method", desc := "()I" } : Jvm.MethodName)) ∈ lw_all := lw_g (lw_at lw_m9 124 rfl) rfl
theorem q2163 : (Jvm.Cond.methodLink "ProbeConsole" (197 : Nat) ({ cls := "ProbeConsole$Seen", name := "value", desc := "()I" } : Jvm.MethodName)) ∈ lw_all := lw_g (lw_at lw_m9 128 rfl) rfl
theorem q2167 : (Jvm.Cond.methodLink "ProbeConsole" (199 : Nat) ({ cls := "ProbeConsole$Seen", name := "error", desc := "()Z" } : Jvm.MethodName)) ∈ lw_all := lw_g (lw_at lw_m9 132 rfl) rfl
theorem q2171 : (Jvm.Cond.methodLink "ProbeConsole" (203 : Nat) ({ cls := "ProbeConsole$Seen", name := "depth", desc := "()I" } : Jvm.MethodName)) ∈ lw_all := lw_g (lw_at lw_m9 136 rfl) rfl
theorem q2179 : (Jvm.Cond.instanceMethod ({ cls := "ProbeConsole", name := "job", desc := "(II)I" } : Jvm.MethodName)) ∈ lw_all := lw_g (lw_at lw_m9 144 rfl) rfl
theorem q2180 : (Jvm.Cond.selects "ProbeConsole" ({ cls := "ProbeConsole", name := "job", desc := "(II)I" } : Jvm.MethodName) ({ cls := "ProbeConsole", name := "job", desc := "(II)I" } : Jvm.MethodName)) ∈ lw_all := lw_g (lw_at lw_m9 145 rfl) rfl
theorem q2181 : (Jvm.Cond.code ({ cls := "ProbeConsole", name := "job", desc := "(II)I" } : Jvm.MethodName) prog_1_method_22_code (4 : Nat) (Option.some Jvm.ClassFile.FieldType.int)) ∈ lw_all := lw_g (lw_at lw_m9 146 rfl) rfl
theorem q2182 : (Jvm.Cond.methodLink "ProbeConsole" (210 : Nat) ({ cls := "java/util/TreeMap", name := "get", desc := "(Ljava/lang/Object;)Ljava/lang/Object;" } : Jvm.MethodName)) ∈ lw_all := lw_g (lw_at lw_m9 147 rfl) rfl
theorem q2183 : (Jvm.Cond.classLink "ProbeConsole" (212 : Nat) "ProbeConsole$Job") ∈ lw_all := lw_g (lw_at lw_m9 148 rfl) rfl
theorem q2188 : (Jvm.Cond.instanceMethod ({ cls := "ProbeConsole", name := "counted", desc := "(III)I" } : Jvm.MethodName)) ∈ lw_all := lw_g (lw_at lw_m9 153 rfl) rfl
theorem q2189 : (Jvm.Cond.selects "ProbeConsole" ({ cls := "ProbeConsole", name := "counted", desc := "(III)I" } : Jvm.MethodName) ({ cls := "ProbeConsole", name := "counted", desc := "(III)I" } : Jvm.MethodName)) ∈ lw_all := lw_g (lw_at lw_m9 154 rfl) rfl
theorem q2190 : (Jvm.Cond.code ({ cls := "ProbeConsole", name := "counted", desc := "(III)I" } : Jvm.MethodName) prog_1_method_23_code (5 : Nat) (Option.some Jvm.ClassFile.FieldType.int)) ∈ lw_all := lw_g (lw_at lw_m9 155 rfl) rfl
theorem q2195 : (Jvm.Cond.instanceMethod ({ cls := "ProbeConsole", name := "kept", desc := "(II)I" } : Jvm.MethodName)) ∈ lw_all := lw_g (lw_at lw_m9 160 rfl) rfl
theorem q2196 : (Jvm.Cond.selects "ProbeConsole" ({ cls := "ProbeConsole", name := "kept", desc := "(II)I" } : Jvm.MethodName) ({ cls := "ProbeConsole", name := "kept", desc := "(II)I" } : Jvm.MethodName)) ∈ lw_all := lw_g (lw_at lw_m9 161 rfl) rfl
theorem q2197 : (Jvm.Cond.code ({ cls := "ProbeConsole", name := "kept", desc := "(II)I" } : Jvm.MethodName) prog_1_method_25_code (4 : Nat) (Option.some Jvm.ClassFile.FieldType.int)) ∈ lw_all := lw_g (lw_at lw_m9 162 rfl) rfl
theorem q2198 : (Jvm.Cond.classLink "ProbeConsole" (227 : Nat) "ProbeConsole$Kept") ∈ lw_all := lw_g (lw_at lw_m9 163 rfl) rfl
theorem q2199 : (Jvm.Cond.methodLink "ProbeConsole" (229 : Nat) ({ cls := "ProbeConsole$Kept", name := "job", desc := "()I" } : Jvm.MethodName)) ∈ lw_all := lw_g (lw_at lw_m9 164 rfl) rfl
theorem q2203 : (Jvm.Cond.methodLink "ProbeConsole" (230 : Nat) ({ cls := "ProbeConsole$Kept", name := "method", desc := "()I" } : Jvm.MethodName)) ∈ lw_all := lw_g (lw_at lw_m9 168 rfl) rfl
theorem q2207 : (Jvm.Cond.methodLink "ProbeConsole" (231 : Nat) ({ cls := "ProbeConsole$Kept", name := "a", desc := "()I" } : Jvm.MethodName)) ∈ lw_all := lw_g (lw_at lw_m9 172 rfl) rfl
theorem q2211 : (Jvm.Cond.methodLink "ProbeConsole" (234 : Nat) ({ cls := "ProbeConsole$Kept", name := "b", desc := "()I" } : Jvm.MethodName)) ∈ lw_all := lw_g (lw_at lw_m9 176 rfl) rfl
theorem q2215 : (Jvm.Cond.methodLink "ProbeConsole" (237 : Nat) ({ cls := "ProbeConsole$Kept", name := "c", desc := "()I" } : Jvm.MethodName)) ∈ lw_all := lw_g (lw_at lw_m9 180 rfl) rfl
theorem q2219 : (Jvm.Cond.methodLink "ProbeConsole" (240 : Nat) ({ cls := "ProbeConsole$Kept", name := "threw", desc := "()Z" } : Jvm.MethodName)) ∈ lw_all := lw_g (lw_at lw_m9 184 rfl) rfl
theorem q2223 : (Jvm.Cond.methodLink "ProbeConsole" (243 : Nat) ({ cls := "ProbeConsole$Kept", name := "value", desc := "()I" } : Jvm.MethodName)) ∈ lw_all := lw_g (lw_at lw_m9 188 rfl) rfl
theorem q2231 : (Jvm.Cond.instanceMethod ({ cls := "ProbeConsole", name := "replay", desc := "(I)I" } : Jvm.MethodName)) ∈ lw_all := lw_g (lw_at lw_m9 196 rfl) rfl
theorem q2232 : (Jvm.Cond.selects "ProbeConsole" ({ cls := "ProbeConsole", name := "replay", desc := "(I)I" } : Jvm.MethodName) ({ cls := "ProbeConsole", name := "replay", desc := "(I)I" } : Jvm.MethodName)) ∈ lw_all := lw_g (lw_at lw_m9 197 rfl) rfl
theorem q2233 : (Jvm.Cond.code ({ cls := "ProbeConsole", name := "replay", desc := "(I)I" } : Jvm.MethodName) prog_1_method_26_code (3 : Nat) (Option.some Jvm.ClassFile.FieldType.int)) ∈ lw_all := lw_g (lw_at lw_m9 198 rfl) rfl
theorem q2792 : (Jvm.Cond.castable "ProbeConsole" "java/lang/Object") ∈ lw_tbl := lw_at lw_m12 37 rfl
theorem in_X1 : ∀ w ∈ wsX10, w ∈ lw_all := lw_in wsX10 [358, 360, 362, 364, 366] (by decide +kernel) (by decide +kernel)
/-! ProbeConsole$Parser -/
set_option maxRecDepth 100000
def RX2 : String := "ProbeConsole$Parser"
def TX2 : u_T := fun k => match k with
  | 0 => ("ProbeConsole$Parser", "text", "[B", true)
  | 1 => ("ProbeConsole$Parser", "size", "I", false)
  | 2 => ("ProbeConsole$Parser", "at", "I", false)
  | 3 => ("ProbeConsole$Parser", "fault", "I", false)
  | 4 => ("ProbeConsole$Parser", "place", "I", false)
  | 5 => ("ProbeConsole$Parser", "nodes", "I", false)
  | 6 => ("ProbeConsole$Parser", "open", "I", false)
  | 7 => ("ProbeConsole$Parser", "variables", "Ljava/lang/String;", false)
  | _ => ("ProbeConsole$Parser", "names", "Z", false)
def tyX2 : Nat → FieldType := fun k => match k with
  | 0 => .array .byte
  | 1 => .int
  | 2 => .int
  | 3 => .int
  | 4 => .int
  | 5 => .int
  | 6 => .int
  | 7 => .object "java/lang/String"
  | _ => .boolean
abbrev wsX20 : List Cond := u_ws RX2 TX2 9
theorem nmX2 : ∀ a, a < 9 → ∀ b, b < 9 → a ≠ b → (TX2 a).2.1 ≠ (TX2 b).2.1 := by decide +kernel
theorem tyX2_ok : ∀ k, k < 9 → parseFieldDescriptor (TX2 k).2.2.1 = some (tyX2 k) := by decide +kernel
abbrev cX2_init : ByteArray := prog_9_method_1_code
def yX2_init : MethodName := ⟨RX2, "<init>", "([B)V"⟩
def dkwX2_init_0 : List UInt8 := [42, 183, 0, 3, 42, 2, 181, 0, 9, 42, 18, 15, 181, 0, 17, 42, 43, 181, 0, 21, 177]
abbrev dktX2_init_0 : List UInt8 := dkwX2_init_0 ++ []
theorem dksX2_init_0 : cX2_init.data.toList.drop 0 = dktX2_init_0 := by decide +kernel
theorem dX2_init_0 : decode cX2_init 0 = .ok (.aload_n 0, 1) := dk_42 (dk_at dksX2_init_0 0 rfl rfl)
theorem dX2_init_1 : decode cX2_init 1 = .ok (.invokespecial 3, 3) := dk_183 0 3 (dk_at dksX2_init_0 1 rfl rfl)
theorem dX2_init_4 : decode cX2_init 4 = .ok (.aload_n 0, 1) := dk_42 (dk_at dksX2_init_0 4 rfl rfl)
theorem dX2_init_5 : decode cX2_init 5 = .ok (.iconst (-1), 1) := dk_2 (dk_at dksX2_init_0 5 rfl rfl)
theorem dX2_init_6 : decode cX2_init 6 = .ok (.putfield 9, 3) := dk_181 0 9 (dk_at dksX2_init_0 6 rfl rfl)
theorem dX2_init_9 : decode cX2_init 9 = .ok (.aload_n 0, 1) := dk_42 (dk_at dksX2_init_0 9 rfl rfl)
theorem dX2_init_10 : decode cX2_init 10 = .ok (.ldc 15, 2) := dk_18 15 (dk_at dksX2_init_0 10 rfl rfl)
theorem dX2_init_12 : decode cX2_init 12 = .ok (.putfield 17, 3) := dk_181 0 17 (dk_at dksX2_init_0 12 rfl rfl)
theorem dX2_init_15 : decode cX2_init 15 = .ok (.aload_n 0, 1) := dk_42 (dk_at dksX2_init_0 15 rfl rfl)
theorem dX2_init_16 : decode cX2_init 16 = .ok (.aload_n 1, 1) := dk_43 (dk_at dksX2_init_0 16 rfl rfl)
theorem dX2_init_17 : decode cX2_init 17 = .ok (.putfield 21, 3) := dk_181 0 21 (dk_at dksX2_init_0 17 rfl rfl)
theorem dX2_init_20 : decode cX2_init 20 = .ok (.return_, 1) := dk_177 (dk_at dksX2_init_0 20 rfl rfl)
abbrev cX2_method : ByteArray := prog_9_method_26_code
def yX2_method : MethodName := ⟨RX2, "method", "(II)LProbeConsole$Method;"⟩
def dkwX2_method_6 : List UInt8 := [1, 176]
abbrev dktX2_method_6 : List UInt8 := dkwX2_method_6 ++ []
def dkwX2_method_5 : List UInt8 := [3, 4, 42, 180, 0, 38, 182, 0, 45, 187, 0, 240, 89, 28, 45, 21, 4, 25, 5, 183, 0, 242, 176, 78]
abbrev dktX2_method_5 : List UInt8 := dkwX2_method_5 ++ dktX2_method_6
def dkwX2_method_4 : List UInt8 := [21, 4, 182, 0, 232, 4, 182, 0, 236, 58, 5, 42, 42, 182, 0, 41, 2, 160, 0, 7, 4, 167, 0, 4]
abbrev dktX2_method_4 : List UInt8 := dkwX2_method_4 ++ dktX2_method_5
def dkwX2_method_3 : List UInt8 := [180, 0, 38, 4, 96, 181, 0, 38, 42, 16, 41, 182, 0, 155, 42, 16, 61, 182, 0, 155, 42, 18, 99, 3]
abbrev dktX2_method_3 : List UInt8 := dkwX2_method_3 ++ dktX2_method_4
def dkwX2_method_2 : List UInt8 := [155, 0, 13, 21, 4, 6, 163, 0, 7, 4, 167, 0, 4, 3, 4, 42, 180, 0, 38, 182, 0, 45, 42, 89]
abbrev dktX2_method_2 : List UInt8 := dkwX2_method_2 ++ dktX2_method_3
def dkwX2_method_1 : List UInt8 := [45, 3, 182, 0, 116, 42, 16, 40, 182, 0, 155, 42, 182, 0, 41, 16, 48, 100, 54, 4, 42, 21, 4]
abbrev dktX2_method_1 : List UInt8 := dkwX2_method_1 ++ dktX2_method_2
def dkwX2_method_0 : List UInt8 := [42, 27, 182, 0, 229, 42, 42, 182, 0, 75, 4, 42, 180, 0, 38, 182, 0, 45, 42, 182, 0, 96, 78, 42]
abbrev dktX2_method_0 : List UInt8 := dkwX2_method_0 ++ dktX2_method_1
theorem dksX2_method_0 : cX2_method.data.toList.drop 0 = dktX2_method_0 := by decide +kernel
theorem dksX2_method_1 : cX2_method.data.toList.drop 24 = dktX2_method_1 := dk_seg dksX2_method_0 24 rfl rfl
theorem dksX2_method_2 : cX2_method.data.toList.drop 47 = dktX2_method_2 := dk_seg dksX2_method_1 23 rfl rfl
theorem dksX2_method_3 : cX2_method.data.toList.drop 71 = dktX2_method_3 := dk_seg dksX2_method_2 24 rfl rfl
theorem dksX2_method_4 : cX2_method.data.toList.drop 95 = dktX2_method_4 := dk_seg dksX2_method_3 24 rfl rfl
theorem dksX2_method_5 : cX2_method.data.toList.drop 119 = dktX2_method_5 := dk_seg dksX2_method_4 24 rfl rfl
theorem dksX2_method_6 : cX2_method.data.toList.drop 143 = dktX2_method_6 := dk_seg dksX2_method_5 24 rfl rfl
theorem dX2_method_0 : decode cX2_method 0 = .ok (.aload_n 0, 1) := dk_42 (dk_at dksX2_method_0 0 rfl rfl)
theorem dX2_method_1 : decode cX2_method 1 = .ok (.iload_n 1, 1) := dk_27 (dk_at dksX2_method_0 1 rfl rfl)
theorem dX2_method_2 : decode cX2_method 2 = .ok (.invokevirtual 229, 3) := dk_182 0 229 (dk_at dksX2_method_0 2 rfl rfl)
theorem dX2_method_5 : decode cX2_method 5 = .ok (.aload_n 0, 1) := dk_42 (dk_at dksX2_method_0 5 rfl rfl)
theorem dX2_method_6 : decode cX2_method 6 = .ok (.aload_n 0, 1) := dk_42 (dk_at dksX2_method_0 6 rfl rfl)
theorem dX2_method_7 : decode cX2_method 7 = .ok (.invokevirtual 75, 3) := dk_182 0 75 (dk_at dksX2_method_0 7 rfl rfl)
theorem dX2_method_10 : decode cX2_method 10 = .ok (.iconst 1, 1) := dk_4 (dk_at dksX2_method_0 10 rfl rfl)
theorem dX2_method_11 : decode cX2_method 11 = .ok (.aload_n 0, 1) := dk_42 (dk_at dksX2_method_0 11 rfl rfl)
theorem dX2_method_12 : decode cX2_method 12 = .ok (.getfield 38, 3) := dk_180 0 38 (dk_at dksX2_method_0 12 rfl rfl)
theorem dX2_method_15 : decode cX2_method 15 = .ok (.invokevirtual 45, 3) := dk_182 0 45 (dk_at dksX2_method_0 15 rfl rfl)
theorem dX2_method_18 : decode cX2_method 18 = .ok (.aload_n 0, 1) := dk_42 (dk_at dksX2_method_0 18 rfl rfl)
theorem dX2_method_19 : decode cX2_method 19 = .ok (.invokevirtual 96, 3) := dk_182 0 96 (dk_at dksX2_method_0 19 rfl rfl)
theorem dX2_method_22 : decode cX2_method 22 = .ok (.astore_n 3, 1) := dk_78 (dk_at dksX2_method_0 22 rfl rfl)
theorem dX2_method_23 : decode cX2_method 23 = .ok (.aload_n 0, 1) := dk_42 (dk_at dksX2_method_0 23 rfl rfl)
theorem dX2_method_24 : decode cX2_method 24 = .ok (.aload_n 3, 1) := dk_45 (dk_at dksX2_method_1 0 rfl rfl)
theorem dX2_method_25 : decode cX2_method 25 = .ok (.iconst 0, 1) := dk_3 (dk_at dksX2_method_1 1 rfl rfl)
theorem dX2_method_26 : decode cX2_method 26 = .ok (.invokevirtual 116, 3) := dk_182 0 116 (dk_at dksX2_method_1 2 rfl rfl)
theorem dX2_method_29 : decode cX2_method 29 = .ok (.aload_n 0, 1) := dk_42 (dk_at dksX2_method_1 5 rfl rfl)
theorem dX2_method_30 : decode cX2_method 30 = .ok (.bipush 40, 2) := dk_16 40 (dk_at dksX2_method_1 6 rfl rfl)
theorem dX2_method_32 : decode cX2_method 32 = .ok (.invokevirtual 155, 3) := dk_182 0 155 (dk_at dksX2_method_1 8 rfl rfl)
theorem dX2_method_35 : decode cX2_method 35 = .ok (.aload_n 0, 1) := dk_42 (dk_at dksX2_method_1 11 rfl rfl)
theorem dX2_method_36 : decode cX2_method 36 = .ok (.invokevirtual 41, 3) := dk_182 0 41 (dk_at dksX2_method_1 12 rfl rfl)
theorem dX2_method_39 : decode cX2_method 39 = .ok (.bipush 48, 2) := dk_16 48 (dk_at dksX2_method_1 15 rfl rfl)
theorem dX2_method_41 : decode cX2_method 41 = .ok (.isub, 1) := dk_100 (dk_at dksX2_method_1 17 rfl rfl)
theorem dX2_method_42 : decode cX2_method 42 = .ok (.istore 4, 2) := dk_54 4 (dk_at dksX2_method_1 18 rfl rfl)
theorem dX2_method_44 : decode cX2_method 44 = .ok (.aload_n 0, 1) := dk_42 (dk_at dksX2_method_1 20 rfl rfl)
theorem dX2_method_45 : decode cX2_method 45 = .ok (.iload 4, 2) := dk_21 4 (dk_at dksX2_method_1 21 rfl rfl)
theorem dX2_method_47 : decode cX2_method 47 = .ok (.ifCond .lt 13, 3) := dk_155 0 13 (dk_at dksX2_method_2 0 rfl rfl)
theorem dX2_method_50 : decode cX2_method 50 = .ok (.iload 4, 2) := dk_21 4 (dk_at dksX2_method_2 3 rfl rfl)
theorem dX2_method_52 : decode cX2_method 52 = .ok (.iconst 3, 1) := dk_6 (dk_at dksX2_method_2 5 rfl rfl)
theorem dX2_method_53 : decode cX2_method 53 = .ok (.if_icmp .gt 7, 3) := dk_163 0 7 (dk_at dksX2_method_2 6 rfl rfl)
theorem dX2_method_56 : decode cX2_method 56 = .ok (.iconst 1, 1) := dk_4 (dk_at dksX2_method_2 9 rfl rfl)
theorem dX2_method_57 : decode cX2_method 57 = .ok (.goto 4, 3) := dk_167 0 4 (dk_at dksX2_method_2 10 rfl rfl)
theorem dX2_method_60 : decode cX2_method 60 = .ok (.iconst 0, 1) := dk_3 (dk_at dksX2_method_2 13 rfl rfl)
theorem dX2_method_61 : decode cX2_method 61 = .ok (.iconst 1, 1) := dk_4 (dk_at dksX2_method_2 14 rfl rfl)
theorem dX2_method_62 : decode cX2_method 62 = .ok (.aload_n 0, 1) := dk_42 (dk_at dksX2_method_2 15 rfl rfl)
theorem dX2_method_63 : decode cX2_method 63 = .ok (.getfield 38, 3) := dk_180 0 38 (dk_at dksX2_method_2 16 rfl rfl)
theorem dX2_method_66 : decode cX2_method 66 = .ok (.invokevirtual 45, 3) := dk_182 0 45 (dk_at dksX2_method_2 19 rfl rfl)
theorem dX2_method_69 : decode cX2_method 69 = .ok (.aload_n 0, 1) := dk_42 (dk_at dksX2_method_2 22 rfl rfl)
theorem dX2_method_70 : decode cX2_method 70 = .ok (.dup, 1) := dk_89 (dk_at dksX2_method_2 23 rfl rfl)
theorem dX2_method_71 : decode cX2_method 71 = .ok (.getfield 38, 3) := dk_180 0 38 (dk_at dksX2_method_3 0 rfl rfl)
theorem dX2_method_74 : decode cX2_method 74 = .ok (.iconst 1, 1) := dk_4 (dk_at dksX2_method_3 3 rfl rfl)
theorem dX2_method_75 : decode cX2_method 75 = .ok (.iadd, 1) := dk_96 (dk_at dksX2_method_3 4 rfl rfl)
theorem dX2_method_76 : decode cX2_method 76 = .ok (.putfield 38, 3) := dk_181 0 38 (dk_at dksX2_method_3 5 rfl rfl)
theorem dX2_method_79 : decode cX2_method 79 = .ok (.aload_n 0, 1) := dk_42 (dk_at dksX2_method_3 8 rfl rfl)
theorem dX2_method_80 : decode cX2_method 80 = .ok (.bipush 41, 2) := dk_16 41 (dk_at dksX2_method_3 9 rfl rfl)
theorem dX2_method_82 : decode cX2_method 82 = .ok (.invokevirtual 155, 3) := dk_182 0 155 (dk_at dksX2_method_3 11 rfl rfl)
theorem dX2_method_85 : decode cX2_method 85 = .ok (.aload_n 0, 1) := dk_42 (dk_at dksX2_method_3 14 rfl rfl)
theorem dX2_method_86 : decode cX2_method 86 = .ok (.bipush 61, 2) := dk_16 61 (dk_at dksX2_method_3 15 rfl rfl)
theorem dX2_method_88 : decode cX2_method 88 = .ok (.invokevirtual 155, 3) := dk_182 0 155 (dk_at dksX2_method_3 17 rfl rfl)
theorem dX2_method_91 : decode cX2_method 91 = .ok (.aload_n 0, 1) := dk_42 (dk_at dksX2_method_3 20 rfl rfl)
theorem dX2_method_92 : decode cX2_method 92 = .ok (.ldc 99, 2) := dk_18 99 (dk_at dksX2_method_3 21 rfl rfl)
theorem dX2_method_94 : decode cX2_method 94 = .ok (.iconst 0, 1) := dk_3 (dk_at dksX2_method_3 23 rfl rfl)
theorem dX2_method_95 : decode cX2_method 95 = .ok (.iload 4, 2) := dk_21 4 (dk_at dksX2_method_4 0 rfl rfl)
theorem dX2_method_97 : decode cX2_method 97 = .ok (.invokevirtual 232, 3) := dk_182 0 232 (dk_at dksX2_method_4 2 rfl rfl)
theorem dX2_method_100 : decode cX2_method 100 = .ok (.iconst 1, 1) := dk_4 (dk_at dksX2_method_4 5 rfl rfl)
theorem dX2_method_101 : decode cX2_method 101 = .ok (.invokevirtual 236, 3) := dk_182 0 236 (dk_at dksX2_method_4 6 rfl rfl)
theorem dX2_method_104 : decode cX2_method 104 = .ok (.astore 5, 2) := dk_58 5 (dk_at dksX2_method_4 9 rfl rfl)
theorem dX2_method_106 : decode cX2_method 106 = .ok (.aload_n 0, 1) := dk_42 (dk_at dksX2_method_4 11 rfl rfl)
theorem dX2_method_107 : decode cX2_method 107 = .ok (.aload_n 0, 1) := dk_42 (dk_at dksX2_method_4 12 rfl rfl)
theorem dX2_method_108 : decode cX2_method 108 = .ok (.invokevirtual 41, 3) := dk_182 0 41 (dk_at dksX2_method_4 13 rfl rfl)
theorem dX2_method_111 : decode cX2_method 111 = .ok (.iconst (-1), 1) := dk_2 (dk_at dksX2_method_4 16 rfl rfl)
theorem dX2_method_112 : decode cX2_method 112 = .ok (.if_icmp .ne 7, 3) := dk_160 0 7 (dk_at dksX2_method_4 17 rfl rfl)
theorem dX2_method_115 : decode cX2_method 115 = .ok (.iconst 1, 1) := dk_4 (dk_at dksX2_method_4 20 rfl rfl)
theorem dX2_method_116 : decode cX2_method 116 = .ok (.goto 4, 3) := dk_167 0 4 (dk_at dksX2_method_4 21 rfl rfl)
theorem dX2_method_119 : decode cX2_method 119 = .ok (.iconst 0, 1) := dk_3 (dk_at dksX2_method_5 0 rfl rfl)
theorem dX2_method_120 : decode cX2_method 120 = .ok (.iconst 1, 1) := dk_4 (dk_at dksX2_method_5 1 rfl rfl)
theorem dX2_method_121 : decode cX2_method 121 = .ok (.aload_n 0, 1) := dk_42 (dk_at dksX2_method_5 2 rfl rfl)
theorem dX2_method_122 : decode cX2_method 122 = .ok (.getfield 38, 3) := dk_180 0 38 (dk_at dksX2_method_5 3 rfl rfl)
theorem dX2_method_125 : decode cX2_method 125 = .ok (.invokevirtual 45, 3) := dk_182 0 45 (dk_at dksX2_method_5 6 rfl rfl)
theorem dX2_method_128 : decode cX2_method 128 = .ok (.new 240, 3) := dk_187 0 240 (dk_at dksX2_method_5 9 rfl rfl)
theorem dX2_method_131 : decode cX2_method 131 = .ok (.dup, 1) := dk_89 (dk_at dksX2_method_5 12 rfl rfl)
theorem dX2_method_132 : decode cX2_method 132 = .ok (.iload_n 2, 1) := dk_28 (dk_at dksX2_method_5 13 rfl rfl)
theorem dX2_method_133 : decode cX2_method 133 = .ok (.aload_n 3, 1) := dk_45 (dk_at dksX2_method_5 14 rfl rfl)
theorem dX2_method_134 : decode cX2_method 134 = .ok (.iload 4, 2) := dk_21 4 (dk_at dksX2_method_5 15 rfl rfl)
theorem dX2_method_136 : decode cX2_method 136 = .ok (.aload 5, 2) := dk_25 5 (dk_at dksX2_method_5 17 rfl rfl)
theorem dX2_method_138 : decode cX2_method 138 = .ok (.invokespecial 242, 3) := dk_183 0 242 (dk_at dksX2_method_5 19 rfl rfl)
theorem dX2_method_141 : decode cX2_method 141 = .ok (.areturn, 1) := dk_176 (dk_at dksX2_method_5 22 rfl rfl)
theorem dX2_method_142 : decode cX2_method 142 = .ok (.astore_n 3, 1) := dk_78 (dk_at dksX2_method_5 23 rfl rfl)
theorem dX2_method_143 : decode cX2_method 143 = .ok (.aconst_null, 1) := dk_1 (dk_at dksX2_method_6 0 rfl rfl)
theorem dX2_method_144 : decode cX2_method 144 = .ok (.areturn, 1) := dk_176 (dk_at dksX2_method_6 1 rfl rfl)
abbrev cX2_begin : ByteArray := prog_9_method_3_code
def yX2_begin : MethodName := ⟨RX2, "begin", "(I)V"⟩
def dkwX2_begin_0 : List UInt8 := [42, 27, 181, 0, 35, 42, 3, 181, 0, 38, 42, 3, 181, 0, 25, 42, 2, 181, 0, 9, 177]
abbrev dktX2_begin_0 : List UInt8 := dkwX2_begin_0 ++ []
theorem dksX2_begin_0 : cX2_begin.data.toList.drop 0 = dktX2_begin_0 := by decide +kernel
theorem dX2_begin_0 : decode cX2_begin 0 = .ok (.aload_n 0, 1) := dk_42 (dk_at dksX2_begin_0 0 rfl rfl)
theorem dX2_begin_1 : decode cX2_begin 1 = .ok (.iload_n 1, 1) := dk_27 (dk_at dksX2_begin_0 1 rfl rfl)
theorem dX2_begin_2 : decode cX2_begin 2 = .ok (.putfield 35, 3) := dk_181 0 35 (dk_at dksX2_begin_0 2 rfl rfl)
theorem dX2_begin_5 : decode cX2_begin 5 = .ok (.aload_n 0, 1) := dk_42 (dk_at dksX2_begin_0 5 rfl rfl)
theorem dX2_begin_6 : decode cX2_begin 6 = .ok (.iconst 0, 1) := dk_3 (dk_at dksX2_begin_0 6 rfl rfl)
theorem dX2_begin_7 : decode cX2_begin 7 = .ok (.putfield 38, 3) := dk_181 0 38 (dk_at dksX2_begin_0 7 rfl rfl)
theorem dX2_begin_10 : decode cX2_begin 10 = .ok (.aload_n 0, 1) := dk_42 (dk_at dksX2_begin_0 10 rfl rfl)
theorem dX2_begin_11 : decode cX2_begin 11 = .ok (.iconst 0, 1) := dk_3 (dk_at dksX2_begin_0 11 rfl rfl)
theorem dX2_begin_12 : decode cX2_begin 12 = .ok (.putfield 25, 3) := dk_181 0 25 (dk_at dksX2_begin_0 12 rfl rfl)
theorem dX2_begin_15 : decode cX2_begin 15 = .ok (.aload_n 0, 1) := dk_42 (dk_at dksX2_begin_0 15 rfl rfl)
theorem dX2_begin_16 : decode cX2_begin 16 = .ok (.iconst (-1), 1) := dk_2 (dk_at dksX2_begin_0 16 rfl rfl)
theorem dX2_begin_17 : decode cX2_begin 17 = .ok (.putfield 9, 3) := dk_181 0 9 (dk_at dksX2_begin_0 17 rfl rfl)
theorem dX2_begin_20 : decode cX2_begin 20 = .ok (.return_, 1) := dk_177 (dk_at dksX2_begin_0 20 rfl rfl)
abbrev cX2_isOfName : ByteArray := prog_9_method_9_code
def yX2_isOfName : MethodName := ⟨RX2, "isOfName", "()Z"⟩
def dkwX2_isOfName_1 : List UInt8 := [172]
abbrev dktX2_isOfName_1 : List UInt8 := dkwX2_isOfName_1 ++ []
def dkwX2_isOfName_0 : List UInt8 := [42, 182, 0, 41, 184, 0, 49, 154, 0, 12, 42, 182, 0, 41, 16, 46, 160, 0, 7, 4, 167, 0, 4, 3]
abbrev dktX2_isOfName_0 : List UInt8 := dkwX2_isOfName_0 ++ dktX2_isOfName_1
theorem dksX2_isOfName_0 : cX2_isOfName.data.toList.drop 0 = dktX2_isOfName_0 := by decide +kernel
theorem dksX2_isOfName_1 : cX2_isOfName.data.toList.drop 24 = dktX2_isOfName_1 := dk_seg dksX2_isOfName_0 24 rfl rfl
theorem dX2_isOfName_0 : decode cX2_isOfName 0 = .ok (.aload_n 0, 1) := dk_42 (dk_at dksX2_isOfName_0 0 rfl rfl)
theorem dX2_isOfName_1 : decode cX2_isOfName 1 = .ok (.invokevirtual 41, 3) := dk_182 0 41 (dk_at dksX2_isOfName_0 1 rfl rfl)
theorem dX2_isOfName_4 : decode cX2_isOfName 4 = .ok (.invokestatic 49, 3) := dk_184 0 49 (dk_at dksX2_isOfName_0 4 rfl rfl)
theorem dX2_isOfName_7 : decode cX2_isOfName 7 = .ok (.ifCond .ne 12, 3) := dk_154 0 12 (dk_at dksX2_isOfName_0 7 rfl rfl)
theorem dX2_isOfName_10 : decode cX2_isOfName 10 = .ok (.aload_n 0, 1) := dk_42 (dk_at dksX2_isOfName_0 10 rfl rfl)
theorem dX2_isOfName_11 : decode cX2_isOfName 11 = .ok (.invokevirtual 41, 3) := dk_182 0 41 (dk_at dksX2_isOfName_0 11 rfl rfl)
theorem dX2_isOfName_14 : decode cX2_isOfName 14 = .ok (.bipush 46, 2) := dk_16 46 (dk_at dksX2_isOfName_0 14 rfl rfl)
theorem dX2_isOfName_16 : decode cX2_isOfName 16 = .ok (.if_icmp .ne 7, 3) := dk_160 0 7 (dk_at dksX2_isOfName_0 16 rfl rfl)
theorem dX2_isOfName_19 : decode cX2_isOfName 19 = .ok (.iconst 1, 1) := dk_4 (dk_at dksX2_isOfName_0 19 rfl rfl)
theorem dX2_isOfName_20 : decode cX2_isOfName 20 = .ok (.goto 4, 3) := dk_167 0 4 (dk_at dksX2_isOfName_0 20 rfl rfl)
theorem dX2_isOfName_23 : decode cX2_isOfName 23 = .ok (.iconst 0, 1) := dk_3 (dk_at dksX2_isOfName_0 23 rfl rfl)
theorem dX2_isOfName_24 : decode cX2_isOfName 24 = .ok (.ireturn, 1) := dk_172 (dk_at dksX2_isOfName_1 0 rfl rfl)
abbrev cX2_peek : ByteArray := prog_9_method_4_code
def yX2_peek : MethodName := ⟨RX2, "peek", "()I"⟩
def dkwX2_peek_1 : List UInt8 := [167, 0, 4, 2, 172]
abbrev dktX2_peek_1 : List UInt8 := dkwX2_peek_1 ++ []
def dkwX2_peek_0 : List UInt8 := [42, 180, 0, 38, 42, 180, 0, 35, 162, 0, 19, 42, 180, 0, 21, 42, 180, 0, 38, 51, 17, 0, 255, 126]
abbrev dktX2_peek_0 : List UInt8 := dkwX2_peek_0 ++ dktX2_peek_1
theorem dksX2_peek_0 : cX2_peek.data.toList.drop 0 = dktX2_peek_0 := by decide +kernel
theorem dksX2_peek_1 : cX2_peek.data.toList.drop 24 = dktX2_peek_1 := dk_seg dksX2_peek_0 24 rfl rfl
theorem dX2_peek_0 : decode cX2_peek 0 = .ok (.aload_n 0, 1) := dk_42 (dk_at dksX2_peek_0 0 rfl rfl)
theorem dX2_peek_1 : decode cX2_peek 1 = .ok (.getfield 38, 3) := dk_180 0 38 (dk_at dksX2_peek_0 1 rfl rfl)
theorem dX2_peek_4 : decode cX2_peek 4 = .ok (.aload_n 0, 1) := dk_42 (dk_at dksX2_peek_0 4 rfl rfl)
theorem dX2_peek_5 : decode cX2_peek 5 = .ok (.getfield 35, 3) := dk_180 0 35 (dk_at dksX2_peek_0 5 rfl rfl)
theorem dX2_peek_8 : decode cX2_peek 8 = .ok (.if_icmp .ge 19, 3) := dk_162 0 19 (dk_at dksX2_peek_0 8 rfl rfl)
theorem dX2_peek_11 : decode cX2_peek 11 = .ok (.aload_n 0, 1) := dk_42 (dk_at dksX2_peek_0 11 rfl rfl)
theorem dX2_peek_12 : decode cX2_peek 12 = .ok (.getfield 21, 3) := dk_180 0 21 (dk_at dksX2_peek_0 12 rfl rfl)
theorem dX2_peek_15 : decode cX2_peek 15 = .ok (.aload_n 0, 1) := dk_42 (dk_at dksX2_peek_0 15 rfl rfl)
theorem dX2_peek_16 : decode cX2_peek 16 = .ok (.getfield 38, 3) := dk_180 0 38 (dk_at dksX2_peek_0 16 rfl rfl)
theorem dX2_peek_19 : decode cX2_peek 19 = .ok (.baload, 1) := dk_51 (dk_at dksX2_peek_0 19 rfl rfl)
theorem dX2_peek_20 : decode cX2_peek 20 = .ok (.sipush 255, 3) := dk_17 0 255 (dk_at dksX2_peek_0 20 rfl rfl)
theorem dX2_peek_23 : decode cX2_peek 23 = .ok (.iand, 1) := dk_126 (dk_at dksX2_peek_0 23 rfl rfl)
theorem dX2_peek_24 : decode cX2_peek 24 = .ok (.goto 4, 3) := dk_167 0 4 (dk_at dksX2_peek_1 0 rfl rfl)
theorem dX2_peek_27 : decode cX2_peek 27 = .ok (.iconst (-1), 1) := dk_2 (dk_at dksX2_peek_1 3 rfl rfl)
theorem dX2_peek_28 : decode cX2_peek 28 = .ok (.ireturn, 1) := dk_172 (dk_at dksX2_peek_1 4 rfl rfl)
abbrev cX2_isLetter : ByteArray := prog_9_method_7_code
def yX2_isLetter : MethodName := ⟨RX2, "isLetter", "(I)Z"⟩
def dkwX2_isLetter_0 : List UInt8 := [26, 16, 97, 161, 0, 13, 26, 16, 122, 163, 0, 7, 4, 167, 0, 4, 3, 172]
abbrev dktX2_isLetter_0 : List UInt8 := dkwX2_isLetter_0 ++ []
theorem dksX2_isLetter_0 : cX2_isLetter.data.toList.drop 0 = dktX2_isLetter_0 := by decide +kernel
theorem dX2_isLetter_0 : decode cX2_isLetter 0 = .ok (.iload_n 0, 1) := dk_26 (dk_at dksX2_isLetter_0 0 rfl rfl)
theorem dX2_isLetter_1 : decode cX2_isLetter 1 = .ok (.bipush 97, 2) := dk_16 97 (dk_at dksX2_isLetter_0 1 rfl rfl)
theorem dX2_isLetter_3 : decode cX2_isLetter 3 = .ok (.if_icmp .lt 13, 3) := dk_161 0 13 (dk_at dksX2_isLetter_0 3 rfl rfl)
theorem dX2_isLetter_6 : decode cX2_isLetter 6 = .ok (.iload_n 0, 1) := dk_26 (dk_at dksX2_isLetter_0 6 rfl rfl)
theorem dX2_isLetter_7 : decode cX2_isLetter 7 = .ok (.bipush 122, 2) := dk_16 122 (dk_at dksX2_isLetter_0 7 rfl rfl)
theorem dX2_isLetter_9 : decode cX2_isLetter 9 = .ok (.if_icmp .gt 7, 3) := dk_163 0 7 (dk_at dksX2_isLetter_0 9 rfl rfl)
theorem dX2_isLetter_12 : decode cX2_isLetter 12 = .ok (.iconst 1, 1) := dk_4 (dk_at dksX2_isLetter_0 12 rfl rfl)
theorem dX2_isLetter_13 : decode cX2_isLetter 13 = .ok (.goto 4, 3) := dk_167 0 4 (dk_at dksX2_isLetter_0 13 rfl rfl)
theorem dX2_isLetter_16 : decode cX2_isLetter 16 = .ok (.iconst 0, 1) := dk_3 (dk_at dksX2_isLetter_0 16 rfl rfl)
theorem dX2_isLetter_17 : decode cX2_isLetter 17 = .ok (.ireturn, 1) := dk_172 (dk_at dksX2_isLetter_0 17 rfl rfl)
abbrev cX2_want : ByteArray := prog_9_method_2_code
def yX2_want : MethodName := ⟨RX2, "want", "(ZII)V"⟩
def dkwX2_want_1 : List UInt8 := [177]
abbrev dktX2_want_1 : List UInt8 := dkwX2_want_1 ++ []
def dkwX2_want_0 : List UInt8 := [27, 154, 0, 23, 42, 28, 181, 0, 25, 42, 29, 181, 0, 9, 187, 0, 28, 89, 18, 30, 183, 0, 32, 191]
abbrev dktX2_want_0 : List UInt8 := dkwX2_want_0 ++ dktX2_want_1
theorem dksX2_want_0 : cX2_want.data.toList.drop 0 = dktX2_want_0 := by decide +kernel
theorem dksX2_want_1 : cX2_want.data.toList.drop 24 = dktX2_want_1 := dk_seg dksX2_want_0 24 rfl rfl
theorem dX2_want_0 : decode cX2_want 0 = .ok (.iload_n 1, 1) := dk_27 (dk_at dksX2_want_0 0 rfl rfl)
theorem dX2_want_1 : decode cX2_want 1 = .ok (.ifCond .ne 23, 3) := dk_154 0 23 (dk_at dksX2_want_0 1 rfl rfl)
theorem dX2_want_4 : decode cX2_want 4 = .ok (.aload_n 0, 1) := dk_42 (dk_at dksX2_want_0 4 rfl rfl)
theorem dX2_want_5 : decode cX2_want 5 = .ok (.iload_n 2, 1) := dk_28 (dk_at dksX2_want_0 5 rfl rfl)
theorem dX2_want_6 : decode cX2_want 6 = .ok (.putfield 25, 3) := dk_181 0 25 (dk_at dksX2_want_0 6 rfl rfl)
theorem dX2_want_9 : decode cX2_want 9 = .ok (.aload_n 0, 1) := dk_42 (dk_at dksX2_want_0 9 rfl rfl)
theorem dX2_want_10 : decode cX2_want 10 = .ok (.iload_n 3, 1) := dk_29 (dk_at dksX2_want_0 10 rfl rfl)
theorem dX2_want_11 : decode cX2_want 11 = .ok (.putfield 9, 3) := dk_181 0 9 (dk_at dksX2_want_0 11 rfl rfl)
theorem dX2_want_14 : decode cX2_want 14 = .ok (.new 28, 3) := dk_187 0 28 (dk_at dksX2_want_0 14 rfl rfl)
theorem dX2_want_17 : decode cX2_want 17 = .ok (.dup, 1) := dk_89 (dk_at dksX2_want_0 17 rfl rfl)
theorem dX2_want_18 : decode cX2_want 18 = .ok (.ldc 30, 2) := dk_18 30 (dk_at dksX2_want_0 18 rfl rfl)
theorem dX2_want_20 : decode cX2_want 20 = .ok (.invokespecial 32, 3) := dk_183 0 32 (dk_at dksX2_want_0 20 rfl rfl)
theorem dX2_want_23 : decode cX2_want 23 = .ok (.athrow, 1) := dk_191 (dk_at dksX2_want_0 23 rfl rfl)
theorem dX2_want_24 : decode cX2_want 24 = .ok (.return_, 1) := dk_177 (dk_at dksX2_want_1 0 rfl rfl)
abbrev cX2_row : ByteArray := prog_9_method_12_code
def yX2_row : MethodName := ⟨RX2, "row", "()Ljava/lang/String;"⟩
def dkwX2_row_2 : List UInt8 := [182, 0, 81, 87, 42, 89, 180, 0, 38, 4, 96, 181, 0, 38, 167, 255, 206, 43, 182, 0, 85, 176]
abbrev dktX2_row_2 : List UInt8 := dkwX2_row_2 ++ []
def dkwX2_row_1 : List UInt8 := [162, 0, 7, 4, 167, 0, 4, 3, 6, 42, 180, 0, 38, 182, 0, 45, 43, 42, 182, 0, 41, 146]
abbrev dktX2_row_1 : List UInt8 := dkwX2_row_1 ++ dktX2_row_2
def dkwX2_row_0 : List UInt8 := [187, 0, 72, 89, 183, 0, 74, 76, 42, 182, 0, 75, 153, 0, 49, 42, 43, 182, 0, 78, 16, 12]
abbrev dktX2_row_0 : List UInt8 := dkwX2_row_0 ++ dktX2_row_1
theorem dksX2_row_0 : cX2_row.data.toList.drop 0 = dktX2_row_0 := by decide +kernel
theorem dksX2_row_1 : cX2_row.data.toList.drop 22 = dktX2_row_1 := dk_seg dksX2_row_0 22 rfl rfl
theorem dksX2_row_2 : cX2_row.data.toList.drop 44 = dktX2_row_2 := dk_seg dksX2_row_1 22 rfl rfl
theorem dX2_row_0 : decode cX2_row 0 = .ok (.new 72, 3) := dk_187 0 72 (dk_at dksX2_row_0 0 rfl rfl)
theorem dX2_row_3 : decode cX2_row 3 = .ok (.dup, 1) := dk_89 (dk_at dksX2_row_0 3 rfl rfl)
theorem dX2_row_4 : decode cX2_row 4 = .ok (.invokespecial 74, 3) := dk_183 0 74 (dk_at dksX2_row_0 4 rfl rfl)
theorem dX2_row_7 : decode cX2_row 7 = .ok (.astore_n 1, 1) := dk_76 (dk_at dksX2_row_0 7 rfl rfl)
theorem dX2_row_8 : decode cX2_row 8 = .ok (.aload_n 0, 1) := dk_42 (dk_at dksX2_row_0 8 rfl rfl)
theorem dX2_row_9 : decode cX2_row 9 = .ok (.invokevirtual 75, 3) := dk_182 0 75 (dk_at dksX2_row_0 9 rfl rfl)
theorem dX2_row_12 : decode cX2_row 12 = .ok (.ifCond .eq 49, 3) := dk_153 0 49 (dk_at dksX2_row_0 12 rfl rfl)
theorem dX2_row_15 : decode cX2_row 15 = .ok (.aload_n 0, 1) := dk_42 (dk_at dksX2_row_0 15 rfl rfl)
theorem dX2_row_16 : decode cX2_row 16 = .ok (.aload_n 1, 1) := dk_43 (dk_at dksX2_row_0 16 rfl rfl)
theorem dX2_row_17 : decode cX2_row 17 = .ok (.invokevirtual 78, 3) := dk_182 0 78 (dk_at dksX2_row_0 17 rfl rfl)
theorem dX2_row_20 : decode cX2_row 20 = .ok (.bipush 12, 2) := dk_16 12 (dk_at dksX2_row_0 20 rfl rfl)
theorem dX2_row_22 : decode cX2_row 22 = .ok (.if_icmp .ge 7, 3) := dk_162 0 7 (dk_at dksX2_row_1 0 rfl rfl)
theorem dX2_row_25 : decode cX2_row 25 = .ok (.iconst 1, 1) := dk_4 (dk_at dksX2_row_1 3 rfl rfl)
theorem dX2_row_26 : decode cX2_row 26 = .ok (.goto 4, 3) := dk_167 0 4 (dk_at dksX2_row_1 4 rfl rfl)
theorem dX2_row_29 : decode cX2_row 29 = .ok (.iconst 0, 1) := dk_3 (dk_at dksX2_row_1 7 rfl rfl)
theorem dX2_row_30 : decode cX2_row 30 = .ok (.iconst 3, 1) := dk_6 (dk_at dksX2_row_1 8 rfl rfl)
theorem dX2_row_31 : decode cX2_row 31 = .ok (.aload_n 0, 1) := dk_42 (dk_at dksX2_row_1 9 rfl rfl)
theorem dX2_row_32 : decode cX2_row 32 = .ok (.getfield 38, 3) := dk_180 0 38 (dk_at dksX2_row_1 10 rfl rfl)
theorem dX2_row_35 : decode cX2_row 35 = .ok (.invokevirtual 45, 3) := dk_182 0 45 (dk_at dksX2_row_1 13 rfl rfl)
theorem dX2_row_38 : decode cX2_row 38 = .ok (.aload_n 1, 1) := dk_43 (dk_at dksX2_row_1 16 rfl rfl)
theorem dX2_row_39 : decode cX2_row 39 = .ok (.aload_n 0, 1) := dk_42 (dk_at dksX2_row_1 17 rfl rfl)
theorem dX2_row_40 : decode cX2_row 40 = .ok (.invokevirtual 41, 3) := dk_182 0 41 (dk_at dksX2_row_1 18 rfl rfl)
theorem dX2_row_43 : decode cX2_row 43 = .ok (.i2c, 1) := dk_146 (dk_at dksX2_row_1 21 rfl rfl)
theorem dX2_row_44 : decode cX2_row 44 = .ok (.invokevirtual 81, 3) := dk_182 0 81 (dk_at dksX2_row_2 0 rfl rfl)
theorem dX2_row_47 : decode cX2_row 47 = .ok (.pop, 1) := dk_87 (dk_at dksX2_row_2 3 rfl rfl)
theorem dX2_row_48 : decode cX2_row 48 = .ok (.aload_n 0, 1) := dk_42 (dk_at dksX2_row_2 4 rfl rfl)
theorem dX2_row_49 : decode cX2_row 49 = .ok (.dup, 1) := dk_89 (dk_at dksX2_row_2 5 rfl rfl)
theorem dX2_row_50 : decode cX2_row 50 = .ok (.getfield 38, 3) := dk_180 0 38 (dk_at dksX2_row_2 6 rfl rfl)
theorem dX2_row_53 : decode cX2_row 53 = .ok (.iconst 1, 1) := dk_4 (dk_at dksX2_row_2 9 rfl rfl)
theorem dX2_row_54 : decode cX2_row 54 = .ok (.iadd, 1) := dk_96 (dk_at dksX2_row_2 10 rfl rfl)
theorem dX2_row_55 : decode cX2_row 55 = .ok (.putfield 38, 3) := dk_181 0 38 (dk_at dksX2_row_2 11 rfl rfl)
theorem dX2_row_58 : decode cX2_row 58 = .ok (.goto (-50), 3) := dk_167 255 206 (dk_at dksX2_row_2 14 rfl rfl)
theorem dX2_row_61 : decode cX2_row 61 = .ok (.aload_n 1, 1) := dk_43 (dk_at dksX2_row_2 17 rfl rfl)
theorem dX2_row_62 : decode cX2_row 62 = .ok (.invokevirtual 85, 3) := dk_182 0 85 (dk_at dksX2_row_2 18 rfl rfl)
theorem dX2_row_65 : decode cX2_row 65 = .ok (.areturn, 1) := dk_176 (dk_at dksX2_row_2 21 rfl rfl)
abbrev cX2_isName : ByteArray := prog_9_method_13_code
def yX2_isName : MethodName := ⟨RX2, "isName", "(Ljava/lang/String;I)V"⟩
def dkwX2_isName_3 : List UInt8 := [167, 0, 4, 3, 4, 28, 182, 0, 45, 177]
abbrev dktX2_isName_3 : List UInt8 := dkwX2_isName_3 ++ []
def dkwX2_isName_2 : List UInt8 := [182, 0, 92, 16, 46, 159, 0, 22, 43, 43, 182, 0, 89, 4, 100, 182, 0, 92, 16, 46, 159, 0, 7, 4]
abbrev dktX2_isName_2 : List UInt8 := dkwX2_isName_2 ++ dktX2_isName_3
def dkwX2_isName_1 : List UInt8 := [160, 0, 7, 4, 167, 0, 4, 3, 96, 62, 132, 4, 1, 167, 255, 225, 42, 29, 4, 160, 0, 32, 43, 3]
abbrev dktX2_isName_1 : List UInt8 := dkwX2_isName_1 ++ dktX2_isName_2
def dkwX2_isName_0 : List UInt8 := [3, 62, 3, 54, 4, 21, 4, 43, 182, 0, 89, 162, 0, 28, 29, 43, 21, 4, 182, 0, 92, 16, 46]
abbrev dktX2_isName_0 : List UInt8 := dkwX2_isName_0 ++ dktX2_isName_1
theorem dksX2_isName_0 : cX2_isName.data.toList.drop 0 = dktX2_isName_0 := by decide +kernel
theorem dksX2_isName_1 : cX2_isName.data.toList.drop 23 = dktX2_isName_1 := dk_seg dksX2_isName_0 23 rfl rfl
theorem dksX2_isName_2 : cX2_isName.data.toList.drop 47 = dktX2_isName_2 := dk_seg dksX2_isName_1 24 rfl rfl
theorem dksX2_isName_3 : cX2_isName.data.toList.drop 71 = dktX2_isName_3 := dk_seg dksX2_isName_2 24 rfl rfl
theorem dX2_isName_0 : decode cX2_isName 0 = .ok (.iconst 0, 1) := dk_3 (dk_at dksX2_isName_0 0 rfl rfl)
theorem dX2_isName_1 : decode cX2_isName 1 = .ok (.istore_n 3, 1) := dk_62 (dk_at dksX2_isName_0 1 rfl rfl)
theorem dX2_isName_2 : decode cX2_isName 2 = .ok (.iconst 0, 1) := dk_3 (dk_at dksX2_isName_0 2 rfl rfl)
theorem dX2_isName_3 : decode cX2_isName 3 = .ok (.istore 4, 2) := dk_54 4 (dk_at dksX2_isName_0 3 rfl rfl)
theorem dX2_isName_5 : decode cX2_isName 5 = .ok (.iload 4, 2) := dk_21 4 (dk_at dksX2_isName_0 5 rfl rfl)
theorem dX2_isName_7 : decode cX2_isName 7 = .ok (.aload_n 1, 1) := dk_43 (dk_at dksX2_isName_0 7 rfl rfl)
theorem dX2_isName_8 : decode cX2_isName 8 = .ok (.invokevirtual 89, 3) := dk_182 0 89 (dk_at dksX2_isName_0 8 rfl rfl)
theorem dX2_isName_11 : decode cX2_isName 11 = .ok (.if_icmp .ge 28, 3) := dk_162 0 28 (dk_at dksX2_isName_0 11 rfl rfl)
theorem dX2_isName_14 : decode cX2_isName 14 = .ok (.iload_n 3, 1) := dk_29 (dk_at dksX2_isName_0 14 rfl rfl)
theorem dX2_isName_15 : decode cX2_isName 15 = .ok (.aload_n 1, 1) := dk_43 (dk_at dksX2_isName_0 15 rfl rfl)
theorem dX2_isName_16 : decode cX2_isName 16 = .ok (.iload 4, 2) := dk_21 4 (dk_at dksX2_isName_0 16 rfl rfl)
theorem dX2_isName_18 : decode cX2_isName 18 = .ok (.invokevirtual 92, 3) := dk_182 0 92 (dk_at dksX2_isName_0 18 rfl rfl)
theorem dX2_isName_21 : decode cX2_isName 21 = .ok (.bipush 46, 2) := dk_16 46 (dk_at dksX2_isName_0 21 rfl rfl)
theorem dX2_isName_23 : decode cX2_isName 23 = .ok (.if_icmp .ne 7, 3) := dk_160 0 7 (dk_at dksX2_isName_1 0 rfl rfl)
theorem dX2_isName_26 : decode cX2_isName 26 = .ok (.iconst 1, 1) := dk_4 (dk_at dksX2_isName_1 3 rfl rfl)
theorem dX2_isName_27 : decode cX2_isName 27 = .ok (.goto 4, 3) := dk_167 0 4 (dk_at dksX2_isName_1 4 rfl rfl)
theorem dX2_isName_30 : decode cX2_isName 30 = .ok (.iconst 0, 1) := dk_3 (dk_at dksX2_isName_1 7 rfl rfl)
theorem dX2_isName_31 : decode cX2_isName 31 = .ok (.iadd, 1) := dk_96 (dk_at dksX2_isName_1 8 rfl rfl)
theorem dX2_isName_32 : decode cX2_isName 32 = .ok (.istore_n 3, 1) := dk_62 (dk_at dksX2_isName_1 9 rfl rfl)
theorem dX2_isName_33 : decode cX2_isName 33 = .ok (.iinc 4 1, 3) := dk_132 4 1 (dk_at dksX2_isName_1 10 rfl rfl)
theorem dX2_isName_36 : decode cX2_isName 36 = .ok (.goto (-31), 3) := dk_167 255 225 (dk_at dksX2_isName_1 13 rfl rfl)
theorem dX2_isName_39 : decode cX2_isName 39 = .ok (.aload_n 0, 1) := dk_42 (dk_at dksX2_isName_1 16 rfl rfl)
theorem dX2_isName_40 : decode cX2_isName 40 = .ok (.iload_n 3, 1) := dk_29 (dk_at dksX2_isName_1 17 rfl rfl)
theorem dX2_isName_41 : decode cX2_isName 41 = .ok (.iconst 1, 1) := dk_4 (dk_at dksX2_isName_1 18 rfl rfl)
theorem dX2_isName_42 : decode cX2_isName 42 = .ok (.if_icmp .ne 32, 3) := dk_160 0 32 (dk_at dksX2_isName_1 19 rfl rfl)
theorem dX2_isName_45 : decode cX2_isName 45 = .ok (.aload_n 1, 1) := dk_43 (dk_at dksX2_isName_1 22 rfl rfl)
theorem dX2_isName_46 : decode cX2_isName 46 = .ok (.iconst 0, 1) := dk_3 (dk_at dksX2_isName_1 23 rfl rfl)
theorem dX2_isName_47 : decode cX2_isName 47 = .ok (.invokevirtual 92, 3) := dk_182 0 92 (dk_at dksX2_isName_2 0 rfl rfl)
theorem dX2_isName_50 : decode cX2_isName 50 = .ok (.bipush 46, 2) := dk_16 46 (dk_at dksX2_isName_2 3 rfl rfl)
theorem dX2_isName_52 : decode cX2_isName 52 = .ok (.if_icmp .eq 22, 3) := dk_159 0 22 (dk_at dksX2_isName_2 5 rfl rfl)
theorem dX2_isName_55 : decode cX2_isName 55 = .ok (.aload_n 1, 1) := dk_43 (dk_at dksX2_isName_2 8 rfl rfl)
theorem dX2_isName_56 : decode cX2_isName 56 = .ok (.aload_n 1, 1) := dk_43 (dk_at dksX2_isName_2 9 rfl rfl)
theorem dX2_isName_57 : decode cX2_isName 57 = .ok (.invokevirtual 89, 3) := dk_182 0 89 (dk_at dksX2_isName_2 10 rfl rfl)
theorem dX2_isName_60 : decode cX2_isName 60 = .ok (.iconst 1, 1) := dk_4 (dk_at dksX2_isName_2 13 rfl rfl)
theorem dX2_isName_61 : decode cX2_isName 61 = .ok (.isub, 1) := dk_100 (dk_at dksX2_isName_2 14 rfl rfl)
theorem dX2_isName_62 : decode cX2_isName 62 = .ok (.invokevirtual 92, 3) := dk_182 0 92 (dk_at dksX2_isName_2 15 rfl rfl)
theorem dX2_isName_65 : decode cX2_isName 65 = .ok (.bipush 46, 2) := dk_16 46 (dk_at dksX2_isName_2 18 rfl rfl)
theorem dX2_isName_67 : decode cX2_isName 67 = .ok (.if_icmp .eq 7, 3) := dk_159 0 7 (dk_at dksX2_isName_2 20 rfl rfl)
theorem dX2_isName_70 : decode cX2_isName 70 = .ok (.iconst 1, 1) := dk_4 (dk_at dksX2_isName_2 23 rfl rfl)
theorem dX2_isName_71 : decode cX2_isName 71 = .ok (.goto 4, 3) := dk_167 0 4 (dk_at dksX2_isName_3 0 rfl rfl)
theorem dX2_isName_74 : decode cX2_isName 74 = .ok (.iconst 0, 1) := dk_3 (dk_at dksX2_isName_3 3 rfl rfl)
theorem dX2_isName_75 : decode cX2_isName 75 = .ok (.iconst 1, 1) := dk_4 (dk_at dksX2_isName_3 4 rfl rfl)
theorem dX2_isName_76 : decode cX2_isName 76 = .ok (.iload_n 2, 1) := dk_28 (dk_at dksX2_isName_3 5 rfl rfl)
theorem dX2_isName_77 : decode cX2_isName 77 = .ok (.invokevirtual 45, 3) := dk_182 0 45 (dk_at dksX2_isName_3 6 rfl rfl)
theorem dX2_isName_80 : decode cX2_isName 80 = .ok (.return_, 1) := dk_177 (dk_at dksX2_isName_3 9 rfl rfl)
abbrev cX2_take : ByteArray := prog_9_method_6_code
def yX2_take : MethodName := ⟨RX2, "take", "(I)V"⟩
def dkwX2_take_1 : List UInt8 := [180, 0, 38, 4, 96, 181, 0, 38, 177]
abbrev dktX2_take_1 : List UInt8 := dkwX2_take_1 ++ []
def dkwX2_take_0 : List UInt8 := [42, 42, 182, 0, 41, 27, 160, 0, 7, 4, 167, 0, 4, 3, 4, 42, 180, 0, 38, 182, 0, 45, 42, 89]
abbrev dktX2_take_0 : List UInt8 := dkwX2_take_0 ++ dktX2_take_1
theorem dksX2_take_0 : cX2_take.data.toList.drop 0 = dktX2_take_0 := by decide +kernel
theorem dksX2_take_1 : cX2_take.data.toList.drop 24 = dktX2_take_1 := dk_seg dksX2_take_0 24 rfl rfl
theorem dX2_take_0 : decode cX2_take 0 = .ok (.aload_n 0, 1) := dk_42 (dk_at dksX2_take_0 0 rfl rfl)
theorem dX2_take_1 : decode cX2_take 1 = .ok (.aload_n 0, 1) := dk_42 (dk_at dksX2_take_0 1 rfl rfl)
theorem dX2_take_2 : decode cX2_take 2 = .ok (.invokevirtual 41, 3) := dk_182 0 41 (dk_at dksX2_take_0 2 rfl rfl)
theorem dX2_take_5 : decode cX2_take 5 = .ok (.iload_n 1, 1) := dk_27 (dk_at dksX2_take_0 5 rfl rfl)
theorem dX2_take_6 : decode cX2_take 6 = .ok (.if_icmp .ne 7, 3) := dk_160 0 7 (dk_at dksX2_take_0 6 rfl rfl)
theorem dX2_take_9 : decode cX2_take 9 = .ok (.iconst 1, 1) := dk_4 (dk_at dksX2_take_0 9 rfl rfl)
theorem dX2_take_10 : decode cX2_take 10 = .ok (.goto 4, 3) := dk_167 0 4 (dk_at dksX2_take_0 10 rfl rfl)
theorem dX2_take_13 : decode cX2_take 13 = .ok (.iconst 0, 1) := dk_3 (dk_at dksX2_take_0 13 rfl rfl)
theorem dX2_take_14 : decode cX2_take 14 = .ok (.iconst 1, 1) := dk_4 (dk_at dksX2_take_0 14 rfl rfl)
theorem dX2_take_15 : decode cX2_take 15 = .ok (.aload_n 0, 1) := dk_42 (dk_at dksX2_take_0 15 rfl rfl)
theorem dX2_take_16 : decode cX2_take 16 = .ok (.getfield 38, 3) := dk_180 0 38 (dk_at dksX2_take_0 16 rfl rfl)
theorem dX2_take_19 : decode cX2_take 19 = .ok (.invokevirtual 45, 3) := dk_182 0 45 (dk_at dksX2_take_0 19 rfl rfl)
theorem dX2_take_22 : decode cX2_take 22 = .ok (.aload_n 0, 1) := dk_42 (dk_at dksX2_take_0 22 rfl rfl)
theorem dX2_take_23 : decode cX2_take 23 = .ok (.dup, 1) := dk_89 (dk_at dksX2_take_0 23 rfl rfl)
theorem dX2_take_24 : decode cX2_take 24 = .ok (.getfield 38, 3) := dk_180 0 38 (dk_at dksX2_take_1 0 rfl rfl)
theorem dX2_take_27 : decode cX2_take 27 = .ok (.iconst 1, 1) := dk_4 (dk_at dksX2_take_1 3 rfl rfl)
theorem dX2_take_28 : decode cX2_take 28 = .ok (.iadd, 1) := dk_96 (dk_at dksX2_take_1 4 rfl rfl)
theorem dX2_take_29 : decode cX2_take 29 = .ok (.putfield 38, 3) := dk_181 0 38 (dk_at dksX2_take_1 5 rfl rfl)
theorem dX2_take_32 : decode cX2_take 32 = .ok (.return_, 1) := dk_177 (dk_at dksX2_take_1 8 rfl rfl)
abbrev cX2_whole : ByteArray := prog_9_method_25_code
def yX2_whole : MethodName := ⟨RX2, "whole", "(Ljava/lang/String;Z)LProbeConsole$Node;"⟩
def dkwX2_whole_1 : List UInt8 := [176]
abbrev dktX2_whole_1 : List UInt8 := dkwX2_whole_1 ++ []
def dkwX2_whole_0 : List UInt8 := [42, 3, 181, 0, 69, 42, 3, 181, 0, 152, 42, 43, 181, 0, 17, 42, 28, 181, 0, 120, 42, 182, 0, 138]
abbrev dktX2_whole_0 : List UInt8 := dkwX2_whole_0 ++ dktX2_whole_1
theorem dksX2_whole_0 : cX2_whole.data.toList.drop 0 = dktX2_whole_0 := by decide +kernel
theorem dksX2_whole_1 : cX2_whole.data.toList.drop 24 = dktX2_whole_1 := dk_seg dksX2_whole_0 24 rfl rfl
theorem dX2_whole_0 : decode cX2_whole 0 = .ok (.aload_n 0, 1) := dk_42 (dk_at dksX2_whole_0 0 rfl rfl)
theorem dX2_whole_1 : decode cX2_whole 1 = .ok (.iconst 0, 1) := dk_3 (dk_at dksX2_whole_0 1 rfl rfl)
theorem dX2_whole_2 : decode cX2_whole 2 = .ok (.putfield 69, 3) := dk_181 0 69 (dk_at dksX2_whole_0 2 rfl rfl)
theorem dX2_whole_5 : decode cX2_whole 5 = .ok (.aload_n 0, 1) := dk_42 (dk_at dksX2_whole_0 5 rfl rfl)
theorem dX2_whole_6 : decode cX2_whole 6 = .ok (.iconst 0, 1) := dk_3 (dk_at dksX2_whole_0 6 rfl rfl)
theorem dX2_whole_7 : decode cX2_whole 7 = .ok (.putfield 152, 3) := dk_181 0 152 (dk_at dksX2_whole_0 7 rfl rfl)
theorem dX2_whole_10 : decode cX2_whole 10 = .ok (.aload_n 0, 1) := dk_42 (dk_at dksX2_whole_0 10 rfl rfl)
theorem dX2_whole_11 : decode cX2_whole 11 = .ok (.aload_n 1, 1) := dk_43 (dk_at dksX2_whole_0 11 rfl rfl)
theorem dX2_whole_12 : decode cX2_whole 12 = .ok (.putfield 17, 3) := dk_181 0 17 (dk_at dksX2_whole_0 12 rfl rfl)
theorem dX2_whole_15 : decode cX2_whole 15 = .ok (.aload_n 0, 1) := dk_42 (dk_at dksX2_whole_0 15 rfl rfl)
theorem dX2_whole_16 : decode cX2_whole 16 = .ok (.iload_n 2, 1) := dk_28 (dk_at dksX2_whole_0 16 rfl rfl)
theorem dX2_whole_17 : decode cX2_whole 17 = .ok (.putfield 120, 3) := dk_181 0 120 (dk_at dksX2_whole_0 17 rfl rfl)
theorem dX2_whole_20 : decode cX2_whole 20 = .ok (.aload_n 0, 1) := dk_42 (dk_at dksX2_whole_0 20 rfl rfl)
theorem dX2_whole_21 : decode cX2_whole 21 = .ok (.invokevirtual 138, 3) := dk_182 0 138 (dk_at dksX2_whole_0 21 rfl rfl)
theorem dX2_whole_24 : decode cX2_whole 24 = .ok (.areturn, 1) := dk_176 (dk_at dksX2_whole_1 0 rfl rfl)
abbrev cX2_expression : ByteArray := prog_9_method_24_code
def yX2_expression : MethodName := ⟨RX2, "expression", "()LProbeConsole$Node;"⟩
def dkwX2_expression_2 : List UInt8 := [42, 182, 0, 223, 182, 0, 142, 76, 167, 255, 205, 43, 176]
abbrev dktX2_expression_2 : List UInt8 := dkwX2_expression_2 ++ []
def dkwX2_expression_1 : List UInt8 := [180, 0, 38, 4, 96, 181, 0, 38, 187, 0, 105, 89, 178, 0, 226, 3, 1, 183, 0, 113, 43, 182, 0, 142]
abbrev dktX2_expression_1 : List UInt8 := dkwX2_expression_1 ++ dktX2_expression_2
def dkwX2_expression_0 : List UInt8 := [42, 182, 0, 223, 76, 42, 182, 0, 41, 16, 35, 160, 0, 48, 42, 42, 180, 0, 38, 182, 0, 159, 42, 89]
abbrev dktX2_expression_0 : List UInt8 := dkwX2_expression_0 ++ dktX2_expression_1
theorem dksX2_expression_0 : cX2_expression.data.toList.drop 0 = dktX2_expression_0 := by decide +kernel
theorem dksX2_expression_1 : cX2_expression.data.toList.drop 24 = dktX2_expression_1 := dk_seg dksX2_expression_0 24 rfl rfl
theorem dksX2_expression_2 : cX2_expression.data.toList.drop 48 = dktX2_expression_2 := dk_seg dksX2_expression_1 24 rfl rfl
theorem dX2_expression_0 : decode cX2_expression 0 = .ok (.aload_n 0, 1) := dk_42 (dk_at dksX2_expression_0 0 rfl rfl)
theorem dX2_expression_1 : decode cX2_expression 1 = .ok (.invokevirtual 223, 3) := dk_182 0 223 (dk_at dksX2_expression_0 1 rfl rfl)
theorem dX2_expression_4 : decode cX2_expression 4 = .ok (.astore_n 1, 1) := dk_76 (dk_at dksX2_expression_0 4 rfl rfl)
theorem dX2_expression_5 : decode cX2_expression 5 = .ok (.aload_n 0, 1) := dk_42 (dk_at dksX2_expression_0 5 rfl rfl)
theorem dX2_expression_6 : decode cX2_expression 6 = .ok (.invokevirtual 41, 3) := dk_182 0 41 (dk_at dksX2_expression_0 6 rfl rfl)
theorem dX2_expression_9 : decode cX2_expression 9 = .ok (.bipush 35, 2) := dk_16 35 (dk_at dksX2_expression_0 9 rfl rfl)
theorem dX2_expression_11 : decode cX2_expression 11 = .ok (.if_icmp .ne 48, 3) := dk_160 0 48 (dk_at dksX2_expression_0 11 rfl rfl)
theorem dX2_expression_14 : decode cX2_expression 14 = .ok (.aload_n 0, 1) := dk_42 (dk_at dksX2_expression_0 14 rfl rfl)
theorem dX2_expression_15 : decode cX2_expression 15 = .ok (.aload_n 0, 1) := dk_42 (dk_at dksX2_expression_0 15 rfl rfl)
theorem dX2_expression_16 : decode cX2_expression 16 = .ok (.getfield 38, 3) := dk_180 0 38 (dk_at dksX2_expression_0 16 rfl rfl)
theorem dX2_expression_19 : decode cX2_expression 19 = .ok (.invokevirtual 159, 3) := dk_182 0 159 (dk_at dksX2_expression_0 19 rfl rfl)
theorem dX2_expression_22 : decode cX2_expression 22 = .ok (.aload_n 0, 1) := dk_42 (dk_at dksX2_expression_0 22 rfl rfl)
theorem dX2_expression_23 : decode cX2_expression 23 = .ok (.dup, 1) := dk_89 (dk_at dksX2_expression_0 23 rfl rfl)
theorem dX2_expression_24 : decode cX2_expression 24 = .ok (.getfield 38, 3) := dk_180 0 38 (dk_at dksX2_expression_1 0 rfl rfl)
theorem dX2_expression_27 : decode cX2_expression 27 = .ok (.iconst 1, 1) := dk_4 (dk_at dksX2_expression_1 3 rfl rfl)
theorem dX2_expression_28 : decode cX2_expression 28 = .ok (.iadd, 1) := dk_96 (dk_at dksX2_expression_1 4 rfl rfl)
theorem dX2_expression_29 : decode cX2_expression 29 = .ok (.putfield 38, 3) := dk_181 0 38 (dk_at dksX2_expression_1 5 rfl rfl)
theorem dX2_expression_32 : decode cX2_expression 32 = .ok (.new 105, 3) := dk_187 0 105 (dk_at dksX2_expression_1 8 rfl rfl)
theorem dX2_expression_35 : decode cX2_expression 35 = .ok (.dup, 1) := dk_89 (dk_at dksX2_expression_1 11 rfl rfl)
theorem dX2_expression_36 : decode cX2_expression 36 = .ok (.getstatic 226, 3) := dk_178 0 226 (dk_at dksX2_expression_1 12 rfl rfl)
theorem dX2_expression_39 : decode cX2_expression 39 = .ok (.iconst 0, 1) := dk_3 (dk_at dksX2_expression_1 15 rfl rfl)
theorem dX2_expression_40 : decode cX2_expression 40 = .ok (.aconst_null, 1) := dk_1 (dk_at dksX2_expression_1 16 rfl rfl)
theorem dX2_expression_41 : decode cX2_expression 41 = .ok (.invokespecial 113, 3) := dk_183 0 113 (dk_at dksX2_expression_1 17 rfl rfl)
theorem dX2_expression_44 : decode cX2_expression 44 = .ok (.aload_n 1, 1) := dk_43 (dk_at dksX2_expression_1 20 rfl rfl)
theorem dX2_expression_45 : decode cX2_expression 45 = .ok (.invokevirtual 142, 3) := dk_182 0 142 (dk_at dksX2_expression_1 21 rfl rfl)
theorem dX2_expression_48 : decode cX2_expression 48 = .ok (.aload_n 0, 1) := dk_42 (dk_at dksX2_expression_2 0 rfl rfl)
theorem dX2_expression_49 : decode cX2_expression 49 = .ok (.invokevirtual 223, 3) := dk_182 0 223 (dk_at dksX2_expression_2 1 rfl rfl)
theorem dX2_expression_52 : decode cX2_expression 52 = .ok (.invokevirtual 142, 3) := dk_182 0 142 (dk_at dksX2_expression_2 4 rfl rfl)
theorem dX2_expression_55 : decode cX2_expression 55 = .ok (.astore_n 1, 1) := dk_76 (dk_at dksX2_expression_2 7 rfl rfl)
theorem dX2_expression_56 : decode cX2_expression 56 = .ok (.goto (-51), 3) := dk_167 255 205 (dk_at dksX2_expression_2 8 rfl rfl)
theorem dX2_expression_59 : decode cX2_expression 59 = .ok (.aload_n 1, 1) := dk_43 (dk_at dksX2_expression_2 11 rfl rfl)
theorem dX2_expression_60 : decode cX2_expression 60 = .ok (.areturn, 1) := dk_176 (dk_at dksX2_expression_2 12 rfl rfl)
abbrev cX2_chosen : ByteArray := prog_9_method_23_code
def yX2_chosen : MethodName := ⟨RX2, "chosen", "()LProbeConsole$Node;"⟩
def dkwX2_chosen_3 : List UInt8 := [182, 0, 142, 176]
abbrev dktX2_chosen_3 : List UInt8 := dkwX2_chosen_3 ++ []
def dkwX2_chosen_2 : List UInt8 := [182, 0, 142, 42, 182, 0, 138, 182, 0, 142, 77, 42, 16, 58, 182, 0, 155, 44, 42, 182, 0, 223]
abbrev dktX2_chosen_2 : List UInt8 := dkwX2_chosen_2 ++ dktX2_chosen_3
def dkwX2_chosen_1 : List UInt8 := [42, 89, 180, 0, 38, 4, 96, 181, 0, 38, 187, 0, 105, 89, 178, 0, 220, 3, 1, 183, 0, 113, 43]
abbrev dktX2_chosen_1 : List UInt8 := dkwX2_chosen_1 ++ dktX2_chosen_2
def dkwX2_chosen_0 : List UInt8 := [42, 182, 0, 217, 76, 42, 182, 0, 41, 16, 63, 159, 0, 5, 43, 176, 42, 42, 180, 0, 38, 182, 0, 159]
abbrev dktX2_chosen_0 : List UInt8 := dkwX2_chosen_0 ++ dktX2_chosen_1
theorem dksX2_chosen_0 : cX2_chosen.data.toList.drop 0 = dktX2_chosen_0 := by decide +kernel
theorem dksX2_chosen_1 : cX2_chosen.data.toList.drop 24 = dktX2_chosen_1 := dk_seg dksX2_chosen_0 24 rfl rfl
theorem dksX2_chosen_2 : cX2_chosen.data.toList.drop 47 = dktX2_chosen_2 := dk_seg dksX2_chosen_1 23 rfl rfl
theorem dksX2_chosen_3 : cX2_chosen.data.toList.drop 69 = dktX2_chosen_3 := dk_seg dksX2_chosen_2 22 rfl rfl
theorem dX2_chosen_0 : decode cX2_chosen 0 = .ok (.aload_n 0, 1) := dk_42 (dk_at dksX2_chosen_0 0 rfl rfl)
theorem dX2_chosen_1 : decode cX2_chosen 1 = .ok (.invokevirtual 217, 3) := dk_182 0 217 (dk_at dksX2_chosen_0 1 rfl rfl)
theorem dX2_chosen_4 : decode cX2_chosen 4 = .ok (.astore_n 1, 1) := dk_76 (dk_at dksX2_chosen_0 4 rfl rfl)
theorem dX2_chosen_5 : decode cX2_chosen 5 = .ok (.aload_n 0, 1) := dk_42 (dk_at dksX2_chosen_0 5 rfl rfl)
theorem dX2_chosen_6 : decode cX2_chosen 6 = .ok (.invokevirtual 41, 3) := dk_182 0 41 (dk_at dksX2_chosen_0 6 rfl rfl)
theorem dX2_chosen_9 : decode cX2_chosen 9 = .ok (.bipush 63, 2) := dk_16 63 (dk_at dksX2_chosen_0 9 rfl rfl)
theorem dX2_chosen_11 : decode cX2_chosen 11 = .ok (.if_icmp .eq 5, 3) := dk_159 0 5 (dk_at dksX2_chosen_0 11 rfl rfl)
theorem dX2_chosen_14 : decode cX2_chosen 14 = .ok (.aload_n 1, 1) := dk_43 (dk_at dksX2_chosen_0 14 rfl rfl)
theorem dX2_chosen_15 : decode cX2_chosen 15 = .ok (.areturn, 1) := dk_176 (dk_at dksX2_chosen_0 15 rfl rfl)
theorem dX2_chosen_16 : decode cX2_chosen 16 = .ok (.aload_n 0, 1) := dk_42 (dk_at dksX2_chosen_0 16 rfl rfl)
theorem dX2_chosen_17 : decode cX2_chosen 17 = .ok (.aload_n 0, 1) := dk_42 (dk_at dksX2_chosen_0 17 rfl rfl)
theorem dX2_chosen_18 : decode cX2_chosen 18 = .ok (.getfield 38, 3) := dk_180 0 38 (dk_at dksX2_chosen_0 18 rfl rfl)
theorem dX2_chosen_21 : decode cX2_chosen 21 = .ok (.invokevirtual 159, 3) := dk_182 0 159 (dk_at dksX2_chosen_0 21 rfl rfl)
theorem dX2_chosen_24 : decode cX2_chosen 24 = .ok (.aload_n 0, 1) := dk_42 (dk_at dksX2_chosen_1 0 rfl rfl)
theorem dX2_chosen_25 : decode cX2_chosen 25 = .ok (.dup, 1) := dk_89 (dk_at dksX2_chosen_1 1 rfl rfl)
theorem dX2_chosen_26 : decode cX2_chosen 26 = .ok (.getfield 38, 3) := dk_180 0 38 (dk_at dksX2_chosen_1 2 rfl rfl)
theorem dX2_chosen_29 : decode cX2_chosen 29 = .ok (.iconst 1, 1) := dk_4 (dk_at dksX2_chosen_1 5 rfl rfl)
theorem dX2_chosen_30 : decode cX2_chosen 30 = .ok (.iadd, 1) := dk_96 (dk_at dksX2_chosen_1 6 rfl rfl)
theorem dX2_chosen_31 : decode cX2_chosen 31 = .ok (.putfield 38, 3) := dk_181 0 38 (dk_at dksX2_chosen_1 7 rfl rfl)
theorem dX2_chosen_34 : decode cX2_chosen 34 = .ok (.new 105, 3) := dk_187 0 105 (dk_at dksX2_chosen_1 10 rfl rfl)
theorem dX2_chosen_37 : decode cX2_chosen 37 = .ok (.dup, 1) := dk_89 (dk_at dksX2_chosen_1 13 rfl rfl)
theorem dX2_chosen_38 : decode cX2_chosen 38 = .ok (.getstatic 220, 3) := dk_178 0 220 (dk_at dksX2_chosen_1 14 rfl rfl)
theorem dX2_chosen_41 : decode cX2_chosen 41 = .ok (.iconst 0, 1) := dk_3 (dk_at dksX2_chosen_1 17 rfl rfl)
theorem dX2_chosen_42 : decode cX2_chosen 42 = .ok (.aconst_null, 1) := dk_1 (dk_at dksX2_chosen_1 18 rfl rfl)
theorem dX2_chosen_43 : decode cX2_chosen 43 = .ok (.invokespecial 113, 3) := dk_183 0 113 (dk_at dksX2_chosen_1 19 rfl rfl)
theorem dX2_chosen_46 : decode cX2_chosen 46 = .ok (.aload_n 1, 1) := dk_43 (dk_at dksX2_chosen_1 22 rfl rfl)
theorem dX2_chosen_47 : decode cX2_chosen 47 = .ok (.invokevirtual 142, 3) := dk_182 0 142 (dk_at dksX2_chosen_2 0 rfl rfl)
theorem dX2_chosen_50 : decode cX2_chosen 50 = .ok (.aload_n 0, 1) := dk_42 (dk_at dksX2_chosen_2 3 rfl rfl)
theorem dX2_chosen_51 : decode cX2_chosen 51 = .ok (.invokevirtual 138, 3) := dk_182 0 138 (dk_at dksX2_chosen_2 4 rfl rfl)
theorem dX2_chosen_54 : decode cX2_chosen 54 = .ok (.invokevirtual 142, 3) := dk_182 0 142 (dk_at dksX2_chosen_2 7 rfl rfl)
theorem dX2_chosen_57 : decode cX2_chosen 57 = .ok (.astore_n 2, 1) := dk_77 (dk_at dksX2_chosen_2 10 rfl rfl)
theorem dX2_chosen_58 : decode cX2_chosen 58 = .ok (.aload_n 0, 1) := dk_42 (dk_at dksX2_chosen_2 11 rfl rfl)
theorem dX2_chosen_59 : decode cX2_chosen 59 = .ok (.bipush 58, 2) := dk_16 58 (dk_at dksX2_chosen_2 12 rfl rfl)
theorem dX2_chosen_61 : decode cX2_chosen 61 = .ok (.invokevirtual 155, 3) := dk_182 0 155 (dk_at dksX2_chosen_2 14 rfl rfl)
theorem dX2_chosen_64 : decode cX2_chosen 64 = .ok (.aload_n 2, 1) := dk_44 (dk_at dksX2_chosen_2 17 rfl rfl)
theorem dX2_chosen_65 : decode cX2_chosen 65 = .ok (.aload_n 0, 1) := dk_42 (dk_at dksX2_chosen_2 18 rfl rfl)
theorem dX2_chosen_66 : decode cX2_chosen 66 = .ok (.invokevirtual 223, 3) := dk_182 0 223 (dk_at dksX2_chosen_2 19 rfl rfl)
theorem dX2_chosen_69 : decode cX2_chosen 69 = .ok (.invokevirtual 142, 3) := dk_182 0 142 (dk_at dksX2_chosen_3 0 rfl rfl)
theorem dX2_chosen_72 : decode cX2_chosen 72 = .ok (.areturn, 1) := dk_176 (dk_at dksX2_chosen_3 3 rfl rfl)
abbrev cX2_compared : ByteArray := prog_9_method_22_code
def yX2_compared : MethodName := ⟨RX2, "compared", "()LProbeConsole$Node;"⟩
def dkwX2_compared_2 : List UInt8 := [183, 0, 113, 43, 182, 0, 142, 42, 182, 0, 209, 182, 0, 142, 176]
abbrev dktX2_compared_2 : List UInt8 := dkwX2_compared_2 ++ []
def dkwX2_compared_1 : List UInt8 := [180, 0, 38, 182, 0, 159, 42, 89, 180, 0, 38, 4, 96, 181, 0, 38, 187, 0, 105, 89, 44, 3, 1]
abbrev dktX2_compared_1 : List UInt8 := dkwX2_compared_1 ++ dktX2_compared_2
def dkwX2_compared_0 : List UInt8 := [42, 182, 0, 209, 76, 42, 18, 212, 178, 0, 214, 182, 0, 197, 77, 44, 199, 0, 5, 43, 176, 42, 42]
abbrev dktX2_compared_0 : List UInt8 := dkwX2_compared_0 ++ dktX2_compared_1
theorem dksX2_compared_0 : cX2_compared.data.toList.drop 0 = dktX2_compared_0 := by decide +kernel
theorem dksX2_compared_1 : cX2_compared.data.toList.drop 23 = dktX2_compared_1 := dk_seg dksX2_compared_0 23 rfl rfl
theorem dksX2_compared_2 : cX2_compared.data.toList.drop 46 = dktX2_compared_2 := dk_seg dksX2_compared_1 23 rfl rfl
theorem dX2_compared_0 : decode cX2_compared 0 = .ok (.aload_n 0, 1) := dk_42 (dk_at dksX2_compared_0 0 rfl rfl)
theorem dX2_compared_1 : decode cX2_compared 1 = .ok (.invokevirtual 209, 3) := dk_182 0 209 (dk_at dksX2_compared_0 1 rfl rfl)
theorem dX2_compared_4 : decode cX2_compared 4 = .ok (.astore_n 1, 1) := dk_76 (dk_at dksX2_compared_0 4 rfl rfl)
theorem dX2_compared_5 : decode cX2_compared 5 = .ok (.aload_n 0, 1) := dk_42 (dk_at dksX2_compared_0 5 rfl rfl)
theorem dX2_compared_6 : decode cX2_compared 6 = .ok (.ldc 212, 2) := dk_18 212 (dk_at dksX2_compared_0 6 rfl rfl)
theorem dX2_compared_8 : decode cX2_compared 8 = .ok (.getstatic 214, 3) := dk_178 0 214 (dk_at dksX2_compared_0 8 rfl rfl)
theorem dX2_compared_11 : decode cX2_compared 11 = .ok (.invokevirtual 197, 3) := dk_182 0 197 (dk_at dksX2_compared_0 11 rfl rfl)
theorem dX2_compared_14 : decode cX2_compared 14 = .ok (.astore_n 2, 1) := dk_77 (dk_at dksX2_compared_0 14 rfl rfl)
theorem dX2_compared_15 : decode cX2_compared 15 = .ok (.aload_n 2, 1) := dk_44 (dk_at dksX2_compared_0 15 rfl rfl)
theorem dX2_compared_16 : decode cX2_compared 16 = .ok (.ifnonnull 5, 3) := dk_199 0 5 (dk_at dksX2_compared_0 16 rfl rfl)
theorem dX2_compared_19 : decode cX2_compared 19 = .ok (.aload_n 1, 1) := dk_43 (dk_at dksX2_compared_0 19 rfl rfl)
theorem dX2_compared_20 : decode cX2_compared 20 = .ok (.areturn, 1) := dk_176 (dk_at dksX2_compared_0 20 rfl rfl)
theorem dX2_compared_21 : decode cX2_compared 21 = .ok (.aload_n 0, 1) := dk_42 (dk_at dksX2_compared_0 21 rfl rfl)
theorem dX2_compared_22 : decode cX2_compared 22 = .ok (.aload_n 0, 1) := dk_42 (dk_at dksX2_compared_0 22 rfl rfl)
theorem dX2_compared_23 : decode cX2_compared 23 = .ok (.getfield 38, 3) := dk_180 0 38 (dk_at dksX2_compared_1 0 rfl rfl)
theorem dX2_compared_26 : decode cX2_compared 26 = .ok (.invokevirtual 159, 3) := dk_182 0 159 (dk_at dksX2_compared_1 3 rfl rfl)
theorem dX2_compared_29 : decode cX2_compared 29 = .ok (.aload_n 0, 1) := dk_42 (dk_at dksX2_compared_1 6 rfl rfl)
theorem dX2_compared_30 : decode cX2_compared 30 = .ok (.dup, 1) := dk_89 (dk_at dksX2_compared_1 7 rfl rfl)
theorem dX2_compared_31 : decode cX2_compared 31 = .ok (.getfield 38, 3) := dk_180 0 38 (dk_at dksX2_compared_1 8 rfl rfl)
theorem dX2_compared_34 : decode cX2_compared 34 = .ok (.iconst 1, 1) := dk_4 (dk_at dksX2_compared_1 11 rfl rfl)
theorem dX2_compared_35 : decode cX2_compared 35 = .ok (.iadd, 1) := dk_96 (dk_at dksX2_compared_1 12 rfl rfl)
theorem dX2_compared_36 : decode cX2_compared 36 = .ok (.putfield 38, 3) := dk_181 0 38 (dk_at dksX2_compared_1 13 rfl rfl)
theorem dX2_compared_39 : decode cX2_compared 39 = .ok (.new 105, 3) := dk_187 0 105 (dk_at dksX2_compared_1 16 rfl rfl)
theorem dX2_compared_42 : decode cX2_compared 42 = .ok (.dup, 1) := dk_89 (dk_at dksX2_compared_1 19 rfl rfl)
theorem dX2_compared_43 : decode cX2_compared 43 = .ok (.aload_n 2, 1) := dk_44 (dk_at dksX2_compared_1 20 rfl rfl)
theorem dX2_compared_44 : decode cX2_compared 44 = .ok (.iconst 0, 1) := dk_3 (dk_at dksX2_compared_1 21 rfl rfl)
theorem dX2_compared_45 : decode cX2_compared 45 = .ok (.aconst_null, 1) := dk_1 (dk_at dksX2_compared_1 22 rfl rfl)
theorem dX2_compared_46 : decode cX2_compared 46 = .ok (.invokespecial 113, 3) := dk_183 0 113 (dk_at dksX2_compared_2 0 rfl rfl)
theorem dX2_compared_49 : decode cX2_compared 49 = .ok (.aload_n 1, 1) := dk_43 (dk_at dksX2_compared_2 3 rfl rfl)
theorem dX2_compared_50 : decode cX2_compared 50 = .ok (.invokevirtual 142, 3) := dk_182 0 142 (dk_at dksX2_compared_2 4 rfl rfl)
theorem dX2_compared_53 : decode cX2_compared 53 = .ok (.aload_n 0, 1) := dk_42 (dk_at dksX2_compared_2 7 rfl rfl)
theorem dX2_compared_54 : decode cX2_compared 54 = .ok (.invokevirtual 209, 3) := dk_182 0 209 (dk_at dksX2_compared_2 8 rfl rfl)
theorem dX2_compared_57 : decode cX2_compared 57 = .ok (.invokevirtual 142, 3) := dk_182 0 142 (dk_at dksX2_compared_2 11 rfl rfl)
theorem dX2_compared_60 : decode cX2_compared 60 = .ok (.areturn, 1) := dk_176 (dk_at dksX2_compared_2 14 rfl rfl)
abbrev cX2_sum : ByteArray := prog_9_method_21_code
def yX2_sum : MethodName := ⟨RX2, "sum", "()LProbeConsole$Node;"⟩
def dkwX2_sum_3 : List UInt8 := [43, 176]
abbrev dktX2_sum_3 : List UInt8 := dkwX2_sum_3 ++ []
def dkwX2_sum_2 : List UInt8 := [182, 0, 142, 42, 182, 0, 201, 182, 0, 142, 76, 42, 18, 204, 178, 0, 206, 182, 0, 197, 77, 167, 255, 202]
abbrev dktX2_sum_2 : List UInt8 := dkwX2_sum_2 ++ dktX2_sum_3
def dkwX2_sum_1 : List UInt8 := [182, 0, 159, 42, 89, 180, 0, 38, 4, 96, 181, 0, 38, 187, 0, 105, 89, 44, 3, 1, 183, 0, 113, 43]
abbrev dktX2_sum_1 : List UInt8 := dkwX2_sum_1 ++ dktX2_sum_2
def dkwX2_sum_0 : List UInt8 := [42, 182, 0, 201, 76, 42, 18, 204, 178, 0, 206, 182, 0, 197, 77, 44, 198, 0, 56, 42, 42, 180, 0, 38]
abbrev dktX2_sum_0 : List UInt8 := dkwX2_sum_0 ++ dktX2_sum_1
theorem dksX2_sum_0 : cX2_sum.data.toList.drop 0 = dktX2_sum_0 := by decide +kernel
theorem dksX2_sum_1 : cX2_sum.data.toList.drop 24 = dktX2_sum_1 := dk_seg dksX2_sum_0 24 rfl rfl
theorem dksX2_sum_2 : cX2_sum.data.toList.drop 48 = dktX2_sum_2 := dk_seg dksX2_sum_1 24 rfl rfl
theorem dksX2_sum_3 : cX2_sum.data.toList.drop 72 = dktX2_sum_3 := dk_seg dksX2_sum_2 24 rfl rfl
theorem dX2_sum_0 : decode cX2_sum 0 = .ok (.aload_n 0, 1) := dk_42 (dk_at dksX2_sum_0 0 rfl rfl)
theorem dX2_sum_1 : decode cX2_sum 1 = .ok (.invokevirtual 201, 3) := dk_182 0 201 (dk_at dksX2_sum_0 1 rfl rfl)
theorem dX2_sum_4 : decode cX2_sum 4 = .ok (.astore_n 1, 1) := dk_76 (dk_at dksX2_sum_0 4 rfl rfl)
theorem dX2_sum_5 : decode cX2_sum 5 = .ok (.aload_n 0, 1) := dk_42 (dk_at dksX2_sum_0 5 rfl rfl)
theorem dX2_sum_6 : decode cX2_sum 6 = .ok (.ldc 204, 2) := dk_18 204 (dk_at dksX2_sum_0 6 rfl rfl)
theorem dX2_sum_8 : decode cX2_sum 8 = .ok (.getstatic 206, 3) := dk_178 0 206 (dk_at dksX2_sum_0 8 rfl rfl)
theorem dX2_sum_11 : decode cX2_sum 11 = .ok (.invokevirtual 197, 3) := dk_182 0 197 (dk_at dksX2_sum_0 11 rfl rfl)
theorem dX2_sum_14 : decode cX2_sum 14 = .ok (.astore_n 2, 1) := dk_77 (dk_at dksX2_sum_0 14 rfl rfl)
theorem dX2_sum_15 : decode cX2_sum 15 = .ok (.aload_n 2, 1) := dk_44 (dk_at dksX2_sum_0 15 rfl rfl)
theorem dX2_sum_16 : decode cX2_sum 16 = .ok (.ifnull 56, 3) := dk_198 0 56 (dk_at dksX2_sum_0 16 rfl rfl)
theorem dX2_sum_19 : decode cX2_sum 19 = .ok (.aload_n 0, 1) := dk_42 (dk_at dksX2_sum_0 19 rfl rfl)
theorem dX2_sum_20 : decode cX2_sum 20 = .ok (.aload_n 0, 1) := dk_42 (dk_at dksX2_sum_0 20 rfl rfl)
theorem dX2_sum_21 : decode cX2_sum 21 = .ok (.getfield 38, 3) := dk_180 0 38 (dk_at dksX2_sum_0 21 rfl rfl)
theorem dX2_sum_24 : decode cX2_sum 24 = .ok (.invokevirtual 159, 3) := dk_182 0 159 (dk_at dksX2_sum_1 0 rfl rfl)
theorem dX2_sum_27 : decode cX2_sum 27 = .ok (.aload_n 0, 1) := dk_42 (dk_at dksX2_sum_1 3 rfl rfl)
theorem dX2_sum_28 : decode cX2_sum 28 = .ok (.dup, 1) := dk_89 (dk_at dksX2_sum_1 4 rfl rfl)
theorem dX2_sum_29 : decode cX2_sum 29 = .ok (.getfield 38, 3) := dk_180 0 38 (dk_at dksX2_sum_1 5 rfl rfl)
theorem dX2_sum_32 : decode cX2_sum 32 = .ok (.iconst 1, 1) := dk_4 (dk_at dksX2_sum_1 8 rfl rfl)
theorem dX2_sum_33 : decode cX2_sum 33 = .ok (.iadd, 1) := dk_96 (dk_at dksX2_sum_1 9 rfl rfl)
theorem dX2_sum_34 : decode cX2_sum 34 = .ok (.putfield 38, 3) := dk_181 0 38 (dk_at dksX2_sum_1 10 rfl rfl)
theorem dX2_sum_37 : decode cX2_sum 37 = .ok (.new 105, 3) := dk_187 0 105 (dk_at dksX2_sum_1 13 rfl rfl)
theorem dX2_sum_40 : decode cX2_sum 40 = .ok (.dup, 1) := dk_89 (dk_at dksX2_sum_1 16 rfl rfl)
theorem dX2_sum_41 : decode cX2_sum 41 = .ok (.aload_n 2, 1) := dk_44 (dk_at dksX2_sum_1 17 rfl rfl)
theorem dX2_sum_42 : decode cX2_sum 42 = .ok (.iconst 0, 1) := dk_3 (dk_at dksX2_sum_1 18 rfl rfl)
theorem dX2_sum_43 : decode cX2_sum 43 = .ok (.aconst_null, 1) := dk_1 (dk_at dksX2_sum_1 19 rfl rfl)
theorem dX2_sum_44 : decode cX2_sum 44 = .ok (.invokespecial 113, 3) := dk_183 0 113 (dk_at dksX2_sum_1 20 rfl rfl)
theorem dX2_sum_47 : decode cX2_sum 47 = .ok (.aload_n 1, 1) := dk_43 (dk_at dksX2_sum_1 23 rfl rfl)
theorem dX2_sum_48 : decode cX2_sum 48 = .ok (.invokevirtual 142, 3) := dk_182 0 142 (dk_at dksX2_sum_2 0 rfl rfl)
theorem dX2_sum_51 : decode cX2_sum 51 = .ok (.aload_n 0, 1) := dk_42 (dk_at dksX2_sum_2 3 rfl rfl)
theorem dX2_sum_52 : decode cX2_sum 52 = .ok (.invokevirtual 201, 3) := dk_182 0 201 (dk_at dksX2_sum_2 4 rfl rfl)
theorem dX2_sum_55 : decode cX2_sum 55 = .ok (.invokevirtual 142, 3) := dk_182 0 142 (dk_at dksX2_sum_2 7 rfl rfl)
theorem dX2_sum_58 : decode cX2_sum 58 = .ok (.astore_n 1, 1) := dk_76 (dk_at dksX2_sum_2 10 rfl rfl)
theorem dX2_sum_59 : decode cX2_sum 59 = .ok (.aload_n 0, 1) := dk_42 (dk_at dksX2_sum_2 11 rfl rfl)
theorem dX2_sum_60 : decode cX2_sum 60 = .ok (.ldc 204, 2) := dk_18 204 (dk_at dksX2_sum_2 12 rfl rfl)
theorem dX2_sum_62 : decode cX2_sum 62 = .ok (.getstatic 206, 3) := dk_178 0 206 (dk_at dksX2_sum_2 14 rfl rfl)
theorem dX2_sum_65 : decode cX2_sum 65 = .ok (.invokevirtual 197, 3) := dk_182 0 197 (dk_at dksX2_sum_2 17 rfl rfl)
theorem dX2_sum_68 : decode cX2_sum 68 = .ok (.astore_n 2, 1) := dk_77 (dk_at dksX2_sum_2 20 rfl rfl)
theorem dX2_sum_69 : decode cX2_sum 69 = .ok (.goto (-54), 3) := dk_167 255 202 (dk_at dksX2_sum_2 21 rfl rfl)
theorem dX2_sum_72 : decode cX2_sum 72 = .ok (.aload_n 1, 1) := dk_43 (dk_at dksX2_sum_3 0 rfl rfl)
theorem dX2_sum_73 : decode cX2_sum 73 = .ok (.areturn, 1) := dk_176 (dk_at dksX2_sum_3 1 rfl rfl)
abbrev cX2_product : ByteArray := prog_9_method_20_code
def yX2_product : MethodName := ⟨RX2, "product", "()LProbeConsole$Node;"⟩
def dkwX2_product_3 : List UInt8 := [43, 176]
abbrev dktX2_product_3 : List UInt8 := dkwX2_product_3 ++ []
def dkwX2_product_2 : List UInt8 := [182, 0, 142, 42, 182, 0, 182, 182, 0, 142, 76, 42, 18, 192, 178, 0, 194, 182, 0, 197, 77, 167, 255, 202]
abbrev dktX2_product_2 : List UInt8 := dkwX2_product_2 ++ dktX2_product_3
def dkwX2_product_1 : List UInt8 := [182, 0, 159, 42, 89, 180, 0, 38, 4, 96, 181, 0, 38, 187, 0, 105, 89, 44, 3, 1, 183, 0, 113, 43]
abbrev dktX2_product_1 : List UInt8 := dkwX2_product_1 ++ dktX2_product_2
def dkwX2_product_0 : List UInt8 := [42, 182, 0, 182, 76, 42, 18, 192, 178, 0, 194, 182, 0, 197, 77, 44, 198, 0, 56, 42, 42, 180, 0, 38]
abbrev dktX2_product_0 : List UInt8 := dkwX2_product_0 ++ dktX2_product_1
theorem dksX2_product_0 : cX2_product.data.toList.drop 0 = dktX2_product_0 := by decide +kernel
theorem dksX2_product_1 : cX2_product.data.toList.drop 24 = dktX2_product_1 := dk_seg dksX2_product_0 24 rfl rfl
theorem dksX2_product_2 : cX2_product.data.toList.drop 48 = dktX2_product_2 := dk_seg dksX2_product_1 24 rfl rfl
theorem dksX2_product_3 : cX2_product.data.toList.drop 72 = dktX2_product_3 := dk_seg dksX2_product_2 24 rfl rfl
theorem dX2_product_0 : decode cX2_product 0 = .ok (.aload_n 0, 1) := dk_42 (dk_at dksX2_product_0 0 rfl rfl)
theorem dX2_product_1 : decode cX2_product 1 = .ok (.invokevirtual 182, 3) := dk_182 0 182 (dk_at dksX2_product_0 1 rfl rfl)
theorem dX2_product_4 : decode cX2_product 4 = .ok (.astore_n 1, 1) := dk_76 (dk_at dksX2_product_0 4 rfl rfl)
theorem dX2_product_5 : decode cX2_product 5 = .ok (.aload_n 0, 1) := dk_42 (dk_at dksX2_product_0 5 rfl rfl)
theorem dX2_product_6 : decode cX2_product 6 = .ok (.ldc 192, 2) := dk_18 192 (dk_at dksX2_product_0 6 rfl rfl)
theorem dX2_product_8 : decode cX2_product 8 = .ok (.getstatic 194, 3) := dk_178 0 194 (dk_at dksX2_product_0 8 rfl rfl)
theorem dX2_product_11 : decode cX2_product 11 = .ok (.invokevirtual 197, 3) := dk_182 0 197 (dk_at dksX2_product_0 11 rfl rfl)
theorem dX2_product_14 : decode cX2_product 14 = .ok (.astore_n 2, 1) := dk_77 (dk_at dksX2_product_0 14 rfl rfl)
theorem dX2_product_15 : decode cX2_product 15 = .ok (.aload_n 2, 1) := dk_44 (dk_at dksX2_product_0 15 rfl rfl)
theorem dX2_product_16 : decode cX2_product 16 = .ok (.ifnull 56, 3) := dk_198 0 56 (dk_at dksX2_product_0 16 rfl rfl)
theorem dX2_product_19 : decode cX2_product 19 = .ok (.aload_n 0, 1) := dk_42 (dk_at dksX2_product_0 19 rfl rfl)
theorem dX2_product_20 : decode cX2_product 20 = .ok (.aload_n 0, 1) := dk_42 (dk_at dksX2_product_0 20 rfl rfl)
theorem dX2_product_21 : decode cX2_product 21 = .ok (.getfield 38, 3) := dk_180 0 38 (dk_at dksX2_product_0 21 rfl rfl)
theorem dX2_product_24 : decode cX2_product 24 = .ok (.invokevirtual 159, 3) := dk_182 0 159 (dk_at dksX2_product_1 0 rfl rfl)
theorem dX2_product_27 : decode cX2_product 27 = .ok (.aload_n 0, 1) := dk_42 (dk_at dksX2_product_1 3 rfl rfl)
theorem dX2_product_28 : decode cX2_product 28 = .ok (.dup, 1) := dk_89 (dk_at dksX2_product_1 4 rfl rfl)
theorem dX2_product_29 : decode cX2_product 29 = .ok (.getfield 38, 3) := dk_180 0 38 (dk_at dksX2_product_1 5 rfl rfl)
theorem dX2_product_32 : decode cX2_product 32 = .ok (.iconst 1, 1) := dk_4 (dk_at dksX2_product_1 8 rfl rfl)
theorem dX2_product_33 : decode cX2_product 33 = .ok (.iadd, 1) := dk_96 (dk_at dksX2_product_1 9 rfl rfl)
theorem dX2_product_34 : decode cX2_product 34 = .ok (.putfield 38, 3) := dk_181 0 38 (dk_at dksX2_product_1 10 rfl rfl)
theorem dX2_product_37 : decode cX2_product 37 = .ok (.new 105, 3) := dk_187 0 105 (dk_at dksX2_product_1 13 rfl rfl)
theorem dX2_product_40 : decode cX2_product 40 = .ok (.dup, 1) := dk_89 (dk_at dksX2_product_1 16 rfl rfl)
theorem dX2_product_41 : decode cX2_product 41 = .ok (.aload_n 2, 1) := dk_44 (dk_at dksX2_product_1 17 rfl rfl)
theorem dX2_product_42 : decode cX2_product 42 = .ok (.iconst 0, 1) := dk_3 (dk_at dksX2_product_1 18 rfl rfl)
theorem dX2_product_43 : decode cX2_product 43 = .ok (.aconst_null, 1) := dk_1 (dk_at dksX2_product_1 19 rfl rfl)
theorem dX2_product_44 : decode cX2_product 44 = .ok (.invokespecial 113, 3) := dk_183 0 113 (dk_at dksX2_product_1 20 rfl rfl)
theorem dX2_product_47 : decode cX2_product 47 = .ok (.aload_n 1, 1) := dk_43 (dk_at dksX2_product_1 23 rfl rfl)
theorem dX2_product_48 : decode cX2_product 48 = .ok (.invokevirtual 142, 3) := dk_182 0 142 (dk_at dksX2_product_2 0 rfl rfl)
theorem dX2_product_51 : decode cX2_product 51 = .ok (.aload_n 0, 1) := dk_42 (dk_at dksX2_product_2 3 rfl rfl)
theorem dX2_product_52 : decode cX2_product 52 = .ok (.invokevirtual 182, 3) := dk_182 0 182 (dk_at dksX2_product_2 4 rfl rfl)
theorem dX2_product_55 : decode cX2_product 55 = .ok (.invokevirtual 142, 3) := dk_182 0 142 (dk_at dksX2_product_2 7 rfl rfl)
theorem dX2_product_58 : decode cX2_product 58 = .ok (.astore_n 1, 1) := dk_76 (dk_at dksX2_product_2 10 rfl rfl)
theorem dX2_product_59 : decode cX2_product 59 = .ok (.aload_n 0, 1) := dk_42 (dk_at dksX2_product_2 11 rfl rfl)
theorem dX2_product_60 : decode cX2_product 60 = .ok (.ldc 192, 2) := dk_18 192 (dk_at dksX2_product_2 12 rfl rfl)
theorem dX2_product_62 : decode cX2_product 62 = .ok (.getstatic 194, 3) := dk_178 0 194 (dk_at dksX2_product_2 14 rfl rfl)
theorem dX2_product_65 : decode cX2_product 65 = .ok (.invokevirtual 197, 3) := dk_182 0 197 (dk_at dksX2_product_2 17 rfl rfl)
theorem dX2_product_68 : decode cX2_product 68 = .ok (.astore_n 2, 1) := dk_77 (dk_at dksX2_product_2 20 rfl rfl)
theorem dX2_product_69 : decode cX2_product 69 = .ok (.goto (-54), 3) := dk_167 255 202 (dk_at dksX2_product_2 21 rfl rfl)
theorem dX2_product_72 : decode cX2_product 72 = .ok (.aload_n 1, 1) := dk_43 (dk_at dksX2_product_3 0 rfl rfl)
theorem dX2_product_73 : decode cX2_product 73 = .ok (.areturn, 1) := dk_176 (dk_at dksX2_product_3 1 rfl rfl)
abbrev cX2_signed : ByteArray := prog_9_method_18_code
def yX2_signed : MethodName := ⟨RX2, "signed", "()LProbeConsole$Node;"⟩
def dkwX2_signed_3 : List UInt8 := [42, 182, 0, 182, 182, 0, 142, 176]
abbrev dktX2_signed_3 : List UInt8 := dkwX2_signed_3 ++ []
def dkwX2_signed_2 : List UInt8 := [178, 0, 179, 77, 42, 89, 180, 0, 38, 4, 96, 181, 0, 38, 187, 0, 105, 89, 44, 3, 1, 183, 0, 113]
abbrev dktX2_signed_2 : List UInt8 := dkwX2_signed_2 ++ dktX2_signed_3
def dkwX2_signed_1 : List UInt8 := [182, 0, 173, 176, 42, 27, 182, 0, 159, 42, 182, 0, 41, 16, 45, 160, 0, 9, 178, 0, 176, 167, 0, 6]
abbrev dktX2_signed_1 : List UInt8 := dkwX2_signed_1 ++ dktX2_signed_2
def dkwX2_signed_0 : List UInt8 := [42, 180, 0, 38, 60, 42, 182, 0, 41, 16, 45, 159, 0, 17, 42, 182, 0, 41, 16, 33, 159, 0, 8, 42]
abbrev dktX2_signed_0 : List UInt8 := dkwX2_signed_0 ++ dktX2_signed_1
theorem dksX2_signed_0 : cX2_signed.data.toList.drop 0 = dktX2_signed_0 := by decide +kernel
theorem dksX2_signed_1 : cX2_signed.data.toList.drop 24 = dktX2_signed_1 := dk_seg dksX2_signed_0 24 rfl rfl
theorem dksX2_signed_2 : cX2_signed.data.toList.drop 48 = dktX2_signed_2 := dk_seg dksX2_signed_1 24 rfl rfl
theorem dksX2_signed_3 : cX2_signed.data.toList.drop 72 = dktX2_signed_3 := dk_seg dksX2_signed_2 24 rfl rfl
theorem dX2_signed_0 : decode cX2_signed 0 = .ok (.aload_n 0, 1) := dk_42 (dk_at dksX2_signed_0 0 rfl rfl)
theorem dX2_signed_1 : decode cX2_signed 1 = .ok (.getfield 38, 3) := dk_180 0 38 (dk_at dksX2_signed_0 1 rfl rfl)
theorem dX2_signed_4 : decode cX2_signed 4 = .ok (.istore_n 1, 1) := dk_60 (dk_at dksX2_signed_0 4 rfl rfl)
theorem dX2_signed_5 : decode cX2_signed 5 = .ok (.aload_n 0, 1) := dk_42 (dk_at dksX2_signed_0 5 rfl rfl)
theorem dX2_signed_6 : decode cX2_signed 6 = .ok (.invokevirtual 41, 3) := dk_182 0 41 (dk_at dksX2_signed_0 6 rfl rfl)
theorem dX2_signed_9 : decode cX2_signed 9 = .ok (.bipush 45, 2) := dk_16 45 (dk_at dksX2_signed_0 9 rfl rfl)
theorem dX2_signed_11 : decode cX2_signed 11 = .ok (.if_icmp .eq 17, 3) := dk_159 0 17 (dk_at dksX2_signed_0 11 rfl rfl)
theorem dX2_signed_14 : decode cX2_signed 14 = .ok (.aload_n 0, 1) := dk_42 (dk_at dksX2_signed_0 14 rfl rfl)
theorem dX2_signed_15 : decode cX2_signed 15 = .ok (.invokevirtual 41, 3) := dk_182 0 41 (dk_at dksX2_signed_0 15 rfl rfl)
theorem dX2_signed_18 : decode cX2_signed 18 = .ok (.bipush 33, 2) := dk_16 33 (dk_at dksX2_signed_0 18 rfl rfl)
theorem dX2_signed_20 : decode cX2_signed 20 = .ok (.if_icmp .eq 8, 3) := dk_159 0 8 (dk_at dksX2_signed_0 20 rfl rfl)
theorem dX2_signed_23 : decode cX2_signed 23 = .ok (.aload_n 0, 1) := dk_42 (dk_at dksX2_signed_0 23 rfl rfl)
theorem dX2_signed_24 : decode cX2_signed 24 = .ok (.invokevirtual 173, 3) := dk_182 0 173 (dk_at dksX2_signed_1 0 rfl rfl)
theorem dX2_signed_27 : decode cX2_signed 27 = .ok (.areturn, 1) := dk_176 (dk_at dksX2_signed_1 3 rfl rfl)
theorem dX2_signed_28 : decode cX2_signed 28 = .ok (.aload_n 0, 1) := dk_42 (dk_at dksX2_signed_1 4 rfl rfl)
theorem dX2_signed_29 : decode cX2_signed 29 = .ok (.iload_n 1, 1) := dk_27 (dk_at dksX2_signed_1 5 rfl rfl)
theorem dX2_signed_30 : decode cX2_signed 30 = .ok (.invokevirtual 159, 3) := dk_182 0 159 (dk_at dksX2_signed_1 6 rfl rfl)
theorem dX2_signed_33 : decode cX2_signed 33 = .ok (.aload_n 0, 1) := dk_42 (dk_at dksX2_signed_1 9 rfl rfl)
theorem dX2_signed_34 : decode cX2_signed 34 = .ok (.invokevirtual 41, 3) := dk_182 0 41 (dk_at dksX2_signed_1 10 rfl rfl)
theorem dX2_signed_37 : decode cX2_signed 37 = .ok (.bipush 45, 2) := dk_16 45 (dk_at dksX2_signed_1 13 rfl rfl)
theorem dX2_signed_39 : decode cX2_signed 39 = .ok (.if_icmp .ne 9, 3) := dk_160 0 9 (dk_at dksX2_signed_1 15 rfl rfl)
theorem dX2_signed_42 : decode cX2_signed 42 = .ok (.getstatic 176, 3) := dk_178 0 176 (dk_at dksX2_signed_1 18 rfl rfl)
theorem dX2_signed_45 : decode cX2_signed 45 = .ok (.goto 6, 3) := dk_167 0 6 (dk_at dksX2_signed_1 21 rfl rfl)
theorem dX2_signed_48 : decode cX2_signed 48 = .ok (.getstatic 179, 3) := dk_178 0 179 (dk_at dksX2_signed_2 0 rfl rfl)
theorem dX2_signed_51 : decode cX2_signed 51 = .ok (.astore_n 2, 1) := dk_77 (dk_at dksX2_signed_2 3 rfl rfl)
theorem dX2_signed_52 : decode cX2_signed 52 = .ok (.aload_n 0, 1) := dk_42 (dk_at dksX2_signed_2 4 rfl rfl)
theorem dX2_signed_53 : decode cX2_signed 53 = .ok (.dup, 1) := dk_89 (dk_at dksX2_signed_2 5 rfl rfl)
theorem dX2_signed_54 : decode cX2_signed 54 = .ok (.getfield 38, 3) := dk_180 0 38 (dk_at dksX2_signed_2 6 rfl rfl)
theorem dX2_signed_57 : decode cX2_signed 57 = .ok (.iconst 1, 1) := dk_4 (dk_at dksX2_signed_2 9 rfl rfl)
theorem dX2_signed_58 : decode cX2_signed 58 = .ok (.iadd, 1) := dk_96 (dk_at dksX2_signed_2 10 rfl rfl)
theorem dX2_signed_59 : decode cX2_signed 59 = .ok (.putfield 38, 3) := dk_181 0 38 (dk_at dksX2_signed_2 11 rfl rfl)
theorem dX2_signed_62 : decode cX2_signed 62 = .ok (.new 105, 3) := dk_187 0 105 (dk_at dksX2_signed_2 14 rfl rfl)
theorem dX2_signed_65 : decode cX2_signed 65 = .ok (.dup, 1) := dk_89 (dk_at dksX2_signed_2 17 rfl rfl)
theorem dX2_signed_66 : decode cX2_signed 66 = .ok (.aload_n 2, 1) := dk_44 (dk_at dksX2_signed_2 18 rfl rfl)
theorem dX2_signed_67 : decode cX2_signed 67 = .ok (.iconst 0, 1) := dk_3 (dk_at dksX2_signed_2 19 rfl rfl)
theorem dX2_signed_68 : decode cX2_signed 68 = .ok (.aconst_null, 1) := dk_1 (dk_at dksX2_signed_2 20 rfl rfl)
theorem dX2_signed_69 : decode cX2_signed 69 = .ok (.invokespecial 113, 3) := dk_183 0 113 (dk_at dksX2_signed_2 21 rfl rfl)
theorem dX2_signed_72 : decode cX2_signed 72 = .ok (.aload_n 0, 1) := dk_42 (dk_at dksX2_signed_3 0 rfl rfl)
theorem dX2_signed_73 : decode cX2_signed 73 = .ok (.invokevirtual 182, 3) := dk_182 0 182 (dk_at dksX2_signed_3 1 rfl rfl)
theorem dX2_signed_76 : decode cX2_signed 76 = .ok (.invokevirtual 142, 3) := dk_182 0 142 (dk_at dksX2_signed_3 4 rfl rfl)
theorem dX2_signed_79 : decode cX2_signed 79 = .ok (.areturn, 1) := dk_176 (dk_at dksX2_signed_3 7 rfl rfl)
abbrev cX2_single : ByteArray := prog_9_method_17_code
def yX2_single : MethodName := ⟨RX2, "single", "()LProbeConsole$Node;"⟩
def dkwX2_single_3 : List UInt8 := [89, 178, 0, 162, 42, 18, 165, 182, 0, 166, 1, 183, 0, 113, 167, 0, 8, 42, 27, 182, 0, 169, 176]
abbrev dktX2_single_3 : List UInt8 := dkwX2_single_3 ++ []
def dkwX2_single_2 : List UInt8 := [3, 4, 42, 180, 0, 38, 182, 0, 45, 42, 27, 182, 0, 159, 42, 182, 0, 53, 153, 0, 23, 187, 0, 105]
abbrev dktX2_single_2 : List UInt8 := dkwX2_single_2 ++ dktX2_single_3
def dkwX2_single_1 : List UInt8 := [182, 0, 149, 44, 176, 42, 42, 182, 0, 53, 154, 0, 10, 42, 182, 0, 75, 153, 0, 7, 4, 167, 0, 4]
abbrev dktX2_single_1 : List UInt8 := dkwX2_single_1 ++ dktX2_single_2
def dkwX2_single_0 : List UInt8 := [42, 180, 0, 38, 60, 42, 182, 0, 41, 16, 40, 160, 0, 18, 42, 182, 0, 127, 42, 182, 0, 138, 77, 42]
abbrev dktX2_single_0 : List UInt8 := dkwX2_single_0 ++ dktX2_single_1
theorem dksX2_single_0 : cX2_single.data.toList.drop 0 = dktX2_single_0 := by decide +kernel
theorem dksX2_single_1 : cX2_single.data.toList.drop 24 = dktX2_single_1 := dk_seg dksX2_single_0 24 rfl rfl
theorem dksX2_single_2 : cX2_single.data.toList.drop 48 = dktX2_single_2 := dk_seg dksX2_single_1 24 rfl rfl
theorem dksX2_single_3 : cX2_single.data.toList.drop 72 = dktX2_single_3 := dk_seg dksX2_single_2 24 rfl rfl
theorem dX2_single_0 : decode cX2_single 0 = .ok (.aload_n 0, 1) := dk_42 (dk_at dksX2_single_0 0 rfl rfl)
theorem dX2_single_1 : decode cX2_single 1 = .ok (.getfield 38, 3) := dk_180 0 38 (dk_at dksX2_single_0 1 rfl rfl)
theorem dX2_single_4 : decode cX2_single 4 = .ok (.istore_n 1, 1) := dk_60 (dk_at dksX2_single_0 4 rfl rfl)
theorem dX2_single_5 : decode cX2_single 5 = .ok (.aload_n 0, 1) := dk_42 (dk_at dksX2_single_0 5 rfl rfl)
theorem dX2_single_6 : decode cX2_single 6 = .ok (.invokevirtual 41, 3) := dk_182 0 41 (dk_at dksX2_single_0 6 rfl rfl)
theorem dX2_single_9 : decode cX2_single 9 = .ok (.bipush 40, 2) := dk_16 40 (dk_at dksX2_single_0 9 rfl rfl)
theorem dX2_single_11 : decode cX2_single 11 = .ok (.if_icmp .ne 18, 3) := dk_160 0 18 (dk_at dksX2_single_0 11 rfl rfl)
theorem dX2_single_14 : decode cX2_single 14 = .ok (.aload_n 0, 1) := dk_42 (dk_at dksX2_single_0 14 rfl rfl)
theorem dX2_single_15 : decode cX2_single 15 = .ok (.invokevirtual 127, 3) := dk_182 0 127 (dk_at dksX2_single_0 15 rfl rfl)
theorem dX2_single_18 : decode cX2_single 18 = .ok (.aload_n 0, 1) := dk_42 (dk_at dksX2_single_0 18 rfl rfl)
theorem dX2_single_19 : decode cX2_single 19 = .ok (.invokevirtual 138, 3) := dk_182 0 138 (dk_at dksX2_single_0 19 rfl rfl)
theorem dX2_single_22 : decode cX2_single 22 = .ok (.astore_n 2, 1) := dk_77 (dk_at dksX2_single_0 22 rfl rfl)
theorem dX2_single_23 : decode cX2_single 23 = .ok (.aload_n 0, 1) := dk_42 (dk_at dksX2_single_0 23 rfl rfl)
theorem dX2_single_24 : decode cX2_single 24 = .ok (.invokevirtual 149, 3) := dk_182 0 149 (dk_at dksX2_single_1 0 rfl rfl)
theorem dX2_single_27 : decode cX2_single 27 = .ok (.aload_n 2, 1) := dk_44 (dk_at dksX2_single_1 3 rfl rfl)
theorem dX2_single_28 : decode cX2_single 28 = .ok (.areturn, 1) := dk_176 (dk_at dksX2_single_1 4 rfl rfl)
theorem dX2_single_29 : decode cX2_single 29 = .ok (.aload_n 0, 1) := dk_42 (dk_at dksX2_single_1 5 rfl rfl)
theorem dX2_single_30 : decode cX2_single 30 = .ok (.aload_n 0, 1) := dk_42 (dk_at dksX2_single_1 6 rfl rfl)
theorem dX2_single_31 : decode cX2_single 31 = .ok (.invokevirtual 53, 3) := dk_182 0 53 (dk_at dksX2_single_1 7 rfl rfl)
theorem dX2_single_34 : decode cX2_single 34 = .ok (.ifCond .ne 10, 3) := dk_154 0 10 (dk_at dksX2_single_1 10 rfl rfl)
theorem dX2_single_37 : decode cX2_single 37 = .ok (.aload_n 0, 1) := dk_42 (dk_at dksX2_single_1 13 rfl rfl)
theorem dX2_single_38 : decode cX2_single 38 = .ok (.invokevirtual 75, 3) := dk_182 0 75 (dk_at dksX2_single_1 14 rfl rfl)
theorem dX2_single_41 : decode cX2_single 41 = .ok (.ifCond .eq 7, 3) := dk_153 0 7 (dk_at dksX2_single_1 17 rfl rfl)
theorem dX2_single_44 : decode cX2_single 44 = .ok (.iconst 1, 1) := dk_4 (dk_at dksX2_single_1 20 rfl rfl)
theorem dX2_single_45 : decode cX2_single 45 = .ok (.goto 4, 3) := dk_167 0 4 (dk_at dksX2_single_1 21 rfl rfl)
theorem dX2_single_48 : decode cX2_single 48 = .ok (.iconst 0, 1) := dk_3 (dk_at dksX2_single_2 0 rfl rfl)
theorem dX2_single_49 : decode cX2_single 49 = .ok (.iconst 1, 1) := dk_4 (dk_at dksX2_single_2 1 rfl rfl)
theorem dX2_single_50 : decode cX2_single 50 = .ok (.aload_n 0, 1) := dk_42 (dk_at dksX2_single_2 2 rfl rfl)
theorem dX2_single_51 : decode cX2_single 51 = .ok (.getfield 38, 3) := dk_180 0 38 (dk_at dksX2_single_2 3 rfl rfl)
theorem dX2_single_54 : decode cX2_single 54 = .ok (.invokevirtual 45, 3) := dk_182 0 45 (dk_at dksX2_single_2 6 rfl rfl)
theorem dX2_single_57 : decode cX2_single 57 = .ok (.aload_n 0, 1) := dk_42 (dk_at dksX2_single_2 9 rfl rfl)
theorem dX2_single_58 : decode cX2_single 58 = .ok (.iload_n 1, 1) := dk_27 (dk_at dksX2_single_2 10 rfl rfl)
theorem dX2_single_59 : decode cX2_single 59 = .ok (.invokevirtual 159, 3) := dk_182 0 159 (dk_at dksX2_single_2 11 rfl rfl)
theorem dX2_single_62 : decode cX2_single 62 = .ok (.aload_n 0, 1) := dk_42 (dk_at dksX2_single_2 14 rfl rfl)
theorem dX2_single_63 : decode cX2_single 63 = .ok (.invokevirtual 53, 3) := dk_182 0 53 (dk_at dksX2_single_2 15 rfl rfl)
theorem dX2_single_66 : decode cX2_single 66 = .ok (.ifCond .eq 23, 3) := dk_153 0 23 (dk_at dksX2_single_2 18 rfl rfl)
theorem dX2_single_69 : decode cX2_single 69 = .ok (.new 105, 3) := dk_187 0 105 (dk_at dksX2_single_2 21 rfl rfl)
theorem dX2_single_72 : decode cX2_single 72 = .ok (.dup, 1) := dk_89 (dk_at dksX2_single_3 0 rfl rfl)
theorem dX2_single_73 : decode cX2_single 73 = .ok (.getstatic 162, 3) := dk_178 0 162 (dk_at dksX2_single_3 1 rfl rfl)
theorem dX2_single_76 : decode cX2_single 76 = .ok (.aload_n 0, 1) := dk_42 (dk_at dksX2_single_3 4 rfl rfl)
theorem dX2_single_77 : decode cX2_single 77 = .ok (.ldc 165, 2) := dk_18 165 (dk_at dksX2_single_3 5 rfl rfl)
theorem dX2_single_79 : decode cX2_single 79 = .ok (.invokevirtual 166, 3) := dk_182 0 166 (dk_at dksX2_single_3 7 rfl rfl)
theorem dX2_single_82 : decode cX2_single 82 = .ok (.aconst_null, 1) := dk_1 (dk_at dksX2_single_3 10 rfl rfl)
theorem dX2_single_83 : decode cX2_single 83 = .ok (.invokespecial 113, 3) := dk_183 0 113 (dk_at dksX2_single_3 11 rfl rfl)
theorem dX2_single_86 : decode cX2_single 86 = .ok (.goto 8, 3) := dk_167 0 8 (dk_at dksX2_single_3 14 rfl rfl)
theorem dX2_single_89 : decode cX2_single 89 = .ok (.aload_n 0, 1) := dk_42 (dk_at dksX2_single_3 17 rfl rfl)
theorem dX2_single_90 : decode cX2_single 90 = .ok (.iload_n 1, 1) := dk_27 (dk_at dksX2_single_3 18 rfl rfl)
theorem dX2_single_91 : decode cX2_single 91 = .ok (.invokevirtual 169, 3) := dk_182 0 169 (dk_at dksX2_single_3 19 rfl rfl)
theorem dX2_single_94 : decode cX2_single 94 = .ok (.areturn, 1) := dk_176 (dk_at dksX2_single_3 22 rfl rfl)
abbrev cX2_opens : ByteArray := prog_9_method_15_code
def yX2_opens : MethodName := ⟨RX2, "opens", "()V"⟩
def dkwX2_opens_2 : List UInt8 := [180, 0, 152, 4, 96, 181, 0, 152, 42, 89, 180, 0, 38, 4, 96, 181, 0, 38, 177]
abbrev dktX2_opens_2 : List UInt8 := dkwX2_opens_2 ++ []
def dkwX2_opens_1 : List UInt8 := [42, 180, 0, 152, 16, 12, 162, 0, 7, 4, 167, 0, 4, 3, 6, 42, 180, 0, 38, 182, 0, 45, 42, 89]
abbrev dktX2_opens_1 : List UInt8 := dkwX2_opens_1 ++ dktX2_opens_2
def dkwX2_opens_0 : List UInt8 := [42, 42, 182, 0, 41, 16, 40, 160, 0, 7, 4, 167, 0, 4, 3, 4, 42, 180, 0, 38, 182, 0, 45, 42]
abbrev dktX2_opens_0 : List UInt8 := dkwX2_opens_0 ++ dktX2_opens_1
theorem dksX2_opens_0 : cX2_opens.data.toList.drop 0 = dktX2_opens_0 := by decide +kernel
theorem dksX2_opens_1 : cX2_opens.data.toList.drop 24 = dktX2_opens_1 := dk_seg dksX2_opens_0 24 rfl rfl
theorem dksX2_opens_2 : cX2_opens.data.toList.drop 48 = dktX2_opens_2 := dk_seg dksX2_opens_1 24 rfl rfl
theorem dX2_opens_0 : decode cX2_opens 0 = .ok (.aload_n 0, 1) := dk_42 (dk_at dksX2_opens_0 0 rfl rfl)
theorem dX2_opens_1 : decode cX2_opens 1 = .ok (.aload_n 0, 1) := dk_42 (dk_at dksX2_opens_0 1 rfl rfl)
theorem dX2_opens_2 : decode cX2_opens 2 = .ok (.invokevirtual 41, 3) := dk_182 0 41 (dk_at dksX2_opens_0 2 rfl rfl)
theorem dX2_opens_5 : decode cX2_opens 5 = .ok (.bipush 40, 2) := dk_16 40 (dk_at dksX2_opens_0 5 rfl rfl)
theorem dX2_opens_7 : decode cX2_opens 7 = .ok (.if_icmp .ne 7, 3) := dk_160 0 7 (dk_at dksX2_opens_0 7 rfl rfl)
theorem dX2_opens_10 : decode cX2_opens 10 = .ok (.iconst 1, 1) := dk_4 (dk_at dksX2_opens_0 10 rfl rfl)
theorem dX2_opens_11 : decode cX2_opens 11 = .ok (.goto 4, 3) := dk_167 0 4 (dk_at dksX2_opens_0 11 rfl rfl)
theorem dX2_opens_14 : decode cX2_opens 14 = .ok (.iconst 0, 1) := dk_3 (dk_at dksX2_opens_0 14 rfl rfl)
theorem dX2_opens_15 : decode cX2_opens 15 = .ok (.iconst 1, 1) := dk_4 (dk_at dksX2_opens_0 15 rfl rfl)
theorem dX2_opens_16 : decode cX2_opens 16 = .ok (.aload_n 0, 1) := dk_42 (dk_at dksX2_opens_0 16 rfl rfl)
theorem dX2_opens_17 : decode cX2_opens 17 = .ok (.getfield 38, 3) := dk_180 0 38 (dk_at dksX2_opens_0 17 rfl rfl)
theorem dX2_opens_20 : decode cX2_opens 20 = .ok (.invokevirtual 45, 3) := dk_182 0 45 (dk_at dksX2_opens_0 20 rfl rfl)
theorem dX2_opens_23 : decode cX2_opens 23 = .ok (.aload_n 0, 1) := dk_42 (dk_at dksX2_opens_0 23 rfl rfl)
theorem dX2_opens_24 : decode cX2_opens 24 = .ok (.aload_n 0, 1) := dk_42 (dk_at dksX2_opens_1 0 rfl rfl)
theorem dX2_opens_25 : decode cX2_opens 25 = .ok (.getfield 152, 3) := dk_180 0 152 (dk_at dksX2_opens_1 1 rfl rfl)
theorem dX2_opens_28 : decode cX2_opens 28 = .ok (.bipush 12, 2) := dk_16 12 (dk_at dksX2_opens_1 4 rfl rfl)
theorem dX2_opens_30 : decode cX2_opens 30 = .ok (.if_icmp .ge 7, 3) := dk_162 0 7 (dk_at dksX2_opens_1 6 rfl rfl)
theorem dX2_opens_33 : decode cX2_opens 33 = .ok (.iconst 1, 1) := dk_4 (dk_at dksX2_opens_1 9 rfl rfl)
theorem dX2_opens_34 : decode cX2_opens 34 = .ok (.goto 4, 3) := dk_167 0 4 (dk_at dksX2_opens_1 10 rfl rfl)
theorem dX2_opens_37 : decode cX2_opens 37 = .ok (.iconst 0, 1) := dk_3 (dk_at dksX2_opens_1 13 rfl rfl)
theorem dX2_opens_38 : decode cX2_opens 38 = .ok (.iconst 3, 1) := dk_6 (dk_at dksX2_opens_1 14 rfl rfl)
theorem dX2_opens_39 : decode cX2_opens 39 = .ok (.aload_n 0, 1) := dk_42 (dk_at dksX2_opens_1 15 rfl rfl)
theorem dX2_opens_40 : decode cX2_opens 40 = .ok (.getfield 38, 3) := dk_180 0 38 (dk_at dksX2_opens_1 16 rfl rfl)
theorem dX2_opens_43 : decode cX2_opens 43 = .ok (.invokevirtual 45, 3) := dk_182 0 45 (dk_at dksX2_opens_1 19 rfl rfl)
theorem dX2_opens_46 : decode cX2_opens 46 = .ok (.aload_n 0, 1) := dk_42 (dk_at dksX2_opens_1 22 rfl rfl)
theorem dX2_opens_47 : decode cX2_opens 47 = .ok (.dup, 1) := dk_89 (dk_at dksX2_opens_1 23 rfl rfl)
theorem dX2_opens_48 : decode cX2_opens 48 = .ok (.getfield 152, 3) := dk_180 0 152 (dk_at dksX2_opens_2 0 rfl rfl)
theorem dX2_opens_51 : decode cX2_opens 51 = .ok (.iconst 1, 1) := dk_4 (dk_at dksX2_opens_2 3 rfl rfl)
theorem dX2_opens_52 : decode cX2_opens 52 = .ok (.iadd, 1) := dk_96 (dk_at dksX2_opens_2 4 rfl rfl)
theorem dX2_opens_53 : decode cX2_opens 53 = .ok (.putfield 152, 3) := dk_181 0 152 (dk_at dksX2_opens_2 5 rfl rfl)
theorem dX2_opens_56 : decode cX2_opens 56 = .ok (.aload_n 0, 1) := dk_42 (dk_at dksX2_opens_2 8 rfl rfl)
theorem dX2_opens_57 : decode cX2_opens 57 = .ok (.dup, 1) := dk_89 (dk_at dksX2_opens_2 9 rfl rfl)
theorem dX2_opens_58 : decode cX2_opens 58 = .ok (.getfield 38, 3) := dk_180 0 38 (dk_at dksX2_opens_2 10 rfl rfl)
theorem dX2_opens_61 : decode cX2_opens 61 = .ok (.iconst 1, 1) := dk_4 (dk_at dksX2_opens_2 13 rfl rfl)
theorem dX2_opens_62 : decode cX2_opens 62 = .ok (.iadd, 1) := dk_96 (dk_at dksX2_opens_2 14 rfl rfl)
theorem dX2_opens_63 : decode cX2_opens 63 = .ok (.putfield 38, 3) := dk_181 0 38 (dk_at dksX2_opens_2 15 rfl rfl)
theorem dX2_opens_66 : decode cX2_opens 66 = .ok (.return_, 1) := dk_177 (dk_at dksX2_opens_2 18 rfl rfl)
abbrev cX2_closes : ByteArray := prog_9_method_16_code
def yX2_closes : MethodName := ⟨RX2, "closes", "()V"⟩
def dkwX2_closes_0 : List UInt8 := [42, 16, 41, 182, 0, 155, 42, 89, 180, 0, 152, 4, 100, 181, 0, 152, 177]
abbrev dktX2_closes_0 : List UInt8 := dkwX2_closes_0 ++ []
theorem dksX2_closes_0 : cX2_closes.data.toList.drop 0 = dktX2_closes_0 := by decide +kernel
theorem dX2_closes_0 : decode cX2_closes 0 = .ok (.aload_n 0, 1) := dk_42 (dk_at dksX2_closes_0 0 rfl rfl)
theorem dX2_closes_1 : decode cX2_closes 1 = .ok (.bipush 41, 2) := dk_16 41 (dk_at dksX2_closes_0 1 rfl rfl)
theorem dX2_closes_3 : decode cX2_closes 3 = .ok (.invokevirtual 155, 3) := dk_182 0 155 (dk_at dksX2_closes_0 3 rfl rfl)
theorem dX2_closes_6 : decode cX2_closes 6 = .ok (.aload_n 0, 1) := dk_42 (dk_at dksX2_closes_0 6 rfl rfl)
theorem dX2_closes_7 : decode cX2_closes 7 = .ok (.dup, 1) := dk_89 (dk_at dksX2_closes_0 7 rfl rfl)
theorem dX2_closes_8 : decode cX2_closes 8 = .ok (.getfield 152, 3) := dk_180 0 152 (dk_at dksX2_closes_0 8 rfl rfl)
theorem dX2_closes_11 : decode cX2_closes 11 = .ok (.iconst 1, 1) := dk_4 (dk_at dksX2_closes_0 11 rfl rfl)
theorem dX2_closes_12 : decode cX2_closes 12 = .ok (.isub, 1) := dk_100 (dk_at dksX2_closes_0 12 rfl rfl)
theorem dX2_closes_13 : decode cX2_closes 13 = .ok (.putfield 152, 3) := dk_181 0 152 (dk_at dksX2_closes_0 13 rfl rfl)
theorem dX2_closes_16 : decode cX2_closes 16 = .ok (.return_, 1) := dk_177 (dk_at dksX2_closes_0 16 rfl rfl)
abbrev cX2_isFigure : ByteArray := prog_9_method_8_code
def yX2_isFigure : MethodName := ⟨RX2, "isFigure", "()Z"⟩
def dkwX2_isFigure_0 : List UInt8 := [42, 182, 0, 41, 16, 48, 161, 0, 16, 42, 182, 0, 41, 16, 57, 163, 0, 7, 4, 167, 0, 4, 3, 172]
abbrev dktX2_isFigure_0 : List UInt8 := dkwX2_isFigure_0 ++ []
theorem dksX2_isFigure_0 : cX2_isFigure.data.toList.drop 0 = dktX2_isFigure_0 := by decide +kernel
theorem dX2_isFigure_0 : decode cX2_isFigure 0 = .ok (.aload_n 0, 1) := dk_42 (dk_at dksX2_isFigure_0 0 rfl rfl)
theorem dX2_isFigure_1 : decode cX2_isFigure 1 = .ok (.invokevirtual 41, 3) := dk_182 0 41 (dk_at dksX2_isFigure_0 1 rfl rfl)
theorem dX2_isFigure_4 : decode cX2_isFigure 4 = .ok (.bipush 48, 2) := dk_16 48 (dk_at dksX2_isFigure_0 4 rfl rfl)
theorem dX2_isFigure_6 : decode cX2_isFigure 6 = .ok (.if_icmp .lt 16, 3) := dk_161 0 16 (dk_at dksX2_isFigure_0 6 rfl rfl)
theorem dX2_isFigure_9 : decode cX2_isFigure 9 = .ok (.aload_n 0, 1) := dk_42 (dk_at dksX2_isFigure_0 9 rfl rfl)
theorem dX2_isFigure_10 : decode cX2_isFigure 10 = .ok (.invokevirtual 41, 3) := dk_182 0 41 (dk_at dksX2_isFigure_0 10 rfl rfl)
theorem dX2_isFigure_13 : decode cX2_isFigure 13 = .ok (.bipush 57, 2) := dk_16 57 (dk_at dksX2_isFigure_0 13 rfl rfl)
theorem dX2_isFigure_15 : decode cX2_isFigure 15 = .ok (.if_icmp .gt 7, 3) := dk_163 0 7 (dk_at dksX2_isFigure_0 15 rfl rfl)
theorem dX2_isFigure_18 : decode cX2_isFigure 18 = .ok (.iconst 1, 1) := dk_4 (dk_at dksX2_isFigure_0 18 rfl rfl)
theorem dX2_isFigure_19 : decode cX2_isFigure 19 = .ok (.goto 4, 3) := dk_167 0 4 (dk_at dksX2_isFigure_0 19 rfl rfl)
theorem dX2_isFigure_22 : decode cX2_isFigure 22 = .ok (.iconst 0, 1) := dk_3 (dk_at dksX2_isFigure_0 22 rfl rfl)
theorem dX2_isFigure_23 : decode cX2_isFigure 23 = .ok (.ireturn, 1) := dk_172 (dk_at dksX2_isFigure_0 23 rfl rfl)
abbrev cX2_node : ByteArray := prog_9_method_11_code
def yX2_node : MethodName := ⟨RX2, "node", "(I)V"⟩
def dkwX2_node_1 : List UInt8 := [3, 6, 27, 182, 0, 45, 177]
abbrev dktX2_node_1 : List UInt8 := dkwX2_node_1 ++ []
def dkwX2_node_0 : List UInt8 := [42, 89, 180, 0, 69, 4, 96, 181, 0, 69, 42, 42, 180, 0, 69, 16, 20, 163, 0, 7, 4, 167, 0, 4]
abbrev dktX2_node_0 : List UInt8 := dkwX2_node_0 ++ dktX2_node_1
theorem dksX2_node_0 : cX2_node.data.toList.drop 0 = dktX2_node_0 := by decide +kernel
theorem dksX2_node_1 : cX2_node.data.toList.drop 24 = dktX2_node_1 := dk_seg dksX2_node_0 24 rfl rfl
theorem dX2_node_0 : decode cX2_node 0 = .ok (.aload_n 0, 1) := dk_42 (dk_at dksX2_node_0 0 rfl rfl)
theorem dX2_node_1 : decode cX2_node 1 = .ok (.dup, 1) := dk_89 (dk_at dksX2_node_0 1 rfl rfl)
theorem dX2_node_2 : decode cX2_node 2 = .ok (.getfield 69, 3) := dk_180 0 69 (dk_at dksX2_node_0 2 rfl rfl)
theorem dX2_node_5 : decode cX2_node 5 = .ok (.iconst 1, 1) := dk_4 (dk_at dksX2_node_0 5 rfl rfl)
theorem dX2_node_6 : decode cX2_node 6 = .ok (.iadd, 1) := dk_96 (dk_at dksX2_node_0 6 rfl rfl)
theorem dX2_node_7 : decode cX2_node 7 = .ok (.putfield 69, 3) := dk_181 0 69 (dk_at dksX2_node_0 7 rfl rfl)
theorem dX2_node_10 : decode cX2_node 10 = .ok (.aload_n 0, 1) := dk_42 (dk_at dksX2_node_0 10 rfl rfl)
theorem dX2_node_11 : decode cX2_node 11 = .ok (.aload_n 0, 1) := dk_42 (dk_at dksX2_node_0 11 rfl rfl)
theorem dX2_node_12 : decode cX2_node 12 = .ok (.getfield 69, 3) := dk_180 0 69 (dk_at dksX2_node_0 12 rfl rfl)
theorem dX2_node_15 : decode cX2_node 15 = .ok (.bipush 20, 2) := dk_16 20 (dk_at dksX2_node_0 15 rfl rfl)
theorem dX2_node_17 : decode cX2_node 17 = .ok (.if_icmp .gt 7, 3) := dk_163 0 7 (dk_at dksX2_node_0 17 rfl rfl)
theorem dX2_node_20 : decode cX2_node 20 = .ok (.iconst 1, 1) := dk_4 (dk_at dksX2_node_0 20 rfl rfl)
theorem dX2_node_21 : decode cX2_node 21 = .ok (.goto 4, 3) := dk_167 0 4 (dk_at dksX2_node_0 21 rfl rfl)
theorem dX2_node_24 : decode cX2_node 24 = .ok (.iconst 0, 1) := dk_3 (dk_at dksX2_node_1 0 rfl rfl)
theorem dX2_node_25 : decode cX2_node 25 = .ok (.iconst 3, 1) := dk_6 (dk_at dksX2_node_1 1 rfl rfl)
theorem dX2_node_26 : decode cX2_node 26 = .ok (.iload_n 1, 1) := dk_27 (dk_at dksX2_node_1 2 rfl rfl)
theorem dX2_node_27 : decode cX2_node 27 = .ok (.invokevirtual 45, 3) := dk_182 0 45 (dk_at dksX2_node_1 3 rfl rfl)
theorem dX2_node_30 : decode cX2_node 30 = .ok (.return_, 1) := dk_177 (dk_at dksX2_node_1 6 rfl rfl)
abbrev cX2_number : ByteArray := prog_9_method_10_code
def yX2_number : MethodName := ⟨RX2, "number", "(I)I"⟩
def dkwX2_number_3 : List UInt8 := [167, 0, 4, 3, 5, 28, 182, 0, 45, 33, 136, 172]
abbrev dktX2_number_3 : List UInt8 := dkwX2_number_3 ++ []
def dkwX2_number_2 : List UInt8 := [66, 42, 89, 180, 0, 38, 4, 96, 181, 0, 38, 167, 255, 217, 42, 33, 27, 133, 148, 157, 0, 7, 4]
abbrev dktX2_number_2 : List UInt8 := dkwX2_number_2 ++ dktX2_number_3
def dkwX2_number_1 : List UInt8 := [153, 0, 38, 20, 0, 57, 20, 0, 59, 33, 105, 42, 182, 0, 41, 133, 97, 20, 0, 61, 101, 184, 0, 63]
abbrev dktX2_number_1 : List UInt8 := dkwX2_number_1 ++ dktX2_number_2
def dkwX2_number_0 : List UInt8 := [42, 180, 0, 38, 61, 9, 66, 42, 42, 182, 0, 53, 4, 42, 180, 0, 38, 182, 0, 45, 42, 182, 0, 53]
abbrev dktX2_number_0 : List UInt8 := dkwX2_number_0 ++ dktX2_number_1
theorem dksX2_number_0 : cX2_number.data.toList.drop 0 = dktX2_number_0 := by decide +kernel
theorem dksX2_number_1 : cX2_number.data.toList.drop 24 = dktX2_number_1 := dk_seg dksX2_number_0 24 rfl rfl
theorem dksX2_number_2 : cX2_number.data.toList.drop 48 = dktX2_number_2 := dk_seg dksX2_number_1 24 rfl rfl
theorem dksX2_number_3 : cX2_number.data.toList.drop 71 = dktX2_number_3 := dk_seg dksX2_number_2 23 rfl rfl
theorem dX2_number_0 : decode cX2_number 0 = .ok (.aload_n 0, 1) := dk_42 (dk_at dksX2_number_0 0 rfl rfl)
theorem dX2_number_1 : decode cX2_number 1 = .ok (.getfield 38, 3) := dk_180 0 38 (dk_at dksX2_number_0 1 rfl rfl)
theorem dX2_number_4 : decode cX2_number 4 = .ok (.istore_n 2, 1) := dk_61 (dk_at dksX2_number_0 4 rfl rfl)
theorem dX2_number_5 : decode cX2_number 5 = .ok (.lconst 0, 1) := dk_9 (dk_at dksX2_number_0 5 rfl rfl)
theorem dX2_number_6 : decode cX2_number 6 = .ok (.lstore_n 3, 1) := dk_66 (dk_at dksX2_number_0 6 rfl rfl)
theorem dX2_number_7 : decode cX2_number 7 = .ok (.aload_n 0, 1) := dk_42 (dk_at dksX2_number_0 7 rfl rfl)
theorem dX2_number_8 : decode cX2_number 8 = .ok (.aload_n 0, 1) := dk_42 (dk_at dksX2_number_0 8 rfl rfl)
theorem dX2_number_9 : decode cX2_number 9 = .ok (.invokevirtual 53, 3) := dk_182 0 53 (dk_at dksX2_number_0 9 rfl rfl)
theorem dX2_number_12 : decode cX2_number 12 = .ok (.iconst 1, 1) := dk_4 (dk_at dksX2_number_0 12 rfl rfl)
theorem dX2_number_13 : decode cX2_number 13 = .ok (.aload_n 0, 1) := dk_42 (dk_at dksX2_number_0 13 rfl rfl)
theorem dX2_number_14 : decode cX2_number 14 = .ok (.getfield 38, 3) := dk_180 0 38 (dk_at dksX2_number_0 14 rfl rfl)
theorem dX2_number_17 : decode cX2_number 17 = .ok (.invokevirtual 45, 3) := dk_182 0 45 (dk_at dksX2_number_0 17 rfl rfl)
theorem dX2_number_20 : decode cX2_number 20 = .ok (.aload_n 0, 1) := dk_42 (dk_at dksX2_number_0 20 rfl rfl)
theorem dX2_number_21 : decode cX2_number 21 = .ok (.invokevirtual 53, 3) := dk_182 0 53 (dk_at dksX2_number_0 21 rfl rfl)
theorem dX2_number_24 : decode cX2_number 24 = .ok (.ifCond .eq 38, 3) := dk_153 0 38 (dk_at dksX2_number_1 0 rfl rfl)
theorem dX2_number_27 : decode cX2_number 27 = .ok (.ldc2_w 57, 3) := dk_20 0 57 (dk_at dksX2_number_1 3 rfl rfl)
theorem dX2_number_30 : decode cX2_number 30 = .ok (.ldc2_w 59, 3) := dk_20 0 59 (dk_at dksX2_number_1 6 rfl rfl)
theorem dX2_number_33 : decode cX2_number 33 = .ok (.lload_n 3, 1) := dk_33 (dk_at dksX2_number_1 9 rfl rfl)
theorem dX2_number_34 : decode cX2_number 34 = .ok (.lmul, 1) := dk_105 (dk_at dksX2_number_1 10 rfl rfl)
theorem dX2_number_35 : decode cX2_number 35 = .ok (.aload_n 0, 1) := dk_42 (dk_at dksX2_number_1 11 rfl rfl)
theorem dX2_number_36 : decode cX2_number 36 = .ok (.invokevirtual 41, 3) := dk_182 0 41 (dk_at dksX2_number_1 12 rfl rfl)
theorem dX2_number_39 : decode cX2_number 39 = .ok (.i2l, 1) := dk_133 (dk_at dksX2_number_1 15 rfl rfl)
theorem dX2_number_40 : decode cX2_number 40 = .ok (.ladd, 1) := dk_97 (dk_at dksX2_number_1 16 rfl rfl)
theorem dX2_number_41 : decode cX2_number 41 = .ok (.ldc2_w 61, 3) := dk_20 0 61 (dk_at dksX2_number_1 17 rfl rfl)
theorem dX2_number_44 : decode cX2_number 44 = .ok (.lsub, 1) := dk_101 (dk_at dksX2_number_1 20 rfl rfl)
theorem dX2_number_45 : decode cX2_number 45 = .ok (.invokestatic 63, 3) := dk_184 0 63 (dk_at dksX2_number_1 21 rfl rfl)
theorem dX2_number_48 : decode cX2_number 48 = .ok (.lstore_n 3, 1) := dk_66 (dk_at dksX2_number_2 0 rfl rfl)
theorem dX2_number_49 : decode cX2_number 49 = .ok (.aload_n 0, 1) := dk_42 (dk_at dksX2_number_2 1 rfl rfl)
theorem dX2_number_50 : decode cX2_number 50 = .ok (.dup, 1) := dk_89 (dk_at dksX2_number_2 2 rfl rfl)
theorem dX2_number_51 : decode cX2_number 51 = .ok (.getfield 38, 3) := dk_180 0 38 (dk_at dksX2_number_2 3 rfl rfl)
theorem dX2_number_54 : decode cX2_number 54 = .ok (.iconst 1, 1) := dk_4 (dk_at dksX2_number_2 6 rfl rfl)
theorem dX2_number_55 : decode cX2_number 55 = .ok (.iadd, 1) := dk_96 (dk_at dksX2_number_2 7 rfl rfl)
theorem dX2_number_56 : decode cX2_number 56 = .ok (.putfield 38, 3) := dk_181 0 38 (dk_at dksX2_number_2 8 rfl rfl)
theorem dX2_number_59 : decode cX2_number 59 = .ok (.goto (-39), 3) := dk_167 255 217 (dk_at dksX2_number_2 11 rfl rfl)
theorem dX2_number_62 : decode cX2_number 62 = .ok (.aload_n 0, 1) := dk_42 (dk_at dksX2_number_2 14 rfl rfl)
theorem dX2_number_63 : decode cX2_number 63 = .ok (.lload_n 3, 1) := dk_33 (dk_at dksX2_number_2 15 rfl rfl)
theorem dX2_number_64 : decode cX2_number 64 = .ok (.iload_n 1, 1) := dk_27 (dk_at dksX2_number_2 16 rfl rfl)
theorem dX2_number_65 : decode cX2_number 65 = .ok (.i2l, 1) := dk_133 (dk_at dksX2_number_2 17 rfl rfl)
theorem dX2_number_66 : decode cX2_number 66 = .ok (.lcmp, 1) := dk_148 (dk_at dksX2_number_2 18 rfl rfl)
theorem dX2_number_67 : decode cX2_number 67 = .ok (.ifCond .gt 7, 3) := dk_157 0 7 (dk_at dksX2_number_2 19 rfl rfl)
theorem dX2_number_70 : decode cX2_number 70 = .ok (.iconst 1, 1) := dk_4 (dk_at dksX2_number_2 22 rfl rfl)
theorem dX2_number_71 : decode cX2_number 71 = .ok (.goto 4, 3) := dk_167 0 4 (dk_at dksX2_number_3 0 rfl rfl)
theorem dX2_number_74 : decode cX2_number 74 = .ok (.iconst 0, 1) := dk_3 (dk_at dksX2_number_3 3 rfl rfl)
theorem dX2_number_75 : decode cX2_number 75 = .ok (.iconst 2, 1) := dk_5 (dk_at dksX2_number_3 4 rfl rfl)
theorem dX2_number_76 : decode cX2_number 76 = .ok (.iload_n 2, 1) := dk_28 (dk_at dksX2_number_3 5 rfl rfl)
theorem dX2_number_77 : decode cX2_number 77 = .ok (.invokevirtual 45, 3) := dk_182 0 45 (dk_at dksX2_number_3 6 rfl rfl)
theorem dX2_number_80 : decode cX2_number 80 = .ok (.lload_n 3, 1) := dk_33 (dk_at dksX2_number_3 9 rfl rfl)
theorem dX2_number_81 : decode cX2_number 81 = .ok (.l2i, 1) := dk_136 (dk_at dksX2_number_3 10 rfl rfl)
theorem dX2_number_82 : decode cX2_number 82 = .ok (.ireturn, 1) := dk_172 (dk_at dksX2_number_3 11 rfl rfl)
abbrev cX2_named : ByteArray := prog_9_method_14_code
def yX2_named : MethodName := ⟨RX2, "named", "(I)LProbeConsole$Node;"⟩
def dkwX2_named_9 : List UInt8 := [182, 0, 149, 45, 176]
abbrev dktX2_named_9 : List UInt8 := dkwX2_named_9 ++ []
def dkwX2_named_8 : List UInt8 := [182, 0, 45, 45, 42, 182, 0, 138, 182, 0, 142, 87, 42, 16, 44, 182, 0, 146, 154, 255, 206, 42]
abbrev dktX2_named_8 : List UInt8 := dkwX2_named_8 ++ dktX2_named_9
def dkwX2_named_7 : List UInt8 := [180, 0, 130, 185, 0, 134, 1, 0, 6, 162, 0, 7, 4, 167, 0, 4, 3, 6, 42, 180, 0, 38]
abbrev dktX2_named_7 : List UInt8 := dkwX2_named_7 ++ dktX2_named_8
def dkwX2_named_6 : List UInt8 := [182, 0, 127, 42, 182, 0, 41, 16, 41, 159, 0, 56, 42, 42, 182, 0, 41, 2, 159, 0, 16, 45]
abbrev dktX2_named_6 : List UInt8 := dkwX2_named_6 ++ dktX2_named_7
def dkwX2_named_5 : List UInt8 := [180, 0, 120, 7, 27, 182, 0, 45, 187, 0, 105, 89, 178, 0, 124, 3, 44, 183, 0, 113, 78, 42]
abbrev dktX2_named_5 : List UInt8 := dkwX2_named_5 ++ dktX2_named_6
def dkwX2_named_4 : List UInt8 := [182, 0, 45, 187, 0, 105, 89, 178, 0, 107, 29, 44, 183, 0, 113, 176, 42, 44, 27, 182, 0, 116, 42, 42]
abbrev dktX2_named_4 : List UInt8 := dkwX2_named_4 ++ dktX2_named_5
def dkwX2_named_3 : List UInt8 := [160, 0, 7, 4, 167, 0, 4, 3, 128, 54, 4, 132, 5, 1, 167, 255, 214, 42, 21, 4, 7, 27]
abbrev dktX2_named_3 : List UInt8 := dkwX2_named_3 ++ dktX2_named_4
def dkwX2_named_2 : List UInt8 := [182, 0, 89, 162, 0, 36, 21, 4, 42, 180, 0, 17, 21, 5, 182, 0, 92, 44, 3, 182, 0, 92]
abbrev dktX2_named_2 : List UInt8 := dkwX2_named_2 ++ dktX2_named_3
def dkwX2_named_1 : List UInt8 := [18, 99, 44, 3, 182, 0, 92, 182, 0, 101, 62, 3, 54, 4, 3, 54, 5, 21, 5, 42, 180, 0, 17]
abbrev dktX2_named_1 : List UInt8 := dkwX2_named_1 ++ dktX2_named_2
def dkwX2_named_0 : List UInt8 := [42, 182, 0, 96, 77, 44, 182, 0, 89, 4, 160, 0, 97, 44, 3, 182, 0, 92, 184, 0, 49, 153, 0, 86]
abbrev dktX2_named_0 : List UInt8 := dkwX2_named_0 ++ dktX2_named_1
theorem dksX2_named_0 : cX2_named.data.toList.drop 0 = dktX2_named_0 := by decide +kernel
theorem dksX2_named_1 : cX2_named.data.toList.drop 24 = dktX2_named_1 := dk_seg dksX2_named_0 24 rfl rfl
theorem dksX2_named_2 : cX2_named.data.toList.drop 47 = dktX2_named_2 := dk_seg dksX2_named_1 23 rfl rfl
theorem dksX2_named_3 : cX2_named.data.toList.drop 69 = dktX2_named_3 := dk_seg dksX2_named_2 22 rfl rfl
theorem dksX2_named_4 : cX2_named.data.toList.drop 91 = dktX2_named_4 := dk_seg dksX2_named_3 22 rfl rfl
theorem dksX2_named_5 : cX2_named.data.toList.drop 115 = dktX2_named_5 := dk_seg dksX2_named_4 24 rfl rfl
theorem dksX2_named_6 : cX2_named.data.toList.drop 137 = dktX2_named_6 := dk_seg dksX2_named_5 22 rfl rfl
theorem dksX2_named_7 : cX2_named.data.toList.drop 159 = dktX2_named_7 := dk_seg dksX2_named_6 22 rfl rfl
theorem dksX2_named_8 : cX2_named.data.toList.drop 181 = dktX2_named_8 := dk_seg dksX2_named_7 22 rfl rfl
theorem dksX2_named_9 : cX2_named.data.toList.drop 203 = dktX2_named_9 := dk_seg dksX2_named_8 22 rfl rfl
theorem dX2_named_0 : decode cX2_named 0 = .ok (.aload_n 0, 1) := dk_42 (dk_at dksX2_named_0 0 rfl rfl)
theorem dX2_named_1 : decode cX2_named 1 = .ok (.invokevirtual 96, 3) := dk_182 0 96 (dk_at dksX2_named_0 1 rfl rfl)
theorem dX2_named_4 : decode cX2_named 4 = .ok (.astore_n 2, 1) := dk_77 (dk_at dksX2_named_0 4 rfl rfl)
theorem dX2_named_5 : decode cX2_named 5 = .ok (.aload_n 2, 1) := dk_44 (dk_at dksX2_named_0 5 rfl rfl)
theorem dX2_named_6 : decode cX2_named 6 = .ok (.invokevirtual 89, 3) := dk_182 0 89 (dk_at dksX2_named_0 6 rfl rfl)
theorem dX2_named_9 : decode cX2_named 9 = .ok (.iconst 1, 1) := dk_4 (dk_at dksX2_named_0 9 rfl rfl)
theorem dX2_named_10 : decode cX2_named 10 = .ok (.if_icmp .ne 97, 3) := dk_160 0 97 (dk_at dksX2_named_0 10 rfl rfl)
theorem dX2_named_13 : decode cX2_named 13 = .ok (.aload_n 2, 1) := dk_44 (dk_at dksX2_named_0 13 rfl rfl)
theorem dX2_named_14 : decode cX2_named 14 = .ok (.iconst 0, 1) := dk_3 (dk_at dksX2_named_0 14 rfl rfl)
theorem dX2_named_15 : decode cX2_named 15 = .ok (.invokevirtual 92, 3) := dk_182 0 92 (dk_at dksX2_named_0 15 rfl rfl)
theorem dX2_named_18 : decode cX2_named 18 = .ok (.invokestatic 49, 3) := dk_184 0 49 (dk_at dksX2_named_0 18 rfl rfl)
theorem dX2_named_21 : decode cX2_named 21 = .ok (.ifCond .eq 86, 3) := dk_153 0 86 (dk_at dksX2_named_0 21 rfl rfl)
theorem dX2_named_24 : decode cX2_named 24 = .ok (.ldc 99, 2) := dk_18 99 (dk_at dksX2_named_1 0 rfl rfl)
theorem dX2_named_26 : decode cX2_named 26 = .ok (.aload_n 2, 1) := dk_44 (dk_at dksX2_named_1 2 rfl rfl)
theorem dX2_named_27 : decode cX2_named 27 = .ok (.iconst 0, 1) := dk_3 (dk_at dksX2_named_1 3 rfl rfl)
theorem dX2_named_28 : decode cX2_named 28 = .ok (.invokevirtual 92, 3) := dk_182 0 92 (dk_at dksX2_named_1 4 rfl rfl)
theorem dX2_named_31 : decode cX2_named 31 = .ok (.invokevirtual 101, 3) := dk_182 0 101 (dk_at dksX2_named_1 7 rfl rfl)
theorem dX2_named_34 : decode cX2_named 34 = .ok (.istore_n 3, 1) := dk_62 (dk_at dksX2_named_1 10 rfl rfl)
theorem dX2_named_35 : decode cX2_named 35 = .ok (.iconst 0, 1) := dk_3 (dk_at dksX2_named_1 11 rfl rfl)
theorem dX2_named_36 : decode cX2_named 36 = .ok (.istore 4, 2) := dk_54 4 (dk_at dksX2_named_1 12 rfl rfl)
theorem dX2_named_38 : decode cX2_named 38 = .ok (.iconst 0, 1) := dk_3 (dk_at dksX2_named_1 14 rfl rfl)
theorem dX2_named_39 : decode cX2_named 39 = .ok (.istore 5, 2) := dk_54 5 (dk_at dksX2_named_1 15 rfl rfl)
theorem dX2_named_41 : decode cX2_named 41 = .ok (.iload 5, 2) := dk_21 5 (dk_at dksX2_named_1 17 rfl rfl)
theorem dX2_named_43 : decode cX2_named 43 = .ok (.aload_n 0, 1) := dk_42 (dk_at dksX2_named_1 19 rfl rfl)
theorem dX2_named_44 : decode cX2_named 44 = .ok (.getfield 17, 3) := dk_180 0 17 (dk_at dksX2_named_1 20 rfl rfl)
theorem dX2_named_47 : decode cX2_named 47 = .ok (.invokevirtual 89, 3) := dk_182 0 89 (dk_at dksX2_named_2 0 rfl rfl)
theorem dX2_named_50 : decode cX2_named 50 = .ok (.if_icmp .ge 36, 3) := dk_162 0 36 (dk_at dksX2_named_2 3 rfl rfl)
theorem dX2_named_53 : decode cX2_named 53 = .ok (.iload 4, 2) := dk_21 4 (dk_at dksX2_named_2 6 rfl rfl)
theorem dX2_named_55 : decode cX2_named 55 = .ok (.aload_n 0, 1) := dk_42 (dk_at dksX2_named_2 8 rfl rfl)
theorem dX2_named_56 : decode cX2_named 56 = .ok (.getfield 17, 3) := dk_180 0 17 (dk_at dksX2_named_2 9 rfl rfl)
theorem dX2_named_59 : decode cX2_named 59 = .ok (.iload 5, 2) := dk_21 5 (dk_at dksX2_named_2 12 rfl rfl)
theorem dX2_named_61 : decode cX2_named 61 = .ok (.invokevirtual 92, 3) := dk_182 0 92 (dk_at dksX2_named_2 14 rfl rfl)
theorem dX2_named_64 : decode cX2_named 64 = .ok (.aload_n 2, 1) := dk_44 (dk_at dksX2_named_2 17 rfl rfl)
theorem dX2_named_65 : decode cX2_named 65 = .ok (.iconst 0, 1) := dk_3 (dk_at dksX2_named_2 18 rfl rfl)
theorem dX2_named_66 : decode cX2_named 66 = .ok (.invokevirtual 92, 3) := dk_182 0 92 (dk_at dksX2_named_2 19 rfl rfl)
theorem dX2_named_69 : decode cX2_named 69 = .ok (.if_icmp .ne 7, 3) := dk_160 0 7 (dk_at dksX2_named_3 0 rfl rfl)
theorem dX2_named_72 : decode cX2_named 72 = .ok (.iconst 1, 1) := dk_4 (dk_at dksX2_named_3 3 rfl rfl)
theorem dX2_named_73 : decode cX2_named 73 = .ok (.goto 4, 3) := dk_167 0 4 (dk_at dksX2_named_3 4 rfl rfl)
theorem dX2_named_76 : decode cX2_named 76 = .ok (.iconst 0, 1) := dk_3 (dk_at dksX2_named_3 7 rfl rfl)
theorem dX2_named_77 : decode cX2_named 77 = .ok (.ior, 1) := dk_128 (dk_at dksX2_named_3 8 rfl rfl)
theorem dX2_named_78 : decode cX2_named 78 = .ok (.istore 4, 2) := dk_54 4 (dk_at dksX2_named_3 9 rfl rfl)
theorem dX2_named_80 : decode cX2_named 80 = .ok (.iinc 5 1, 3) := dk_132 5 1 (dk_at dksX2_named_3 11 rfl rfl)
theorem dX2_named_83 : decode cX2_named 83 = .ok (.goto (-42), 3) := dk_167 255 214 (dk_at dksX2_named_3 14 rfl rfl)
theorem dX2_named_86 : decode cX2_named 86 = .ok (.aload_n 0, 1) := dk_42 (dk_at dksX2_named_3 17 rfl rfl)
theorem dX2_named_87 : decode cX2_named 87 = .ok (.iload 4, 2) := dk_21 4 (dk_at dksX2_named_3 18 rfl rfl)
theorem dX2_named_89 : decode cX2_named 89 = .ok (.iconst 4, 1) := dk_7 (dk_at dksX2_named_3 20 rfl rfl)
theorem dX2_named_90 : decode cX2_named 90 = .ok (.iload_n 1, 1) := dk_27 (dk_at dksX2_named_3 21 rfl rfl)
theorem dX2_named_91 : decode cX2_named 91 = .ok (.invokevirtual 45, 3) := dk_182 0 45 (dk_at dksX2_named_4 0 rfl rfl)
theorem dX2_named_94 : decode cX2_named 94 = .ok (.new 105, 3) := dk_187 0 105 (dk_at dksX2_named_4 3 rfl rfl)
theorem dX2_named_97 : decode cX2_named 97 = .ok (.dup, 1) := dk_89 (dk_at dksX2_named_4 6 rfl rfl)
theorem dX2_named_98 : decode cX2_named 98 = .ok (.getstatic 107, 3) := dk_178 0 107 (dk_at dksX2_named_4 7 rfl rfl)
theorem dX2_named_101 : decode cX2_named 101 = .ok (.iload_n 3, 1) := dk_29 (dk_at dksX2_named_4 10 rfl rfl)
theorem dX2_named_102 : decode cX2_named 102 = .ok (.aload_n 2, 1) := dk_44 (dk_at dksX2_named_4 11 rfl rfl)
theorem dX2_named_103 : decode cX2_named 103 = .ok (.invokespecial 113, 3) := dk_183 0 113 (dk_at dksX2_named_4 12 rfl rfl)
theorem dX2_named_106 : decode cX2_named 106 = .ok (.areturn, 1) := dk_176 (dk_at dksX2_named_4 15 rfl rfl)
theorem dX2_named_107 : decode cX2_named 107 = .ok (.aload_n 0, 1) := dk_42 (dk_at dksX2_named_4 16 rfl rfl)
theorem dX2_named_108 : decode cX2_named 108 = .ok (.aload_n 2, 1) := dk_44 (dk_at dksX2_named_4 17 rfl rfl)
theorem dX2_named_109 : decode cX2_named 109 = .ok (.iload_n 1, 1) := dk_27 (dk_at dksX2_named_4 18 rfl rfl)
theorem dX2_named_110 : decode cX2_named 110 = .ok (.invokevirtual 116, 3) := dk_182 0 116 (dk_at dksX2_named_4 19 rfl rfl)
theorem dX2_named_113 : decode cX2_named 113 = .ok (.aload_n 0, 1) := dk_42 (dk_at dksX2_named_4 22 rfl rfl)
theorem dX2_named_114 : decode cX2_named 114 = .ok (.aload_n 0, 1) := dk_42 (dk_at dksX2_named_4 23 rfl rfl)
theorem dX2_named_115 : decode cX2_named 115 = .ok (.getfield 120, 3) := dk_180 0 120 (dk_at dksX2_named_5 0 rfl rfl)
theorem dX2_named_118 : decode cX2_named 118 = .ok (.iconst 4, 1) := dk_7 (dk_at dksX2_named_5 3 rfl rfl)
theorem dX2_named_119 : decode cX2_named 119 = .ok (.iload_n 1, 1) := dk_27 (dk_at dksX2_named_5 4 rfl rfl)
theorem dX2_named_120 : decode cX2_named 120 = .ok (.invokevirtual 45, 3) := dk_182 0 45 (dk_at dksX2_named_5 5 rfl rfl)
theorem dX2_named_123 : decode cX2_named 123 = .ok (.new 105, 3) := dk_187 0 105 (dk_at dksX2_named_5 8 rfl rfl)
theorem dX2_named_126 : decode cX2_named 126 = .ok (.dup, 1) := dk_89 (dk_at dksX2_named_5 11 rfl rfl)
theorem dX2_named_127 : decode cX2_named 127 = .ok (.getstatic 124, 3) := dk_178 0 124 (dk_at dksX2_named_5 12 rfl rfl)
theorem dX2_named_130 : decode cX2_named 130 = .ok (.iconst 0, 1) := dk_3 (dk_at dksX2_named_5 15 rfl rfl)
theorem dX2_named_131 : decode cX2_named 131 = .ok (.aload_n 2, 1) := dk_44 (dk_at dksX2_named_5 16 rfl rfl)
theorem dX2_named_132 : decode cX2_named 132 = .ok (.invokespecial 113, 3) := dk_183 0 113 (dk_at dksX2_named_5 17 rfl rfl)
theorem dX2_named_135 : decode cX2_named 135 = .ok (.astore_n 3, 1) := dk_78 (dk_at dksX2_named_5 20 rfl rfl)
theorem dX2_named_136 : decode cX2_named 136 = .ok (.aload_n 0, 1) := dk_42 (dk_at dksX2_named_5 21 rfl rfl)
theorem dX2_named_137 : decode cX2_named 137 = .ok (.invokevirtual 127, 3) := dk_182 0 127 (dk_at dksX2_named_6 0 rfl rfl)
theorem dX2_named_140 : decode cX2_named 140 = .ok (.aload_n 0, 1) := dk_42 (dk_at dksX2_named_6 3 rfl rfl)
theorem dX2_named_141 : decode cX2_named 141 = .ok (.invokevirtual 41, 3) := dk_182 0 41 (dk_at dksX2_named_6 4 rfl rfl)
theorem dX2_named_144 : decode cX2_named 144 = .ok (.bipush 41, 2) := dk_16 41 (dk_at dksX2_named_6 7 rfl rfl)
theorem dX2_named_146 : decode cX2_named 146 = .ok (.if_icmp .eq 56, 3) := dk_159 0 56 (dk_at dksX2_named_6 9 rfl rfl)
theorem dX2_named_149 : decode cX2_named 149 = .ok (.aload_n 0, 1) := dk_42 (dk_at dksX2_named_6 12 rfl rfl)
theorem dX2_named_150 : decode cX2_named 150 = .ok (.aload_n 0, 1) := dk_42 (dk_at dksX2_named_6 13 rfl rfl)
theorem dX2_named_151 : decode cX2_named 151 = .ok (.invokevirtual 41, 3) := dk_182 0 41 (dk_at dksX2_named_6 14 rfl rfl)
theorem dX2_named_154 : decode cX2_named 154 = .ok (.iconst (-1), 1) := dk_2 (dk_at dksX2_named_6 17 rfl rfl)
theorem dX2_named_155 : decode cX2_named 155 = .ok (.if_icmp .eq 16, 3) := dk_159 0 16 (dk_at dksX2_named_6 18 rfl rfl)
theorem dX2_named_158 : decode cX2_named 158 = .ok (.aload_n 3, 1) := dk_45 (dk_at dksX2_named_6 21 rfl rfl)
theorem dX2_named_159 : decode cX2_named 159 = .ok (.getfield 130, 3) := dk_180 0 130 (dk_at dksX2_named_7 0 rfl rfl)
theorem dX2_named_162 : decode cX2_named 162 = .ok (.invokeinterface 134 1, 5) := by decide +kernel
theorem dX2_named_167 : decode cX2_named 167 = .ok (.iconst 3, 1) := dk_6 (dk_at dksX2_named_7 8 rfl rfl)
theorem dX2_named_168 : decode cX2_named 168 = .ok (.if_icmp .ge 7, 3) := dk_162 0 7 (dk_at dksX2_named_7 9 rfl rfl)
theorem dX2_named_171 : decode cX2_named 171 = .ok (.iconst 1, 1) := dk_4 (dk_at dksX2_named_7 12 rfl rfl)
theorem dX2_named_172 : decode cX2_named 172 = .ok (.goto 4, 3) := dk_167 0 4 (dk_at dksX2_named_7 13 rfl rfl)
theorem dX2_named_175 : decode cX2_named 175 = .ok (.iconst 0, 1) := dk_3 (dk_at dksX2_named_7 16 rfl rfl)
theorem dX2_named_176 : decode cX2_named 176 = .ok (.iconst 3, 1) := dk_6 (dk_at dksX2_named_7 17 rfl rfl)
theorem dX2_named_177 : decode cX2_named 177 = .ok (.aload_n 0, 1) := dk_42 (dk_at dksX2_named_7 18 rfl rfl)
theorem dX2_named_178 : decode cX2_named 178 = .ok (.getfield 38, 3) := dk_180 0 38 (dk_at dksX2_named_7 19 rfl rfl)
theorem dX2_named_181 : decode cX2_named 181 = .ok (.invokevirtual 45, 3) := dk_182 0 45 (dk_at dksX2_named_8 0 rfl rfl)
theorem dX2_named_184 : decode cX2_named 184 = .ok (.aload_n 3, 1) := dk_45 (dk_at dksX2_named_8 3 rfl rfl)
theorem dX2_named_185 : decode cX2_named 185 = .ok (.aload_n 0, 1) := dk_42 (dk_at dksX2_named_8 4 rfl rfl)
theorem dX2_named_186 : decode cX2_named 186 = .ok (.invokevirtual 138, 3) := dk_182 0 138 (dk_at dksX2_named_8 5 rfl rfl)
theorem dX2_named_189 : decode cX2_named 189 = .ok (.invokevirtual 142, 3) := dk_182 0 142 (dk_at dksX2_named_8 8 rfl rfl)
theorem dX2_named_192 : decode cX2_named 192 = .ok (.pop, 1) := dk_87 (dk_at dksX2_named_8 11 rfl rfl)
theorem dX2_named_193 : decode cX2_named 193 = .ok (.aload_n 0, 1) := dk_42 (dk_at dksX2_named_8 12 rfl rfl)
theorem dX2_named_194 : decode cX2_named 194 = .ok (.bipush 44, 2) := dk_16 44 (dk_at dksX2_named_8 13 rfl rfl)
theorem dX2_named_196 : decode cX2_named 196 = .ok (.invokevirtual 146, 3) := dk_182 0 146 (dk_at dksX2_named_8 15 rfl rfl)
theorem dX2_named_199 : decode cX2_named 199 = .ok (.ifCond .ne (-50), 3) := dk_154 255 206 (dk_at dksX2_named_8 18 rfl rfl)
theorem dX2_named_202 : decode cX2_named 202 = .ok (.aload_n 0, 1) := dk_42 (dk_at dksX2_named_8 21 rfl rfl)
theorem dX2_named_203 : decode cX2_named 203 = .ok (.invokevirtual 149, 3) := dk_182 0 149 (dk_at dksX2_named_9 0 rfl rfl)
theorem dX2_named_206 : decode cX2_named 206 = .ok (.aload_n 3, 1) := dk_45 (dk_at dksX2_named_9 3 rfl rfl)
theorem dX2_named_207 : decode cX2_named 207 = .ok (.areturn, 1) := dk_176 (dk_at dksX2_named_9 4 rfl rfl)
abbrev cX2_goesOver : ByteArray := prog_9_method_5_code
def yX2_goesOver : MethodName := ⟨RX2, "goesOver", "(I)Z"⟩
def dkwX2_goesOver_1 : List UInt8 := [167, 0, 4, 3, 96, 181, 0, 38, 28, 172]
abbrev dktX2_goesOver_1 : List UInt8 := dkwX2_goesOver_1 ++ []
def dkwX2_goesOver_0 : List UInt8 := [42, 182, 0, 41, 27, 160, 0, 7, 4, 167, 0, 4, 3, 61, 42, 89, 180, 0, 38, 28, 153, 0, 7, 4]
abbrev dktX2_goesOver_0 : List UInt8 := dkwX2_goesOver_0 ++ dktX2_goesOver_1
theorem dksX2_goesOver_0 : cX2_goesOver.data.toList.drop 0 = dktX2_goesOver_0 := by decide +kernel
theorem dksX2_goesOver_1 : cX2_goesOver.data.toList.drop 24 = dktX2_goesOver_1 := dk_seg dksX2_goesOver_0 24 rfl rfl
theorem dX2_goesOver_0 : decode cX2_goesOver 0 = .ok (.aload_n 0, 1) := dk_42 (dk_at dksX2_goesOver_0 0 rfl rfl)
theorem dX2_goesOver_1 : decode cX2_goesOver 1 = .ok (.invokevirtual 41, 3) := dk_182 0 41 (dk_at dksX2_goesOver_0 1 rfl rfl)
theorem dX2_goesOver_4 : decode cX2_goesOver 4 = .ok (.iload_n 1, 1) := dk_27 (dk_at dksX2_goesOver_0 4 rfl rfl)
theorem dX2_goesOver_5 : decode cX2_goesOver 5 = .ok (.if_icmp .ne 7, 3) := dk_160 0 7 (dk_at dksX2_goesOver_0 5 rfl rfl)
theorem dX2_goesOver_8 : decode cX2_goesOver 8 = .ok (.iconst 1, 1) := dk_4 (dk_at dksX2_goesOver_0 8 rfl rfl)
theorem dX2_goesOver_9 : decode cX2_goesOver 9 = .ok (.goto 4, 3) := dk_167 0 4 (dk_at dksX2_goesOver_0 9 rfl rfl)
theorem dX2_goesOver_12 : decode cX2_goesOver 12 = .ok (.iconst 0, 1) := dk_3 (dk_at dksX2_goesOver_0 12 rfl rfl)
theorem dX2_goesOver_13 : decode cX2_goesOver 13 = .ok (.istore_n 2, 1) := dk_61 (dk_at dksX2_goesOver_0 13 rfl rfl)
theorem dX2_goesOver_14 : decode cX2_goesOver 14 = .ok (.aload_n 0, 1) := dk_42 (dk_at dksX2_goesOver_0 14 rfl rfl)
theorem dX2_goesOver_15 : decode cX2_goesOver 15 = .ok (.dup, 1) := dk_89 (dk_at dksX2_goesOver_0 15 rfl rfl)
theorem dX2_goesOver_16 : decode cX2_goesOver 16 = .ok (.getfield 38, 3) := dk_180 0 38 (dk_at dksX2_goesOver_0 16 rfl rfl)
theorem dX2_goesOver_19 : decode cX2_goesOver 19 = .ok (.iload_n 2, 1) := dk_28 (dk_at dksX2_goesOver_0 19 rfl rfl)
theorem dX2_goesOver_20 : decode cX2_goesOver 20 = .ok (.ifCond .eq 7, 3) := dk_153 0 7 (dk_at dksX2_goesOver_0 20 rfl rfl)
theorem dX2_goesOver_23 : decode cX2_goesOver 23 = .ok (.iconst 1, 1) := dk_4 (dk_at dksX2_goesOver_0 23 rfl rfl)
theorem dX2_goesOver_24 : decode cX2_goesOver 24 = .ok (.goto 4, 3) := dk_167 0 4 (dk_at dksX2_goesOver_1 0 rfl rfl)
theorem dX2_goesOver_27 : decode cX2_goesOver 27 = .ok (.iconst 0, 1) := dk_3 (dk_at dksX2_goesOver_1 3 rfl rfl)
theorem dX2_goesOver_28 : decode cX2_goesOver 28 = .ok (.iadd, 1) := dk_96 (dk_at dksX2_goesOver_1 4 rfl rfl)
theorem dX2_goesOver_29 : decode cX2_goesOver 29 = .ok (.putfield 38, 3) := dk_181 0 38 (dk_at dksX2_goesOver_1 5 rfl rfl)
theorem dX2_goesOver_32 : decode cX2_goesOver 32 = .ok (.iload_n 2, 1) := dk_28 (dk_at dksX2_goesOver_1 8 rfl rfl)
theorem dX2_goesOver_33 : decode cX2_goesOver 33 = .ok (.ireturn, 1) := dk_172 (dk_at dksX2_goesOver_1 9 rfl rfl)
abbrev cX2_signOf : ByteArray := prog_9_method_19_code
def yX2_signOf : MethodName := ⟨RX2, "signOf", "(Ljava/lang/String;LProbeConsole$Kind;)LProbeConsole$Kind;"⟩
def dkwX2_signOf_1 : List UInt8 := [184, 0, 185, 44, 182, 0, 189, 29, 96, 50, 176, 132, 3, 1, 167, 255, 222, 1, 176]
abbrev dktX2_signOf_1 : List UInt8 := dkwX2_signOf_1 ++ []
def dkwX2_signOf_0 : List UInt8 := [3, 62, 29, 43, 182, 0, 89, 162, 0, 32, 42, 182, 0, 41, 43, 29, 182, 0, 92, 160, 0, 14]
abbrev dktX2_signOf_0 : List UInt8 := dkwX2_signOf_0 ++ dktX2_signOf_1
theorem dksX2_signOf_0 : cX2_signOf.data.toList.drop 0 = dktX2_signOf_0 := by decide +kernel
theorem dksX2_signOf_1 : cX2_signOf.data.toList.drop 22 = dktX2_signOf_1 := dk_seg dksX2_signOf_0 22 rfl rfl
theorem dX2_signOf_0 : decode cX2_signOf 0 = .ok (.iconst 0, 1) := dk_3 (dk_at dksX2_signOf_0 0 rfl rfl)
theorem dX2_signOf_1 : decode cX2_signOf 1 = .ok (.istore_n 3, 1) := dk_62 (dk_at dksX2_signOf_0 1 rfl rfl)
theorem dX2_signOf_2 : decode cX2_signOf 2 = .ok (.iload_n 3, 1) := dk_29 (dk_at dksX2_signOf_0 2 rfl rfl)
theorem dX2_signOf_3 : decode cX2_signOf 3 = .ok (.aload_n 1, 1) := dk_43 (dk_at dksX2_signOf_0 3 rfl rfl)
theorem dX2_signOf_4 : decode cX2_signOf 4 = .ok (.invokevirtual 89, 3) := dk_182 0 89 (dk_at dksX2_signOf_0 4 rfl rfl)
theorem dX2_signOf_7 : decode cX2_signOf 7 = .ok (.if_icmp .ge 32, 3) := dk_162 0 32 (dk_at dksX2_signOf_0 7 rfl rfl)
theorem dX2_signOf_10 : decode cX2_signOf 10 = .ok (.aload_n 0, 1) := dk_42 (dk_at dksX2_signOf_0 10 rfl rfl)
theorem dX2_signOf_11 : decode cX2_signOf 11 = .ok (.invokevirtual 41, 3) := dk_182 0 41 (dk_at dksX2_signOf_0 11 rfl rfl)
theorem dX2_signOf_14 : decode cX2_signOf 14 = .ok (.aload_n 1, 1) := dk_43 (dk_at dksX2_signOf_0 14 rfl rfl)
theorem dX2_signOf_15 : decode cX2_signOf 15 = .ok (.iload_n 3, 1) := dk_29 (dk_at dksX2_signOf_0 15 rfl rfl)
theorem dX2_signOf_16 : decode cX2_signOf 16 = .ok (.invokevirtual 92, 3) := dk_182 0 92 (dk_at dksX2_signOf_0 16 rfl rfl)
theorem dX2_signOf_19 : decode cX2_signOf 19 = .ok (.if_icmp .ne 14, 3) := dk_160 0 14 (dk_at dksX2_signOf_0 19 rfl rfl)
theorem dX2_signOf_22 : decode cX2_signOf 22 = .ok (.invokestatic 185, 3) := dk_184 0 185 (dk_at dksX2_signOf_1 0 rfl rfl)
theorem dX2_signOf_25 : decode cX2_signOf 25 = .ok (.aload_n 2, 1) := dk_44 (dk_at dksX2_signOf_1 3 rfl rfl)
theorem dX2_signOf_26 : decode cX2_signOf 26 = .ok (.invokevirtual 189, 3) := dk_182 0 189 (dk_at dksX2_signOf_1 4 rfl rfl)
theorem dX2_signOf_29 : decode cX2_signOf 29 = .ok (.iload_n 3, 1) := dk_29 (dk_at dksX2_signOf_1 7 rfl rfl)
theorem dX2_signOf_30 : decode cX2_signOf 30 = .ok (.iadd, 1) := dk_96 (dk_at dksX2_signOf_1 8 rfl rfl)
theorem dX2_signOf_31 : decode cX2_signOf 31 = .ok (.aaload, 1) := dk_50 (dk_at dksX2_signOf_1 9 rfl rfl)
theorem dX2_signOf_32 : decode cX2_signOf 32 = .ok (.areturn, 1) := dk_176 (dk_at dksX2_signOf_1 10 rfl rfl)
theorem dX2_signOf_33 : decode cX2_signOf 33 = .ok (.iinc 3 1, 3) := dk_132 3 1 (dk_at dksX2_signOf_1 11 rfl rfl)
theorem dX2_signOf_36 : decode cX2_signOf 36 = .ok (.goto (-34), 3) := dk_167 255 222 (dk_at dksX2_signOf_1 14 rfl rfl)
theorem dX2_signOf_39 : decode cX2_signOf 39 = .ok (.aconst_null, 1) := dk_1 (dk_at dksX2_signOf_1 17 rfl rfl)
theorem dX2_signOf_40 : decode cX2_signOf 40 = .ok (.areturn, 1) := dk_176 (dk_at dksX2_signOf_1 18 rfl rfl)
abbrev cX2_word : ByteArray := prog_9_method_29_code
def yX2_word : MethodName := ⟨RX2, "word", "([Ljava/lang/String;)I"⟩
def dkwX2_word_3 : List UInt8 := [21, 4, 172, 132, 4, 1, 167, 255, 229, 42, 3, 4, 28, 182, 0, 45, 2, 172]
abbrev dktX2_word_3 : List UInt8 := dkwX2_word_3 ++ []
def dkwX2_word_2 : List UInt8 := [54, 4, 21, 4, 43, 190, 162, 0, 26, 43, 21, 4, 50, 45, 182, 0, 85, 182, 0, 251, 153, 0, 6]
abbrev dktX2_word_2 : List UInt8 := dkwX2_word_2 ++ dktX2_word_3
def dkwX2_word_1 : List UInt8 := [45, 42, 182, 0, 41, 146, 182, 0, 81, 87, 42, 89, 180, 0, 38, 4, 96, 181, 0, 38, 167, 255, 229, 3]
abbrev dktX2_word_1 : List UInt8 := dkwX2_word_1 ++ dktX2_word_2
def dkwX2_word_0 : List UInt8 := [42, 182, 0, 245, 42, 180, 0, 38, 61, 187, 0, 72, 89, 183, 0, 74, 78, 42, 182, 0, 248, 154, 0, 26]
abbrev dktX2_word_0 : List UInt8 := dkwX2_word_0 ++ dktX2_word_1
theorem dksX2_word_0 : cX2_word.data.toList.drop 0 = dktX2_word_0 := by decide +kernel
theorem dksX2_word_1 : cX2_word.data.toList.drop 24 = dktX2_word_1 := dk_seg dksX2_word_0 24 rfl rfl
theorem dksX2_word_2 : cX2_word.data.toList.drop 48 = dktX2_word_2 := dk_seg dksX2_word_1 24 rfl rfl
theorem dksX2_word_3 : cX2_word.data.toList.drop 71 = dktX2_word_3 := dk_seg dksX2_word_2 23 rfl rfl
theorem dX2_word_0 : decode cX2_word 0 = .ok (.aload_n 0, 1) := dk_42 (dk_at dksX2_word_0 0 rfl rfl)
theorem dX2_word_1 : decode cX2_word 1 = .ok (.invokevirtual 245, 3) := dk_182 0 245 (dk_at dksX2_word_0 1 rfl rfl)
theorem dX2_word_4 : decode cX2_word 4 = .ok (.aload_n 0, 1) := dk_42 (dk_at dksX2_word_0 4 rfl rfl)
theorem dX2_word_5 : decode cX2_word 5 = .ok (.getfield 38, 3) := dk_180 0 38 (dk_at dksX2_word_0 5 rfl rfl)
theorem dX2_word_8 : decode cX2_word 8 = .ok (.istore_n 2, 1) := dk_61 (dk_at dksX2_word_0 8 rfl rfl)
theorem dX2_word_9 : decode cX2_word 9 = .ok (.new 72, 3) := dk_187 0 72 (dk_at dksX2_word_0 9 rfl rfl)
theorem dX2_word_12 : decode cX2_word 12 = .ok (.dup, 1) := dk_89 (dk_at dksX2_word_0 12 rfl rfl)
theorem dX2_word_13 : decode cX2_word 13 = .ok (.invokespecial 74, 3) := dk_183 0 74 (dk_at dksX2_word_0 13 rfl rfl)
theorem dX2_word_16 : decode cX2_word 16 = .ok (.astore_n 3, 1) := dk_78 (dk_at dksX2_word_0 16 rfl rfl)
theorem dX2_word_17 : decode cX2_word 17 = .ok (.aload_n 0, 1) := dk_42 (dk_at dksX2_word_0 17 rfl rfl)
theorem dX2_word_18 : decode cX2_word 18 = .ok (.invokevirtual 248, 3) := dk_182 0 248 (dk_at dksX2_word_0 18 rfl rfl)
theorem dX2_word_21 : decode cX2_word 21 = .ok (.ifCond .ne 26, 3) := dk_154 0 26 (dk_at dksX2_word_0 21 rfl rfl)
theorem dX2_word_24 : decode cX2_word 24 = .ok (.aload_n 3, 1) := dk_45 (dk_at dksX2_word_1 0 rfl rfl)
theorem dX2_word_25 : decode cX2_word 25 = .ok (.aload_n 0, 1) := dk_42 (dk_at dksX2_word_1 1 rfl rfl)
theorem dX2_word_26 : decode cX2_word 26 = .ok (.invokevirtual 41, 3) := dk_182 0 41 (dk_at dksX2_word_1 2 rfl rfl)
theorem dX2_word_29 : decode cX2_word 29 = .ok (.i2c, 1) := dk_146 (dk_at dksX2_word_1 5 rfl rfl)
theorem dX2_word_30 : decode cX2_word 30 = .ok (.invokevirtual 81, 3) := dk_182 0 81 (dk_at dksX2_word_1 6 rfl rfl)
theorem dX2_word_33 : decode cX2_word 33 = .ok (.pop, 1) := dk_87 (dk_at dksX2_word_1 9 rfl rfl)
theorem dX2_word_34 : decode cX2_word 34 = .ok (.aload_n 0, 1) := dk_42 (dk_at dksX2_word_1 10 rfl rfl)
theorem dX2_word_35 : decode cX2_word 35 = .ok (.dup, 1) := dk_89 (dk_at dksX2_word_1 11 rfl rfl)
theorem dX2_word_36 : decode cX2_word 36 = .ok (.getfield 38, 3) := dk_180 0 38 (dk_at dksX2_word_1 12 rfl rfl)
theorem dX2_word_39 : decode cX2_word 39 = .ok (.iconst 1, 1) := dk_4 (dk_at dksX2_word_1 15 rfl rfl)
theorem dX2_word_40 : decode cX2_word 40 = .ok (.iadd, 1) := dk_96 (dk_at dksX2_word_1 16 rfl rfl)
theorem dX2_word_41 : decode cX2_word 41 = .ok (.putfield 38, 3) := dk_181 0 38 (dk_at dksX2_word_1 17 rfl rfl)
theorem dX2_word_44 : decode cX2_word 44 = .ok (.goto (-27), 3) := dk_167 255 229 (dk_at dksX2_word_1 20 rfl rfl)
theorem dX2_word_47 : decode cX2_word 47 = .ok (.iconst 0, 1) := dk_3 (dk_at dksX2_word_1 23 rfl rfl)
theorem dX2_word_48 : decode cX2_word 48 = .ok (.istore 4, 2) := dk_54 4 (dk_at dksX2_word_2 0 rfl rfl)
theorem dX2_word_50 : decode cX2_word 50 = .ok (.iload 4, 2) := dk_21 4 (dk_at dksX2_word_2 2 rfl rfl)
theorem dX2_word_52 : decode cX2_word 52 = .ok (.aload_n 1, 1) := dk_43 (dk_at dksX2_word_2 4 rfl rfl)
theorem dX2_word_53 : decode cX2_word 53 = .ok (.arraylength, 1) := dk_190 (dk_at dksX2_word_2 5 rfl rfl)
theorem dX2_word_54 : decode cX2_word 54 = .ok (.if_icmp .ge 26, 3) := dk_162 0 26 (dk_at dksX2_word_2 6 rfl rfl)
theorem dX2_word_57 : decode cX2_word 57 = .ok (.aload_n 1, 1) := dk_43 (dk_at dksX2_word_2 9 rfl rfl)
theorem dX2_word_58 : decode cX2_word 58 = .ok (.iload 4, 2) := dk_21 4 (dk_at dksX2_word_2 10 rfl rfl)
theorem dX2_word_60 : decode cX2_word 60 = .ok (.aaload, 1) := dk_50 (dk_at dksX2_word_2 12 rfl rfl)
theorem dX2_word_61 : decode cX2_word 61 = .ok (.aload_n 3, 1) := dk_45 (dk_at dksX2_word_2 13 rfl rfl)
theorem dX2_word_62 : decode cX2_word 62 = .ok (.invokevirtual 85, 3) := dk_182 0 85 (dk_at dksX2_word_2 14 rfl rfl)
theorem dX2_word_65 : decode cX2_word 65 = .ok (.invokevirtual 251, 3) := dk_182 0 251 (dk_at dksX2_word_2 17 rfl rfl)
theorem dX2_word_68 : decode cX2_word 68 = .ok (.ifCond .eq 6, 3) := dk_153 0 6 (dk_at dksX2_word_2 20 rfl rfl)
theorem dX2_word_71 : decode cX2_word 71 = .ok (.iload 4, 2) := dk_21 4 (dk_at dksX2_word_3 0 rfl rfl)
theorem dX2_word_73 : decode cX2_word 73 = .ok (.ireturn, 1) := dk_172 (dk_at dksX2_word_3 2 rfl rfl)
theorem dX2_word_74 : decode cX2_word 74 = .ok (.iinc 4 1, 3) := dk_132 4 1 (dk_at dksX2_word_3 3 rfl rfl)
theorem dX2_word_77 : decode cX2_word 77 = .ok (.goto (-27), 3) := dk_167 255 229 (dk_at dksX2_word_3 6 rfl rfl)
theorem dX2_word_80 : decode cX2_word 80 = .ok (.aload_n 0, 1) := dk_42 (dk_at dksX2_word_3 9 rfl rfl)
theorem dX2_word_81 : decode cX2_word 81 = .ok (.iconst 0, 1) := dk_3 (dk_at dksX2_word_3 10 rfl rfl)
theorem dX2_word_82 : decode cX2_word 82 = .ok (.iconst 1, 1) := dk_4 (dk_at dksX2_word_3 11 rfl rfl)
theorem dX2_word_83 : decode cX2_word 83 = .ok (.iload_n 2, 1) := dk_28 (dk_at dksX2_word_3 12 rfl rfl)
theorem dX2_word_84 : decode cX2_word 84 = .ok (.invokevirtual 45, 3) := dk_182 0 45 (dk_at dksX2_word_3 13 rfl rfl)
theorem dX2_word_87 : decode cX2_word 87 = .ok (.iconst (-1), 1) := dk_2 (dk_at dksX2_word_3 16 rfl rfl)
theorem dX2_word_88 : decode cX2_word 88 = .ok (.ireturn, 1) := dk_172 (dk_at dksX2_word_3 17 rfl rfl)
abbrev cX2_blanks : ByteArray := prog_9_method_27_code
def yX2_blanks : MethodName := ⟨RX2, "blanks", "()V"⟩
def dkwX2_blanks_1 : List UInt8 := [181, 0, 38, 167, 255, 229, 177]
abbrev dktX2_blanks_1 : List UInt8 := dkwX2_blanks_1 ++ []
def dkwX2_blanks_0 : List UInt8 := [42, 182, 0, 41, 2, 159, 0, 25, 42, 182, 0, 41, 16, 32, 163, 0, 16, 42, 89, 180, 0, 38, 4, 96]
abbrev dktX2_blanks_0 : List UInt8 := dkwX2_blanks_0 ++ dktX2_blanks_1
theorem dksX2_blanks_0 : cX2_blanks.data.toList.drop 0 = dktX2_blanks_0 := by decide +kernel
theorem dksX2_blanks_1 : cX2_blanks.data.toList.drop 24 = dktX2_blanks_1 := dk_seg dksX2_blanks_0 24 rfl rfl
theorem dX2_blanks_0 : decode cX2_blanks 0 = .ok (.aload_n 0, 1) := dk_42 (dk_at dksX2_blanks_0 0 rfl rfl)
theorem dX2_blanks_1 : decode cX2_blanks 1 = .ok (.invokevirtual 41, 3) := dk_182 0 41 (dk_at dksX2_blanks_0 1 rfl rfl)
theorem dX2_blanks_4 : decode cX2_blanks 4 = .ok (.iconst (-1), 1) := dk_2 (dk_at dksX2_blanks_0 4 rfl rfl)
theorem dX2_blanks_5 : decode cX2_blanks 5 = .ok (.if_icmp .eq 25, 3) := dk_159 0 25 (dk_at dksX2_blanks_0 5 rfl rfl)
theorem dX2_blanks_8 : decode cX2_blanks 8 = .ok (.aload_n 0, 1) := dk_42 (dk_at dksX2_blanks_0 8 rfl rfl)
theorem dX2_blanks_9 : decode cX2_blanks 9 = .ok (.invokevirtual 41, 3) := dk_182 0 41 (dk_at dksX2_blanks_0 9 rfl rfl)
theorem dX2_blanks_12 : decode cX2_blanks 12 = .ok (.bipush 32, 2) := dk_16 32 (dk_at dksX2_blanks_0 12 rfl rfl)
theorem dX2_blanks_14 : decode cX2_blanks 14 = .ok (.if_icmp .gt 16, 3) := dk_163 0 16 (dk_at dksX2_blanks_0 14 rfl rfl)
theorem dX2_blanks_17 : decode cX2_blanks 17 = .ok (.aload_n 0, 1) := dk_42 (dk_at dksX2_blanks_0 17 rfl rfl)
theorem dX2_blanks_18 : decode cX2_blanks 18 = .ok (.dup, 1) := dk_89 (dk_at dksX2_blanks_0 18 rfl rfl)
theorem dX2_blanks_19 : decode cX2_blanks 19 = .ok (.getfield 38, 3) := dk_180 0 38 (dk_at dksX2_blanks_0 19 rfl rfl)
theorem dX2_blanks_22 : decode cX2_blanks 22 = .ok (.iconst 1, 1) := dk_4 (dk_at dksX2_blanks_0 22 rfl rfl)
theorem dX2_blanks_23 : decode cX2_blanks 23 = .ok (.iadd, 1) := dk_96 (dk_at dksX2_blanks_0 23 rfl rfl)
theorem dX2_blanks_24 : decode cX2_blanks 24 = .ok (.putfield 38, 3) := dk_181 0 38 (dk_at dksX2_blanks_1 0 rfl rfl)
theorem dX2_blanks_27 : decode cX2_blanks 27 = .ok (.goto (-27), 3) := dk_167 255 229 (dk_at dksX2_blanks_1 3 rfl rfl)
theorem dX2_blanks_30 : decode cX2_blanks 30 = .ok (.return_, 1) := dk_177 (dk_at dksX2_blanks_1 6 rfl rfl)
abbrev cX2_isBehindWord : ByteArray := prog_9_method_28_code
def yX2_isBehindWord : MethodName := ⟨RX2, "isBehindWord", "()Z"⟩
def dkwX2_isBehindWord_0 : List UInt8 := [42, 182, 0, 41, 2, 159, 0, 12, 42, 182, 0, 41, 16, 32, 163, 0, 7, 4, 167, 0, 4, 3, 172]
abbrev dktX2_isBehindWord_0 : List UInt8 := dkwX2_isBehindWord_0 ++ []
theorem dksX2_isBehindWord_0 : cX2_isBehindWord.data.toList.drop 0 = dktX2_isBehindWord_0 := by decide +kernel
theorem dX2_isBehindWord_0 : decode cX2_isBehindWord 0 = .ok (.aload_n 0, 1) := dk_42 (dk_at dksX2_isBehindWord_0 0 rfl rfl)
theorem dX2_isBehindWord_1 : decode cX2_isBehindWord 1 = .ok (.invokevirtual 41, 3) := dk_182 0 41 (dk_at dksX2_isBehindWord_0 1 rfl rfl)
theorem dX2_isBehindWord_4 : decode cX2_isBehindWord 4 = .ok (.iconst (-1), 1) := dk_2 (dk_at dksX2_isBehindWord_0 4 rfl rfl)
theorem dX2_isBehindWord_5 : decode cX2_isBehindWord 5 = .ok (.if_icmp .eq 12, 3) := dk_159 0 12 (dk_at dksX2_isBehindWord_0 5 rfl rfl)
theorem dX2_isBehindWord_8 : decode cX2_isBehindWord 8 = .ok (.aload_n 0, 1) := dk_42 (dk_at dksX2_isBehindWord_0 8 rfl rfl)
theorem dX2_isBehindWord_9 : decode cX2_isBehindWord 9 = .ok (.invokevirtual 41, 3) := dk_182 0 41 (dk_at dksX2_isBehindWord_0 9 rfl rfl)
theorem dX2_isBehindWord_12 : decode cX2_isBehindWord 12 = .ok (.bipush 32, 2) := dk_16 32 (dk_at dksX2_isBehindWord_0 12 rfl rfl)
theorem dX2_isBehindWord_14 : decode cX2_isBehindWord 14 = .ok (.if_icmp .gt 7, 3) := dk_163 0 7 (dk_at dksX2_isBehindWord_0 14 rfl rfl)
theorem dX2_isBehindWord_17 : decode cX2_isBehindWord 17 = .ok (.iconst 1, 1) := dk_4 (dk_at dksX2_isBehindWord_0 17 rfl rfl)
theorem dX2_isBehindWord_18 : decode cX2_isBehindWord 18 = .ok (.goto 4, 3) := dk_167 0 4 (dk_at dksX2_isBehindWord_0 18 rfl rfl)
theorem dX2_isBehindWord_21 : decode cX2_isBehindWord 21 = .ok (.iconst 0, 1) := dk_3 (dk_at dksX2_isBehindWord_0 21 rfl rfl)
theorem dX2_isBehindWord_22 : decode cX2_isBehindWord 22 = .ok (.ireturn, 1) := dk_172 (dk_at dksX2_isBehindWord_0 22 rfl rfl)
abbrev cX2_figures : ByteArray := prog_9_method_32_code
def yX2_figures : MethodName := ⟨RX2, "figures", "()I"⟩
def dkwX2_figures_1 : List UInt8 := [27, 172]
abbrev dktX2_figures_1 : List UInt8 := dkwX2_figures_1 ++ []
def dkwX2_figures_0 : List UInt8 := [42, 182, 0, 245, 42, 16, 99, 182, 0, 166, 60, 42, 42, 182, 0, 248, 4, 42, 180, 0, 38, 182, 0, 45]
abbrev dktX2_figures_0 : List UInt8 := dkwX2_figures_0 ++ dktX2_figures_1
theorem dksX2_figures_0 : cX2_figures.data.toList.drop 0 = dktX2_figures_0 := by decide +kernel
theorem dksX2_figures_1 : cX2_figures.data.toList.drop 24 = dktX2_figures_1 := dk_seg dksX2_figures_0 24 rfl rfl
theorem dX2_figures_0 : decode cX2_figures 0 = .ok (.aload_n 0, 1) := dk_42 (dk_at dksX2_figures_0 0 rfl rfl)
theorem dX2_figures_1 : decode cX2_figures 1 = .ok (.invokevirtual 245, 3) := dk_182 0 245 (dk_at dksX2_figures_0 1 rfl rfl)
theorem dX2_figures_4 : decode cX2_figures 4 = .ok (.aload_n 0, 1) := dk_42 (dk_at dksX2_figures_0 4 rfl rfl)
theorem dX2_figures_5 : decode cX2_figures 5 = .ok (.bipush 99, 2) := dk_16 99 (dk_at dksX2_figures_0 5 rfl rfl)
theorem dX2_figures_7 : decode cX2_figures 7 = .ok (.invokevirtual 166, 3) := dk_182 0 166 (dk_at dksX2_figures_0 7 rfl rfl)
theorem dX2_figures_10 : decode cX2_figures 10 = .ok (.istore_n 1, 1) := dk_60 (dk_at dksX2_figures_0 10 rfl rfl)
theorem dX2_figures_11 : decode cX2_figures 11 = .ok (.aload_n 0, 1) := dk_42 (dk_at dksX2_figures_0 11 rfl rfl)
theorem dX2_figures_12 : decode cX2_figures 12 = .ok (.aload_n 0, 1) := dk_42 (dk_at dksX2_figures_0 12 rfl rfl)
theorem dX2_figures_13 : decode cX2_figures 13 = .ok (.invokevirtual 248, 3) := dk_182 0 248 (dk_at dksX2_figures_0 13 rfl rfl)
theorem dX2_figures_16 : decode cX2_figures 16 = .ok (.iconst 1, 1) := dk_4 (dk_at dksX2_figures_0 16 rfl rfl)
theorem dX2_figures_17 : decode cX2_figures 17 = .ok (.aload_n 0, 1) := dk_42 (dk_at dksX2_figures_0 17 rfl rfl)
theorem dX2_figures_18 : decode cX2_figures 18 = .ok (.getfield 38, 3) := dk_180 0 38 (dk_at dksX2_figures_0 18 rfl rfl)
theorem dX2_figures_21 : decode cX2_figures 21 = .ok (.invokevirtual 45, 3) := dk_182 0 45 (dk_at dksX2_figures_0 21 rfl rfl)
theorem dX2_figures_24 : decode cX2_figures 24 = .ok (.iload_n 1, 1) := dk_27 (dk_at dksX2_figures_1 0 rfl rfl)
theorem dX2_figures_25 : decode cX2_figures 25 = .ok (.ireturn, 1) := dk_172 (dk_at dksX2_figures_1 1 rfl rfl)
abbrev cX2_ends : ByteArray := prog_9_method_34_code
def yX2_ends : MethodName := ⟨RX2, "ends", "()V"⟩
def dkwX2_ends_1 : List UInt8 := [182, 0, 45, 177]
abbrev dktX2_ends_1 : List UInt8 := dkwX2_ends_1 ++ []
def dkwX2_ends_0 : List UInt8 := [42, 182, 0, 245, 42, 42, 182, 0, 41, 2, 160, 0, 7, 4, 167, 0, 4, 3, 4, 42, 180, 0, 38]
abbrev dktX2_ends_0 : List UInt8 := dkwX2_ends_0 ++ dktX2_ends_1
theorem dksX2_ends_0 : cX2_ends.data.toList.drop 0 = dktX2_ends_0 := by decide +kernel
theorem dksX2_ends_1 : cX2_ends.data.toList.drop 23 = dktX2_ends_1 := dk_seg dksX2_ends_0 23 rfl rfl
theorem dX2_ends_0 : decode cX2_ends 0 = .ok (.aload_n 0, 1) := dk_42 (dk_at dksX2_ends_0 0 rfl rfl)
theorem dX2_ends_1 : decode cX2_ends 1 = .ok (.invokevirtual 245, 3) := dk_182 0 245 (dk_at dksX2_ends_0 1 rfl rfl)
theorem dX2_ends_4 : decode cX2_ends 4 = .ok (.aload_n 0, 1) := dk_42 (dk_at dksX2_ends_0 4 rfl rfl)
theorem dX2_ends_5 : decode cX2_ends 5 = .ok (.aload_n 0, 1) := dk_42 (dk_at dksX2_ends_0 5 rfl rfl)
theorem dX2_ends_6 : decode cX2_ends 6 = .ok (.invokevirtual 41, 3) := dk_182 0 41 (dk_at dksX2_ends_0 6 rfl rfl)
theorem dX2_ends_9 : decode cX2_ends 9 = .ok (.iconst (-1), 1) := dk_2 (dk_at dksX2_ends_0 9 rfl rfl)
theorem dX2_ends_10 : decode cX2_ends 10 = .ok (.if_icmp .ne 7, 3) := dk_160 0 7 (dk_at dksX2_ends_0 10 rfl rfl)
theorem dX2_ends_13 : decode cX2_ends 13 = .ok (.iconst 1, 1) := dk_4 (dk_at dksX2_ends_0 13 rfl rfl)
theorem dX2_ends_14 : decode cX2_ends 14 = .ok (.goto 4, 3) := dk_167 0 4 (dk_at dksX2_ends_0 14 rfl rfl)
theorem dX2_ends_17 : decode cX2_ends 17 = .ok (.iconst 0, 1) := dk_3 (dk_at dksX2_ends_0 17 rfl rfl)
theorem dX2_ends_18 : decode cX2_ends 18 = .ok (.iconst 1, 1) := dk_4 (dk_at dksX2_ends_0 18 rfl rfl)
theorem dX2_ends_19 : decode cX2_ends 19 = .ok (.aload_n 0, 1) := dk_42 (dk_at dksX2_ends_0 19 rfl rfl)
theorem dX2_ends_20 : decode cX2_ends 20 = .ok (.getfield 38, 3) := dk_180 0 38 (dk_at dksX2_ends_0 20 rfl rfl)
theorem dX2_ends_23 : decode cX2_ends 23 = .ok (.invokevirtual 45, 3) := dk_182 0 45 (dk_at dksX2_ends_1 0 rfl rfl)
theorem dX2_ends_26 : decode cX2_ends 26 = .ok (.return_, 1) := dk_177 (dk_at dksX2_ends_1 3 rfl rfl)
abbrev cX2_job : ByteArray := prog_9_method_35_code
def yX2_job : MethodName := ⟨RX2, "job", "(I)LProbeConsole$Job;"⟩
def dkwX2_job_2 : List UInt8 := [78, 45, 28, 181, 1, 29, 27, 4, 160, 0, 8, 42, 45, 182, 1, 32, 42, 182, 1, 36, 45, 176]
abbrev dktX2_job_2 : List UInt8 := dkwX2_job_2 ++ []
def dkwX2_job_1 : List UInt8 := [19, 1, 17, 83, 182, 1, 19, 167, 0, 4, 3, 61, 187, 1, 3, 89, 27, 42, 182, 1, 23, 183, 1, 26]
abbrev dktX2_job_1 : List UInt8 := dkwX2_job_1 ++ dktX2_job_2
def dkwX2_job_0 : List UInt8 := [27, 4, 160, 0, 32, 42, 6, 189, 0, 90, 89, 3, 19, 1, 13, 83, 89, 4, 19, 1, 15, 83, 89, 5]
abbrev dktX2_job_0 : List UInt8 := dkwX2_job_0 ++ dktX2_job_1
theorem dksX2_job_0 : cX2_job.data.toList.drop 0 = dktX2_job_0 := by decide +kernel
theorem dksX2_job_1 : cX2_job.data.toList.drop 24 = dktX2_job_1 := dk_seg dksX2_job_0 24 rfl rfl
theorem dksX2_job_2 : cX2_job.data.toList.drop 48 = dktX2_job_2 := dk_seg dksX2_job_1 24 rfl rfl
theorem dX2_job_0 : decode cX2_job 0 = .ok (.iload_n 1, 1) := dk_27 (dk_at dksX2_job_0 0 rfl rfl)
theorem dX2_job_1 : decode cX2_job 1 = .ok (.iconst 1, 1) := dk_4 (dk_at dksX2_job_0 1 rfl rfl)
theorem dX2_job_2 : decode cX2_job 2 = .ok (.if_icmp .ne 32, 3) := dk_160 0 32 (dk_at dksX2_job_0 2 rfl rfl)
theorem dX2_job_5 : decode cX2_job 5 = .ok (.aload_n 0, 1) := dk_42 (dk_at dksX2_job_0 5 rfl rfl)
theorem dX2_job_6 : decode cX2_job 6 = .ok (.iconst 3, 1) := dk_6 (dk_at dksX2_job_0 6 rfl rfl)
theorem dX2_job_7 : decode cX2_job 7 = .ok (.anewarray 90, 3) := dk_189 0 90 (dk_at dksX2_job_0 7 rfl rfl)
theorem dX2_job_10 : decode cX2_job 10 = .ok (.dup, 1) := dk_89 (dk_at dksX2_job_0 10 rfl rfl)
theorem dX2_job_11 : decode cX2_job 11 = .ok (.iconst 0, 1) := dk_3 (dk_at dksX2_job_0 11 rfl rfl)
theorem dX2_job_12 : decode cX2_job 12 = .ok (.ldc_w 269, 3) := dk_19 1 13 (dk_at dksX2_job_0 12 rfl rfl)
theorem dX2_job_15 : decode cX2_job 15 = .ok (.aastore, 1) := dk_83 (dk_at dksX2_job_0 15 rfl rfl)
theorem dX2_job_16 : decode cX2_job 16 = .ok (.dup, 1) := dk_89 (dk_at dksX2_job_0 16 rfl rfl)
theorem dX2_job_17 : decode cX2_job 17 = .ok (.iconst 1, 1) := dk_4 (dk_at dksX2_job_0 17 rfl rfl)
theorem dX2_job_18 : decode cX2_job 18 = .ok (.ldc_w 271, 3) := dk_19 1 15 (dk_at dksX2_job_0 18 rfl rfl)
theorem dX2_job_21 : decode cX2_job 21 = .ok (.aastore, 1) := dk_83 (dk_at dksX2_job_0 21 rfl rfl)
theorem dX2_job_22 : decode cX2_job 22 = .ok (.dup, 1) := dk_89 (dk_at dksX2_job_0 22 rfl rfl)
theorem dX2_job_23 : decode cX2_job 23 = .ok (.iconst 2, 1) := dk_5 (dk_at dksX2_job_0 23 rfl rfl)
theorem dX2_job_24 : decode cX2_job 24 = .ok (.ldc_w 273, 3) := dk_19 1 17 (dk_at dksX2_job_1 0 rfl rfl)
theorem dX2_job_27 : decode cX2_job 27 = .ok (.aastore, 1) := dk_83 (dk_at dksX2_job_1 3 rfl rfl)
theorem dX2_job_28 : decode cX2_job 28 = .ok (.invokevirtual 275, 3) := dk_182 1 19 (dk_at dksX2_job_1 4 rfl rfl)
theorem dX2_job_31 : decode cX2_job 31 = .ok (.goto 4, 3) := dk_167 0 4 (dk_at dksX2_job_1 7 rfl rfl)
theorem dX2_job_34 : decode cX2_job 34 = .ok (.iconst 0, 1) := dk_3 (dk_at dksX2_job_1 10 rfl rfl)
theorem dX2_job_35 : decode cX2_job 35 = .ok (.istore_n 2, 1) := dk_61 (dk_at dksX2_job_1 11 rfl rfl)
theorem dX2_job_36 : decode cX2_job 36 = .ok (.new 259, 3) := dk_187 1 3 (dk_at dksX2_job_1 12 rfl rfl)
theorem dX2_job_39 : decode cX2_job 39 = .ok (.dup, 1) := dk_89 (dk_at dksX2_job_1 15 rfl rfl)
theorem dX2_job_40 : decode cX2_job 40 = .ok (.iload_n 1, 1) := dk_27 (dk_at dksX2_job_1 16 rfl rfl)
theorem dX2_job_41 : decode cX2_job 41 = .ok (.aload_n 0, 1) := dk_42 (dk_at dksX2_job_1 17 rfl rfl)
theorem dX2_job_42 : decode cX2_job 42 = .ok (.invokevirtual 279, 3) := dk_182 1 23 (dk_at dksX2_job_1 18 rfl rfl)
theorem dX2_job_45 : decode cX2_job 45 = .ok (.invokespecial 282, 3) := dk_183 1 26 (dk_at dksX2_job_1 21 rfl rfl)
theorem dX2_job_48 : decode cX2_job 48 = .ok (.astore_n 3, 1) := dk_78 (dk_at dksX2_job_2 0 rfl rfl)
theorem dX2_job_49 : decode cX2_job 49 = .ok (.aload_n 3, 1) := dk_45 (dk_at dksX2_job_2 1 rfl rfl)
theorem dX2_job_50 : decode cX2_job 50 = .ok (.iload_n 2, 1) := dk_28 (dk_at dksX2_job_2 2 rfl rfl)
theorem dX2_job_51 : decode cX2_job 51 = .ok (.putfield 285, 3) := dk_181 1 29 (dk_at dksX2_job_2 3 rfl rfl)
theorem dX2_job_54 : decode cX2_job 54 = .ok (.iload_n 1, 1) := dk_27 (dk_at dksX2_job_2 6 rfl rfl)
theorem dX2_job_55 : decode cX2_job 55 = .ok (.iconst 1, 1) := dk_4 (dk_at dksX2_job_2 7 rfl rfl)
theorem dX2_job_56 : decode cX2_job 56 = .ok (.if_icmp .ne 8, 3) := dk_160 0 8 (dk_at dksX2_job_2 8 rfl rfl)
theorem dX2_job_59 : decode cX2_job 59 = .ok (.aload_n 0, 1) := dk_42 (dk_at dksX2_job_2 11 rfl rfl)
theorem dX2_job_60 : decode cX2_job 60 = .ok (.aload_n 3, 1) := dk_45 (dk_at dksX2_job_2 12 rfl rfl)
theorem dX2_job_61 : decode cX2_job 61 = .ok (.invokevirtual 288, 3) := dk_182 1 32 (dk_at dksX2_job_2 13 rfl rfl)
theorem dX2_job_64 : decode cX2_job 64 = .ok (.aload_n 0, 1) := dk_42 (dk_at dksX2_job_2 16 rfl rfl)
theorem dX2_job_65 : decode cX2_job 65 = .ok (.invokevirtual 292, 3) := dk_182 1 36 (dk_at dksX2_job_2 17 rfl rfl)
theorem dX2_job_68 : decode cX2_job 68 = .ok (.aload_n 3, 1) := dk_45 (dk_at dksX2_job_2 20 rfl rfl)
theorem dX2_job_69 : decode cX2_job 69 = .ok (.areturn, 1) := dk_176 (dk_at dksX2_job_2 21 rfl rfl)
abbrev cX2_pattern : ByteArray := prog_9_method_30_code
def yX2_pattern : MethodName := ⟨RX2, "pattern", "()Ljava/lang/String;"⟩
def dkwX2_pattern_4 : List UInt8 := [182, 0, 81, 87, 42, 89, 180, 0, 38, 4, 96, 181, 0, 38, 167, 255, 160, 43, 182, 0, 85, 176]
abbrev dktX2_pattern_4 : List UInt8 := dkwX2_pattern_4 ++ []
def dkwX2_pattern_3 : List UInt8 := [16, 12, 162, 0, 7, 4, 167, 0, 4, 3, 6, 42, 180, 0, 38, 182, 0, 45, 43, 42, 182, 0, 41, 146]
abbrev dktX2_pattern_3 : List UInt8 := dkwX2_pattern_3 ++ dktX2_pattern_4
def dkwX2_pattern_2 : List UInt8 := [16, 63, 160, 0, 7, 4, 167, 0, 4, 3, 4, 42, 180, 0, 38, 182, 0, 45, 42, 43, 182, 0, 78]
abbrev dktX2_pattern_2 : List UInt8 := dkwX2_pattern_2 ++ dktX2_pattern_3
def dkwX2_pattern_1 : List UInt8 := [154, 0, 88, 42, 42, 182, 0, 75, 154, 0, 21, 42, 182, 0, 41, 16, 42, 159, 0, 12, 42, 182, 0, 41]
abbrev dktX2_pattern_1 : List UInt8 := dkwX2_pattern_1 ++ dktX2_pattern_2
def dkwX2_pattern_0 : List UInt8 := [42, 182, 0, 245, 187, 0, 72, 89, 183, 0, 74, 76, 42, 182, 0, 248, 153, 0, 10, 43, 182, 0, 78]
abbrev dktX2_pattern_0 : List UInt8 := dkwX2_pattern_0 ++ dktX2_pattern_1
theorem dksX2_pattern_0 : cX2_pattern.data.toList.drop 0 = dktX2_pattern_0 := by decide +kernel
theorem dksX2_pattern_1 : cX2_pattern.data.toList.drop 23 = dktX2_pattern_1 := dk_seg dksX2_pattern_0 23 rfl rfl
theorem dksX2_pattern_2 : cX2_pattern.data.toList.drop 47 = dktX2_pattern_2 := dk_seg dksX2_pattern_1 24 rfl rfl
theorem dksX2_pattern_3 : cX2_pattern.data.toList.drop 70 = dktX2_pattern_3 := dk_seg dksX2_pattern_2 23 rfl rfl
theorem dksX2_pattern_4 : cX2_pattern.data.toList.drop 94 = dktX2_pattern_4 := dk_seg dksX2_pattern_3 24 rfl rfl
theorem dX2_pattern_0 : decode cX2_pattern 0 = .ok (.aload_n 0, 1) := dk_42 (dk_at dksX2_pattern_0 0 rfl rfl)
theorem dX2_pattern_1 : decode cX2_pattern 1 = .ok (.invokevirtual 245, 3) := dk_182 0 245 (dk_at dksX2_pattern_0 1 rfl rfl)
theorem dX2_pattern_4 : decode cX2_pattern 4 = .ok (.new 72, 3) := dk_187 0 72 (dk_at dksX2_pattern_0 4 rfl rfl)
theorem dX2_pattern_7 : decode cX2_pattern 7 = .ok (.dup, 1) := dk_89 (dk_at dksX2_pattern_0 7 rfl rfl)
theorem dX2_pattern_8 : decode cX2_pattern 8 = .ok (.invokespecial 74, 3) := dk_183 0 74 (dk_at dksX2_pattern_0 8 rfl rfl)
theorem dX2_pattern_11 : decode cX2_pattern 11 = .ok (.astore_n 1, 1) := dk_76 (dk_at dksX2_pattern_0 11 rfl rfl)
theorem dX2_pattern_12 : decode cX2_pattern 12 = .ok (.aload_n 0, 1) := dk_42 (dk_at dksX2_pattern_0 12 rfl rfl)
theorem dX2_pattern_13 : decode cX2_pattern 13 = .ok (.invokevirtual 248, 3) := dk_182 0 248 (dk_at dksX2_pattern_0 13 rfl rfl)
theorem dX2_pattern_16 : decode cX2_pattern 16 = .ok (.ifCond .eq 10, 3) := dk_153 0 10 (dk_at dksX2_pattern_0 16 rfl rfl)
theorem dX2_pattern_19 : decode cX2_pattern 19 = .ok (.aload_n 1, 1) := dk_43 (dk_at dksX2_pattern_0 19 rfl rfl)
theorem dX2_pattern_20 : decode cX2_pattern 20 = .ok (.invokevirtual 78, 3) := dk_182 0 78 (dk_at dksX2_pattern_0 20 rfl rfl)
theorem dX2_pattern_23 : decode cX2_pattern 23 = .ok (.ifCond .ne 88, 3) := dk_154 0 88 (dk_at dksX2_pattern_1 0 rfl rfl)
theorem dX2_pattern_26 : decode cX2_pattern 26 = .ok (.aload_n 0, 1) := dk_42 (dk_at dksX2_pattern_1 3 rfl rfl)
theorem dX2_pattern_27 : decode cX2_pattern 27 = .ok (.aload_n 0, 1) := dk_42 (dk_at dksX2_pattern_1 4 rfl rfl)
theorem dX2_pattern_28 : decode cX2_pattern 28 = .ok (.invokevirtual 75, 3) := dk_182 0 75 (dk_at dksX2_pattern_1 5 rfl rfl)
theorem dX2_pattern_31 : decode cX2_pattern 31 = .ok (.ifCond .ne 21, 3) := dk_154 0 21 (dk_at dksX2_pattern_1 8 rfl rfl)
theorem dX2_pattern_34 : decode cX2_pattern 34 = .ok (.aload_n 0, 1) := dk_42 (dk_at dksX2_pattern_1 11 rfl rfl)
theorem dX2_pattern_35 : decode cX2_pattern 35 = .ok (.invokevirtual 41, 3) := dk_182 0 41 (dk_at dksX2_pattern_1 12 rfl rfl)
theorem dX2_pattern_38 : decode cX2_pattern 38 = .ok (.bipush 42, 2) := dk_16 42 (dk_at dksX2_pattern_1 15 rfl rfl)
theorem dX2_pattern_40 : decode cX2_pattern 40 = .ok (.if_icmp .eq 12, 3) := dk_159 0 12 (dk_at dksX2_pattern_1 17 rfl rfl)
theorem dX2_pattern_43 : decode cX2_pattern 43 = .ok (.aload_n 0, 1) := dk_42 (dk_at dksX2_pattern_1 20 rfl rfl)
theorem dX2_pattern_44 : decode cX2_pattern 44 = .ok (.invokevirtual 41, 3) := dk_182 0 41 (dk_at dksX2_pattern_1 21 rfl rfl)
theorem dX2_pattern_47 : decode cX2_pattern 47 = .ok (.bipush 63, 2) := dk_16 63 (dk_at dksX2_pattern_2 0 rfl rfl)
theorem dX2_pattern_49 : decode cX2_pattern 49 = .ok (.if_icmp .ne 7, 3) := dk_160 0 7 (dk_at dksX2_pattern_2 2 rfl rfl)
theorem dX2_pattern_52 : decode cX2_pattern 52 = .ok (.iconst 1, 1) := dk_4 (dk_at dksX2_pattern_2 5 rfl rfl)
theorem dX2_pattern_53 : decode cX2_pattern 53 = .ok (.goto 4, 3) := dk_167 0 4 (dk_at dksX2_pattern_2 6 rfl rfl)
theorem dX2_pattern_56 : decode cX2_pattern 56 = .ok (.iconst 0, 1) := dk_3 (dk_at dksX2_pattern_2 9 rfl rfl)
theorem dX2_pattern_57 : decode cX2_pattern 57 = .ok (.iconst 1, 1) := dk_4 (dk_at dksX2_pattern_2 10 rfl rfl)
theorem dX2_pattern_58 : decode cX2_pattern 58 = .ok (.aload_n 0, 1) := dk_42 (dk_at dksX2_pattern_2 11 rfl rfl)
theorem dX2_pattern_59 : decode cX2_pattern 59 = .ok (.getfield 38, 3) := dk_180 0 38 (dk_at dksX2_pattern_2 12 rfl rfl)
theorem dX2_pattern_62 : decode cX2_pattern 62 = .ok (.invokevirtual 45, 3) := dk_182 0 45 (dk_at dksX2_pattern_2 15 rfl rfl)
theorem dX2_pattern_65 : decode cX2_pattern 65 = .ok (.aload_n 0, 1) := dk_42 (dk_at dksX2_pattern_2 18 rfl rfl)
theorem dX2_pattern_66 : decode cX2_pattern 66 = .ok (.aload_n 1, 1) := dk_43 (dk_at dksX2_pattern_2 19 rfl rfl)
theorem dX2_pattern_67 : decode cX2_pattern 67 = .ok (.invokevirtual 78, 3) := dk_182 0 78 (dk_at dksX2_pattern_2 20 rfl rfl)
theorem dX2_pattern_70 : decode cX2_pattern 70 = .ok (.bipush 12, 2) := dk_16 12 (dk_at dksX2_pattern_3 0 rfl rfl)
theorem dX2_pattern_72 : decode cX2_pattern 72 = .ok (.if_icmp .ge 7, 3) := dk_162 0 7 (dk_at dksX2_pattern_3 2 rfl rfl)
theorem dX2_pattern_75 : decode cX2_pattern 75 = .ok (.iconst 1, 1) := dk_4 (dk_at dksX2_pattern_3 5 rfl rfl)
theorem dX2_pattern_76 : decode cX2_pattern 76 = .ok (.goto 4, 3) := dk_167 0 4 (dk_at dksX2_pattern_3 6 rfl rfl)
theorem dX2_pattern_79 : decode cX2_pattern 79 = .ok (.iconst 0, 1) := dk_3 (dk_at dksX2_pattern_3 9 rfl rfl)
theorem dX2_pattern_80 : decode cX2_pattern 80 = .ok (.iconst 3, 1) := dk_6 (dk_at dksX2_pattern_3 10 rfl rfl)
theorem dX2_pattern_81 : decode cX2_pattern 81 = .ok (.aload_n 0, 1) := dk_42 (dk_at dksX2_pattern_3 11 rfl rfl)
theorem dX2_pattern_82 : decode cX2_pattern 82 = .ok (.getfield 38, 3) := dk_180 0 38 (dk_at dksX2_pattern_3 12 rfl rfl)
theorem dX2_pattern_85 : decode cX2_pattern 85 = .ok (.invokevirtual 45, 3) := dk_182 0 45 (dk_at dksX2_pattern_3 15 rfl rfl)
theorem dX2_pattern_88 : decode cX2_pattern 88 = .ok (.aload_n 1, 1) := dk_43 (dk_at dksX2_pattern_3 18 rfl rfl)
theorem dX2_pattern_89 : decode cX2_pattern 89 = .ok (.aload_n 0, 1) := dk_42 (dk_at dksX2_pattern_3 19 rfl rfl)
theorem dX2_pattern_90 : decode cX2_pattern 90 = .ok (.invokevirtual 41, 3) := dk_182 0 41 (dk_at dksX2_pattern_3 20 rfl rfl)
theorem dX2_pattern_93 : decode cX2_pattern 93 = .ok (.i2c, 1) := dk_146 (dk_at dksX2_pattern_3 23 rfl rfl)
theorem dX2_pattern_94 : decode cX2_pattern 94 = .ok (.invokevirtual 81, 3) := dk_182 0 81 (dk_at dksX2_pattern_4 0 rfl rfl)
theorem dX2_pattern_97 : decode cX2_pattern 97 = .ok (.pop, 1) := dk_87 (dk_at dksX2_pattern_4 3 rfl rfl)
theorem dX2_pattern_98 : decode cX2_pattern 98 = .ok (.aload_n 0, 1) := dk_42 (dk_at dksX2_pattern_4 4 rfl rfl)
theorem dX2_pattern_99 : decode cX2_pattern 99 = .ok (.dup, 1) := dk_89 (dk_at dksX2_pattern_4 5 rfl rfl)
theorem dX2_pattern_100 : decode cX2_pattern 100 = .ok (.getfield 38, 3) := dk_180 0 38 (dk_at dksX2_pattern_4 6 rfl rfl)
theorem dX2_pattern_103 : decode cX2_pattern 103 = .ok (.iconst 1, 1) := dk_4 (dk_at dksX2_pattern_4 9 rfl rfl)
theorem dX2_pattern_104 : decode cX2_pattern 104 = .ok (.iadd, 1) := dk_96 (dk_at dksX2_pattern_4 10 rfl rfl)
theorem dX2_pattern_105 : decode cX2_pattern 105 = .ok (.putfield 38, 3) := dk_181 0 38 (dk_at dksX2_pattern_4 11 rfl rfl)
theorem dX2_pattern_108 : decode cX2_pattern 108 = .ok (.goto (-96), 3) := dk_167 255 160 (dk_at dksX2_pattern_4 14 rfl rfl)
theorem dX2_pattern_111 : decode cX2_pattern 111 = .ok (.aload_n 1, 1) := dk_43 (dk_at dksX2_pattern_4 17 rfl rfl)
theorem dX2_pattern_112 : decode cX2_pattern 112 = .ok (.invokevirtual 85, 3) := dk_182 0 85 (dk_at dksX2_pattern_4 18 rfl rfl)
theorem dX2_pattern_115 : decode cX2_pattern 115 = .ok (.areturn, 1) := dk_176 (dk_at dksX2_pattern_4 21 rfl rfl)
abbrev cX2_watch : ByteArray := prog_9_method_33_code
def yX2_watch : MethodName := ⟨RX2, "watch", "(LProbeConsole$Job;)V"⟩
def dkwX2_watch_3 : List UInt8 := [182, 0, 45, 42, 42, 182, 0, 248, 4, 42, 180, 0, 38, 182, 0, 45, 177]
abbrev dktX2_watch_3 : List UInt8 := dkwX2_watch_3 ++ []
def dkwX2_watch_2 : List UInt8 := [42, 16, 99, 182, 0, 166, 181, 1, 10, 42, 43, 180, 1, 10, 158, 0, 7, 4, 167, 0, 4, 3, 5, 28]
abbrev dktX2_watch_2 : List UInt8 := dkwX2_watch_2 ++ dktX2_watch_3
def dkwX2_watch_1 : List UInt8 := [182, 0, 255, 181, 1, 7, 42, 182, 0, 245, 42, 182, 0, 41, 2, 159, 0, 49, 42, 180, 0, 38, 61, 43]
abbrev dktX2_watch_1 : List UInt8 := dkwX2_watch_1 ++ dktX2_watch_2
def dkwX2_watch_0 : List UInt8 := [43, 42, 182, 0, 255, 181, 1, 2, 42, 182, 0, 245, 42, 182, 0, 41, 2, 160, 0, 4, 177, 43, 42]
abbrev dktX2_watch_0 : List UInt8 := dkwX2_watch_0 ++ dktX2_watch_1
theorem dksX2_watch_0 : cX2_watch.data.toList.drop 0 = dktX2_watch_0 := by decide +kernel
theorem dksX2_watch_1 : cX2_watch.data.toList.drop 23 = dktX2_watch_1 := dk_seg dksX2_watch_0 23 rfl rfl
theorem dksX2_watch_2 : cX2_watch.data.toList.drop 47 = dktX2_watch_2 := dk_seg dksX2_watch_1 24 rfl rfl
theorem dksX2_watch_3 : cX2_watch.data.toList.drop 71 = dktX2_watch_3 := dk_seg dksX2_watch_2 24 rfl rfl
theorem dX2_watch_0 : decode cX2_watch 0 = .ok (.aload_n 1, 1) := dk_43 (dk_at dksX2_watch_0 0 rfl rfl)
theorem dX2_watch_1 : decode cX2_watch 1 = .ok (.aload_n 0, 1) := dk_42 (dk_at dksX2_watch_0 1 rfl rfl)
theorem dX2_watch_2 : decode cX2_watch 2 = .ok (.invokevirtual 255, 3) := dk_182 0 255 (dk_at dksX2_watch_0 2 rfl rfl)
theorem dX2_watch_5 : decode cX2_watch 5 = .ok (.putfield 258, 3) := dk_181 1 2 (dk_at dksX2_watch_0 5 rfl rfl)
theorem dX2_watch_8 : decode cX2_watch 8 = .ok (.aload_n 0, 1) := dk_42 (dk_at dksX2_watch_0 8 rfl rfl)
theorem dX2_watch_9 : decode cX2_watch 9 = .ok (.invokevirtual 245, 3) := dk_182 0 245 (dk_at dksX2_watch_0 9 rfl rfl)
theorem dX2_watch_12 : decode cX2_watch 12 = .ok (.aload_n 0, 1) := dk_42 (dk_at dksX2_watch_0 12 rfl rfl)
theorem dX2_watch_13 : decode cX2_watch 13 = .ok (.invokevirtual 41, 3) := dk_182 0 41 (dk_at dksX2_watch_0 13 rfl rfl)
theorem dX2_watch_16 : decode cX2_watch 16 = .ok (.iconst (-1), 1) := dk_2 (dk_at dksX2_watch_0 16 rfl rfl)
theorem dX2_watch_17 : decode cX2_watch 17 = .ok (.if_icmp .ne 4, 3) := dk_160 0 4 (dk_at dksX2_watch_0 17 rfl rfl)
theorem dX2_watch_20 : decode cX2_watch 20 = .ok (.return_, 1) := dk_177 (dk_at dksX2_watch_0 20 rfl rfl)
theorem dX2_watch_21 : decode cX2_watch 21 = .ok (.aload_n 1, 1) := dk_43 (dk_at dksX2_watch_0 21 rfl rfl)
theorem dX2_watch_22 : decode cX2_watch 22 = .ok (.aload_n 0, 1) := dk_42 (dk_at dksX2_watch_0 22 rfl rfl)
theorem dX2_watch_23 : decode cX2_watch 23 = .ok (.invokevirtual 255, 3) := dk_182 0 255 (dk_at dksX2_watch_1 0 rfl rfl)
theorem dX2_watch_26 : decode cX2_watch 26 = .ok (.putfield 263, 3) := dk_181 1 7 (dk_at dksX2_watch_1 3 rfl rfl)
theorem dX2_watch_29 : decode cX2_watch 29 = .ok (.aload_n 0, 1) := dk_42 (dk_at dksX2_watch_1 6 rfl rfl)
theorem dX2_watch_30 : decode cX2_watch 30 = .ok (.invokevirtual 245, 3) := dk_182 0 245 (dk_at dksX2_watch_1 7 rfl rfl)
theorem dX2_watch_33 : decode cX2_watch 33 = .ok (.aload_n 0, 1) := dk_42 (dk_at dksX2_watch_1 10 rfl rfl)
theorem dX2_watch_34 : decode cX2_watch 34 = .ok (.invokevirtual 41, 3) := dk_182 0 41 (dk_at dksX2_watch_1 11 rfl rfl)
theorem dX2_watch_37 : decode cX2_watch 37 = .ok (.iconst (-1), 1) := dk_2 (dk_at dksX2_watch_1 14 rfl rfl)
theorem dX2_watch_38 : decode cX2_watch 38 = .ok (.if_icmp .eq 49, 3) := dk_159 0 49 (dk_at dksX2_watch_1 15 rfl rfl)
theorem dX2_watch_41 : decode cX2_watch 41 = .ok (.aload_n 0, 1) := dk_42 (dk_at dksX2_watch_1 18 rfl rfl)
theorem dX2_watch_42 : decode cX2_watch 42 = .ok (.getfield 38, 3) := dk_180 0 38 (dk_at dksX2_watch_1 19 rfl rfl)
theorem dX2_watch_45 : decode cX2_watch 45 = .ok (.istore_n 2, 1) := dk_61 (dk_at dksX2_watch_1 22 rfl rfl)
theorem dX2_watch_46 : decode cX2_watch 46 = .ok (.aload_n 1, 1) := dk_43 (dk_at dksX2_watch_1 23 rfl rfl)
theorem dX2_watch_47 : decode cX2_watch 47 = .ok (.aload_n 0, 1) := dk_42 (dk_at dksX2_watch_2 0 rfl rfl)
theorem dX2_watch_48 : decode cX2_watch 48 = .ok (.bipush 99, 2) := dk_16 99 (dk_at dksX2_watch_2 1 rfl rfl)
theorem dX2_watch_50 : decode cX2_watch 50 = .ok (.invokevirtual 166, 3) := dk_182 0 166 (dk_at dksX2_watch_2 3 rfl rfl)
theorem dX2_watch_53 : decode cX2_watch 53 = .ok (.putfield 266, 3) := dk_181 1 10 (dk_at dksX2_watch_2 6 rfl rfl)
theorem dX2_watch_56 : decode cX2_watch 56 = .ok (.aload_n 0, 1) := dk_42 (dk_at dksX2_watch_2 9 rfl rfl)
theorem dX2_watch_57 : decode cX2_watch 57 = .ok (.aload_n 1, 1) := dk_43 (dk_at dksX2_watch_2 10 rfl rfl)
theorem dX2_watch_58 : decode cX2_watch 58 = .ok (.getfield 266, 3) := dk_180 1 10 (dk_at dksX2_watch_2 11 rfl rfl)
theorem dX2_watch_61 : decode cX2_watch 61 = .ok (.ifCond .le 7, 3) := dk_158 0 7 (dk_at dksX2_watch_2 14 rfl rfl)
theorem dX2_watch_64 : decode cX2_watch 64 = .ok (.iconst 1, 1) := dk_4 (dk_at dksX2_watch_2 17 rfl rfl)
theorem dX2_watch_65 : decode cX2_watch 65 = .ok (.goto 4, 3) := dk_167 0 4 (dk_at dksX2_watch_2 18 rfl rfl)
theorem dX2_watch_68 : decode cX2_watch 68 = .ok (.iconst 0, 1) := dk_3 (dk_at dksX2_watch_2 21 rfl rfl)
theorem dX2_watch_69 : decode cX2_watch 69 = .ok (.iconst 2, 1) := dk_5 (dk_at dksX2_watch_2 22 rfl rfl)
theorem dX2_watch_70 : decode cX2_watch 70 = .ok (.iload_n 2, 1) := dk_28 (dk_at dksX2_watch_2 23 rfl rfl)
theorem dX2_watch_71 : decode cX2_watch 71 = .ok (.invokevirtual 45, 3) := dk_182 0 45 (dk_at dksX2_watch_3 0 rfl rfl)
theorem dX2_watch_74 : decode cX2_watch 74 = .ok (.aload_n 0, 1) := dk_42 (dk_at dksX2_watch_3 3 rfl rfl)
theorem dX2_watch_75 : decode cX2_watch 75 = .ok (.aload_n 0, 1) := dk_42 (dk_at dksX2_watch_3 4 rfl rfl)
theorem dX2_watch_76 : decode cX2_watch 76 = .ok (.invokevirtual 248, 3) := dk_182 0 248 (dk_at dksX2_watch_3 5 rfl rfl)
theorem dX2_watch_79 : decode cX2_watch 79 = .ok (.iconst 1, 1) := dk_4 (dk_at dksX2_watch_3 8 rfl rfl)
theorem dX2_watch_80 : decode cX2_watch 80 = .ok (.aload_n 0, 1) := dk_42 (dk_at dksX2_watch_3 9 rfl rfl)
theorem dX2_watch_81 : decode cX2_watch 81 = .ok (.getfield 38, 3) := dk_180 0 38 (dk_at dksX2_watch_3 10 rfl rfl)
theorem dX2_watch_84 : decode cX2_watch 84 = .ok (.invokevirtual 45, 3) := dk_182 0 45 (dk_at dksX2_watch_3 13 rfl rfl)
theorem dX2_watch_87 : decode cX2_watch 87 = .ok (.return_, 1) := dk_177 (dk_at dksX2_watch_3 16 rfl rfl)
abbrev cX2_probe : ByteArray := prog_9_method_31_code
def yX2_probe : MethodName := ⟨RX2, "probe", "()LProbeConsole$Node;"⟩
def dkwX2_probe_1 : List UInt8 := [182, 0, 45, 43, 176]
abbrev dktX2_probe_1 : List UInt8 := dkwX2_probe_1 ++ []
def dkwX2_probe_0 : List UInt8 := [42, 182, 0, 245, 42, 18, 99, 3, 182, 0, 236, 76, 42, 42, 182, 0, 248, 4, 42, 180, 0, 38]
abbrev dktX2_probe_0 : List UInt8 := dkwX2_probe_0 ++ dktX2_probe_1
theorem dksX2_probe_0 : cX2_probe.data.toList.drop 0 = dktX2_probe_0 := by decide +kernel
theorem dksX2_probe_1 : cX2_probe.data.toList.drop 22 = dktX2_probe_1 := dk_seg dksX2_probe_0 22 rfl rfl
theorem dX2_probe_0 : decode cX2_probe 0 = .ok (.aload_n 0, 1) := dk_42 (dk_at dksX2_probe_0 0 rfl rfl)
theorem dX2_probe_1 : decode cX2_probe 1 = .ok (.invokevirtual 245, 3) := dk_182 0 245 (dk_at dksX2_probe_0 1 rfl rfl)
theorem dX2_probe_4 : decode cX2_probe 4 = .ok (.aload_n 0, 1) := dk_42 (dk_at dksX2_probe_0 4 rfl rfl)
theorem dX2_probe_5 : decode cX2_probe 5 = .ok (.ldc 99, 2) := dk_18 99 (dk_at dksX2_probe_0 5 rfl rfl)
theorem dX2_probe_7 : decode cX2_probe 7 = .ok (.iconst 0, 1) := dk_3 (dk_at dksX2_probe_0 7 rfl rfl)
theorem dX2_probe_8 : decode cX2_probe 8 = .ok (.invokevirtual 236, 3) := dk_182 0 236 (dk_at dksX2_probe_0 8 rfl rfl)
theorem dX2_probe_11 : decode cX2_probe 11 = .ok (.astore_n 1, 1) := dk_76 (dk_at dksX2_probe_0 11 rfl rfl)
theorem dX2_probe_12 : decode cX2_probe 12 = .ok (.aload_n 0, 1) := dk_42 (dk_at dksX2_probe_0 12 rfl rfl)
theorem dX2_probe_13 : decode cX2_probe 13 = .ok (.aload_n 0, 1) := dk_42 (dk_at dksX2_probe_0 13 rfl rfl)
theorem dX2_probe_14 : decode cX2_probe 14 = .ok (.invokevirtual 248, 3) := dk_182 0 248 (dk_at dksX2_probe_0 14 rfl rfl)
theorem dX2_probe_17 : decode cX2_probe 17 = .ok (.iconst 1, 1) := dk_4 (dk_at dksX2_probe_0 17 rfl rfl)
theorem dX2_probe_18 : decode cX2_probe 18 = .ok (.aload_n 0, 1) := dk_42 (dk_at dksX2_probe_0 18 rfl rfl)
theorem dX2_probe_19 : decode cX2_probe 19 = .ok (.getfield 38, 3) := dk_180 0 38 (dk_at dksX2_probe_0 19 rfl rfl)
theorem dX2_probe_22 : decode cX2_probe 22 = .ok (.invokevirtual 45, 3) := dk_182 0 45 (dk_at dksX2_probe_1 0 rfl rfl)
theorem dX2_probe_25 : decode cX2_probe 25 = .ok (.aload_n 1, 1) := dk_43 (dk_at dksX2_probe_1 3 rfl rfl)
theorem dX2_probe_26 : decode cX2_probe 26 = .ok (.areturn, 1) := dk_176 (dk_at dksX2_probe_1 4 rfl rfl)
theorem q117 : (Jvm.Cond.initialized "ProbeConsole$Parser") ∈ lw_all := lw_g (lw_at lw_m1 2 rfl) rfl
theorem q174 : (Jvm.Cond.instantiable "ProbeConsole$Parser" (9 : Nat)) ∈ lw_all := lw_g (lw_at lw_m1 59 rfl) rfl
theorem q176 : (Jvm.Cond.instanceMethod ({ cls := "ProbeConsole$Parser", name := "<init>", desc := "([B)V" } : Jvm.MethodName)) ∈ lw_all := lw_g (lw_at lw_m1 61 rfl) rfl
theorem q177 : (Jvm.Cond.code ({ cls := "ProbeConsole$Parser", name := "<init>", desc := "([B)V" } : Jvm.MethodName) prog_9_method_1_code (2 : Nat) (Option.none : Option Jvm.ClassFile.FieldType)) ∈ lw_all := lw_g (lw_at lw_m1 62 rfl) rfl
theorem q178 : (Jvm.Cond.methodLink "ProbeConsole$Parser" (3 : Nat) ({ cls := "java/lang/Object", name := "<init>", desc := "()V" } : Jvm.MethodName)) ∈ lw_all := lw_g (lw_at lw_m1 63 rfl) rfl
theorem q179 : (Jvm.Cond.stringRef "ProbeConsole$Parser" (15 : Nat) "") ∈ lw_tbl := lw_at lw_m1 64 rfl
theorem q180 : (Jvm.Cond.fieldLink "ProbeConsole$Parser" (21 : Nat) "ProbeConsole$Parser" "text" "[B") ∈ lw_all := lw_g (lw_at lw_m1 65 rfl) rfl
theorem q181 : (Jvm.Cond.fieldLink "ProbeConsole$Parser" (35 : Nat) "ProbeConsole$Parser" "size" "I") ∈ lw_all := lw_g (lw_at lw_m1 66 rfl) rfl
theorem q182 : (Jvm.Cond.fieldLink "ProbeConsole$Parser" (38 : Nat) "ProbeConsole$Parser" "at" "I") ∈ lw_all := lw_g (lw_at lw_m1 67 rfl) rfl
theorem q183 : (Jvm.Cond.fieldLink "ProbeConsole$Parser" (25 : Nat) "ProbeConsole$Parser" "fault" "I") ∈ lw_all := lw_g (lw_at lw_m1 68 rfl) rfl
theorem q185 : (Jvm.Cond.fieldLink "ProbeConsole$Parser" (9 : Nat) "ProbeConsole$Parser" "place" "I") ∈ lw_all := lw_g (lw_at lw_m1 70 rfl) rfl
theorem q187 : (Jvm.Cond.fieldLink "ProbeConsole$Parser" (69 : Nat) "ProbeConsole$Parser" "nodes" "I") ∈ lw_all := lw_g (lw_at lw_m1 72 rfl) rfl
theorem q188 : (Jvm.Cond.fieldLink "ProbeConsole$Parser" (152 : Nat) "ProbeConsole$Parser" "open" "I") ∈ lw_all := lw_g (lw_at lw_m1 73 rfl) rfl
theorem q189 : (Jvm.Cond.fieldLink "ProbeConsole$Parser" (17 : Nat) "ProbeConsole$Parser" "variables" "Ljava/lang/String;") ∈ lw_all := lw_g (lw_at lw_m1 74 rfl) rfl
theorem q190 : (Jvm.Cond.fieldLink "ProbeConsole$Parser" (120 : Nat) "ProbeConsole$Parser" "names" "Z") ∈ lw_all := lw_g (lw_at lw_m1 75 rfl) rfl
theorem q191 : (Jvm.Cond.laysFinal "ProbeConsole$Parser" "ProbeConsole$Parser" "text" "[B") ∈ lw_all := lw_g (lw_at lw_m1 76 rfl) rfl
theorem q192 : (Jvm.Cond.soleField "ProbeConsole$Parser" "text") ∈ lw_all := lw_g (lw_at lw_m1 77 rfl) rfl
theorem q193 : (Jvm.Cond.lays "ProbeConsole$Parser" "ProbeConsole$Parser" "size" "I") ∈ lw_all := lw_g (lw_at lw_m1 78 rfl) rfl
theorem q194 : (Jvm.Cond.soleField "ProbeConsole$Parser" "size") ∈ lw_all := lw_g (lw_at lw_m1 79 rfl) rfl
theorem q195 : (Jvm.Cond.lays "ProbeConsole$Parser" "ProbeConsole$Parser" "at" "I") ∈ lw_all := lw_g (lw_at lw_m1 80 rfl) rfl
theorem q196 : (Jvm.Cond.soleField "ProbeConsole$Parser" "at") ∈ lw_all := lw_g (lw_at lw_m1 81 rfl) rfl
theorem q197 : (Jvm.Cond.lays "ProbeConsole$Parser" "ProbeConsole$Parser" "fault" "I") ∈ lw_all := lw_g (lw_at lw_m1 82 rfl) rfl
theorem q198 : (Jvm.Cond.soleField "ProbeConsole$Parser" "fault") ∈ lw_all := lw_g (lw_at lw_m1 83 rfl) rfl
theorem q199 : (Jvm.Cond.lays "ProbeConsole$Parser" "ProbeConsole$Parser" "place" "I") ∈ lw_all := lw_g (lw_at lw_m1 84 rfl) rfl
theorem q200 : (Jvm.Cond.soleField "ProbeConsole$Parser" "place") ∈ lw_all := lw_g (lw_at lw_m1 85 rfl) rfl
theorem q201 : (Jvm.Cond.lays "ProbeConsole$Parser" "ProbeConsole$Parser" "nodes" "I") ∈ lw_all := lw_g (lw_at lw_m1 86 rfl) rfl
theorem q202 : (Jvm.Cond.soleField "ProbeConsole$Parser" "nodes") ∈ lw_all := lw_g (lw_at lw_m1 87 rfl) rfl
theorem q203 : (Jvm.Cond.lays "ProbeConsole$Parser" "ProbeConsole$Parser" "open" "I") ∈ lw_all := lw_g (lw_at lw_m1 88 rfl) rfl
theorem q204 : (Jvm.Cond.soleField "ProbeConsole$Parser" "open") ∈ lw_all := lw_g (lw_at lw_m1 89 rfl) rfl
theorem q205 : (Jvm.Cond.lays "ProbeConsole$Parser" "ProbeConsole$Parser" "variables" "Ljava/lang/String;") ∈ lw_all := lw_g (lw_at lw_m1 90 rfl) rfl
theorem q206 : (Jvm.Cond.soleField "ProbeConsole$Parser" "variables") ∈ lw_all := lw_g (lw_at lw_m1 91 rfl) rfl
theorem q207 : (Jvm.Cond.lays "ProbeConsole$Parser" "ProbeConsole$Parser" "names" "Z") ∈ lw_all := lw_g (lw_at lw_m1 92 rfl) rfl
theorem q208 : (Jvm.Cond.soleField "ProbeConsole$Parser" "names") ∈ lw_all := lw_g (lw_at lw_m1 93 rfl) rfl
theorem q209 : (Jvm.Cond.superclass "ProbeConsole$Parser" "java/lang/Object") ∈ lw_all := lw_g (lw_at lw_m1 94 rfl) rfl
theorem q388 : (Jvm.Cond.instanceMethod ({ cls := "ProbeConsole$Parser", name := "method", desc := "(II)LProbeConsole$Method;" } : Jvm.MethodName)) ∈ lw_all := lw_g (lw_at lw_m2 33 rfl) rfl
theorem q389 : (Jvm.Cond.selects "ProbeConsole$Parser" ({ cls := "ProbeConsole$Parser", name := "method", desc := "(II)LProbeConsole$Method;" } : Jvm.MethodName) ({ cls := "ProbeConsole$Parser", name := "method", desc := "(II)LProbeConsole$Method;" } : Jvm.MethodName)) ∈ lw_all := lw_g (lw_at lw_m2 34 rfl) rfl
theorem q390 : (Jvm.Cond.codeWith ({ cls := "ProbeConsole$Parser", name := "method", desc := "(II)LProbeConsole$Method;" } : Jvm.MethodName) prog_9_method_26_code (6 : Nat) (Option.some (Jvm.ClassFile.FieldType.object "ProbeConsole$Method")) [((5 : Nat), (141 : Nat), (142 : Nat), (28 : Nat))]) ∈ lw_all := lw_g (lw_at lw_m2 35 rfl) rfl
theorem q391 : (Jvm.Cond.classLink "ProbeConsole$Parser" (28 : Nat) "java/lang/IllegalStateException") ∈ lw_all := lw_g (lw_at lw_m2 36 rfl) rfl
theorem q392 : (Jvm.Cond.methodLink "ProbeConsole$Parser" (229 : Nat) ({ cls := "ProbeConsole$Parser", name := "begin", desc := "(I)V" } : Jvm.MethodName)) ∈ lw_all := lw_g (lw_at lw_m2 37 rfl) rfl
theorem q393 : (Jvm.Cond.instanceMethod ({ cls := "ProbeConsole$Parser", name := "begin", desc := "(I)V" } : Jvm.MethodName)) ∈ lw_all := lw_g (lw_at lw_m2 38 rfl) rfl
theorem q394 : (Jvm.Cond.selects "ProbeConsole$Parser" ({ cls := "ProbeConsole$Parser", name := "begin", desc := "(I)V" } : Jvm.MethodName) ({ cls := "ProbeConsole$Parser", name := "begin", desc := "(I)V" } : Jvm.MethodName)) ∈ lw_all := lw_g (lw_at lw_m2 39 rfl) rfl
theorem q395 : (Jvm.Cond.code ({ cls := "ProbeConsole$Parser", name := "begin", desc := "(I)V" } : Jvm.MethodName) prog_9_method_3_code (2 : Nat) (Option.none : Option Jvm.ClassFile.FieldType)) ∈ lw_all := lw_g (lw_at lw_m2 40 rfl) rfl
theorem q396 : (Jvm.Cond.methodLink "ProbeConsole$Parser" (75 : Nat) ({ cls := "ProbeConsole$Parser", name := "isOfName", desc := "()Z" } : Jvm.MethodName)) ∈ lw_all := lw_g (lw_at lw_m2 41 rfl) rfl
theorem q397 : (Jvm.Cond.privateMethod ({ cls := "ProbeConsole$Parser", name := "isOfName", desc := "()Z" } : Jvm.MethodName)) ∈ lw_tbl := lw_at lw_m2 42 rfl
theorem q398 : (Jvm.Cond.instanceMethod ({ cls := "ProbeConsole$Parser", name := "isOfName", desc := "()Z" } : Jvm.MethodName)) ∈ lw_all := lw_g (lw_at lw_m2 43 rfl) rfl
theorem q399 : (Jvm.Cond.code ({ cls := "ProbeConsole$Parser", name := "isOfName", desc := "()Z" } : Jvm.MethodName) prog_9_method_9_code (1 : Nat) (Option.some Jvm.ClassFile.FieldType.boolean)) ∈ lw_all := lw_g (lw_at lw_m2 44 rfl) rfl
theorem q400 : (Jvm.Cond.methodLink "ProbeConsole$Parser" (41 : Nat) ({ cls := "ProbeConsole$Parser", name := "peek", desc := "()I" } : Jvm.MethodName)) ∈ lw_all := lw_g (lw_at lw_m2 45 rfl) rfl
theorem q401 : (Jvm.Cond.instanceMethod ({ cls := "ProbeConsole$Parser", name := "peek", desc := "()I" } : Jvm.MethodName)) ∈ lw_all := lw_g (lw_at lw_m2 46 rfl) rfl
theorem q402 : (Jvm.Cond.selects "ProbeConsole$Parser" ({ cls := "ProbeConsole$Parser", name := "peek", desc := "()I" } : Jvm.MethodName) ({ cls := "ProbeConsole$Parser", name := "peek", desc := "()I" } : Jvm.MethodName)) ∈ lw_all := lw_g (lw_at lw_m2 47 rfl) rfl
theorem q403 : (Jvm.Cond.code ({ cls := "ProbeConsole$Parser", name := "peek", desc := "()I" } : Jvm.MethodName) prog_9_method_4_code (1 : Nat) (Option.some Jvm.ClassFile.FieldType.int)) ∈ lw_all := lw_g (lw_at lw_m2 48 rfl) rfl
theorem q404 : (Jvm.Cond.methodLink "ProbeConsole$Parser" (49 : Nat) ({ cls := "ProbeConsole$Parser", name := "isLetter", desc := "(I)Z" } : Jvm.MethodName)) ∈ lw_all := lw_g (lw_at lw_m2 49 rfl) rfl
theorem q405 : (Jvm.Cond.static ({ cls := "ProbeConsole$Parser", name := "isLetter", desc := "(I)Z" } : Jvm.MethodName)) ∈ lw_all := lw_g (lw_at lw_m2 50 rfl) rfl
theorem q406 : (Jvm.Cond.code ({ cls := "ProbeConsole$Parser", name := "isLetter", desc := "(I)Z" } : Jvm.MethodName) prog_9_method_7_code (1 : Nat) (Option.some Jvm.ClassFile.FieldType.boolean)) ∈ lw_all := lw_g (lw_at lw_m2 51 rfl) rfl
theorem q407 : (Jvm.Cond.methodLink "ProbeConsole$Parser" (45 : Nat) ({ cls := "ProbeConsole$Parser", name := "want", desc := "(ZII)V" } : Jvm.MethodName)) ∈ lw_all := lw_g (lw_at lw_m2 52 rfl) rfl
theorem q408 : (Jvm.Cond.instanceMethod ({ cls := "ProbeConsole$Parser", name := "want", desc := "(ZII)V" } : Jvm.MethodName)) ∈ lw_all := lw_g (lw_at lw_m2 53 rfl) rfl
theorem q409 : (Jvm.Cond.selects "ProbeConsole$Parser" ({ cls := "ProbeConsole$Parser", name := "want", desc := "(ZII)V" } : Jvm.MethodName) ({ cls := "ProbeConsole$Parser", name := "want", desc := "(ZII)V" } : Jvm.MethodName)) ∈ lw_all := lw_g (lw_at lw_m2 54 rfl) rfl
theorem q410 : (Jvm.Cond.code ({ cls := "ProbeConsole$Parser", name := "want", desc := "(ZII)V" } : Jvm.MethodName) prog_9_method_2_code (4 : Nat) (Option.none : Option Jvm.ClassFile.FieldType)) ∈ lw_all := lw_g (lw_at lw_m2 55 rfl) rfl
theorem q452 : (Jvm.Cond.stringRef "ProbeConsole$Parser" (30 : Nat) "the text is at fault") ∈ lw_tbl := lw_at lw_m2 97 rfl
theorem q453 : (Jvm.Cond.methodLink "ProbeConsole$Parser" (32 : Nat) ({ cls := "java/lang/IllegalStateException", name := "<init>", desc := "(Ljava/lang/String;)V" } : Jvm.MethodName)) ∈ lw_all := lw_g (lw_at lw_m2 98 rfl) rfl
theorem q478 : (Jvm.Cond.methodLink "ProbeConsole$Parser" (96 : Nat) ({ cls := "ProbeConsole$Parser", name := "row", desc := "()Ljava/lang/String;" } : Jvm.MethodName)) ∈ lw_all := lw_g (lw_at lw_m2 123 rfl) rfl
theorem q479 : (Jvm.Cond.privateMethod ({ cls := "ProbeConsole$Parser", name := "row", desc := "()Ljava/lang/String;" } : Jvm.MethodName)) ∈ lw_tbl := lw_at lw_m2 124 rfl
theorem q480 : (Jvm.Cond.instanceMethod ({ cls := "ProbeConsole$Parser", name := "row", desc := "()Ljava/lang/String;" } : Jvm.MethodName)) ∈ lw_all := lw_g (lw_at lw_m2 125 rfl) rfl
theorem q481 : (Jvm.Cond.code ({ cls := "ProbeConsole$Parser", name := "row", desc := "()Ljava/lang/String;" } : Jvm.MethodName) prog_9_method_12_code (2 : Nat) (Option.some (Jvm.ClassFile.FieldType.object "java/lang/String"))) ∈ lw_all := lw_g (lw_at lw_m2 126 rfl) rfl
theorem q482 : (Jvm.Cond.classLink "ProbeConsole$Parser" (72 : Nat) "java/lang/StringBuilder") ∈ lw_all := lw_g (lw_at lw_m2 127 rfl) rfl
theorem q484 : (Jvm.Cond.methodLink "ProbeConsole$Parser" (74 : Nat) ({ cls := "java/lang/StringBuilder", name := "<init>", desc := "()V" } : Jvm.MethodName)) ∈ lw_all := lw_g (lw_at lw_m2 129 rfl) rfl
theorem q513 : (Jvm.Cond.methodLink "ProbeConsole$Parser" (78 : Nat) ({ cls := "java/lang/StringBuilder", name := "length", desc := "()I" } : Jvm.MethodName)) ∈ lw_all := lw_g (lw_at lw_m2 158 rfl) rfl
theorem q520 : (Jvm.Cond.methodLink "ProbeConsole$Parser" (81 : Nat) ({ cls := "java/lang/StringBuilder", name := "append", desc := "(C)Ljava/lang/StringBuilder;" } : Jvm.MethodName)) ∈ lw_all := lw_g (lw_at lw_m2 165 rfl) rfl
theorem q615 : (Jvm.Cond.methodLink "ProbeConsole$Parser" (85 : Nat) ({ cls := "java/lang/StringBuilder", name := "toString", desc := "()Ljava/lang/String;" } : Jvm.MethodName)) ∈ lw_all := lw_g (lw_at lw_m3 20 rfl) rfl
theorem q761 : (Jvm.Cond.methodLink "ProbeConsole$Parser" (116 : Nat) ({ cls := "ProbeConsole$Parser", name := "isName", desc := "(Ljava/lang/String;I)V" } : Jvm.MethodName)) ∈ lw_all := lw_g (lw_at lw_m3 166 rfl) rfl
theorem q762 : (Jvm.Cond.privateMethod ({ cls := "ProbeConsole$Parser", name := "isName", desc := "(Ljava/lang/String;I)V" } : Jvm.MethodName)) ∈ lw_tbl := lw_at lw_m3 167 rfl
theorem q763 : (Jvm.Cond.instanceMethod ({ cls := "ProbeConsole$Parser", name := "isName", desc := "(Ljava/lang/String;I)V" } : Jvm.MethodName)) ∈ lw_all := lw_g (lw_at lw_m3 168 rfl) rfl
theorem q764 : (Jvm.Cond.code ({ cls := "ProbeConsole$Parser", name := "isName", desc := "(Ljava/lang/String;I)V" } : Jvm.MethodName) prog_9_method_13_code (5 : Nat) (Option.none : Option Jvm.ClassFile.FieldType)) ∈ lw_all := lw_g (lw_at lw_m3 169 rfl) rfl
theorem q765 : (Jvm.Cond.methodLink "ProbeConsole$Parser" (89 : Nat) ({ cls := "java/lang/String", name := "length", desc := "()I" } : Jvm.MethodName)) ∈ lw_all := lw_g (lw_at lw_m3 170 rfl) rfl
theorem q766 : (Jvm.Cond.methodLink "ProbeConsole$Parser" (92 : Nat) ({ cls := "java/lang/String", name := "charAt", desc := "(I)C" } : Jvm.MethodName)) ∈ lw_all := lw_g (lw_at lw_m3 171 rfl) rfl
theorem q781 : (Jvm.Cond.methodLink "ProbeConsole$Parser" (155 : Nat) ({ cls := "ProbeConsole$Parser", name := "take", desc := "(I)V" } : Jvm.MethodName)) ∈ lw_all := lw_g (lw_at lw_m3 186 rfl) rfl
theorem q782 : (Jvm.Cond.privateMethod ({ cls := "ProbeConsole$Parser", name := "take", desc := "(I)V" } : Jvm.MethodName)) ∈ lw_tbl := lw_at lw_m3 187 rfl
theorem q783 : (Jvm.Cond.instanceMethod ({ cls := "ProbeConsole$Parser", name := "take", desc := "(I)V" } : Jvm.MethodName)) ∈ lw_all := lw_g (lw_at lw_m3 188 rfl) rfl
theorem q784 : (Jvm.Cond.code ({ cls := "ProbeConsole$Parser", name := "take", desc := "(I)V" } : Jvm.MethodName) prog_9_method_6_code (2 : Nat) (Option.none : Option Jvm.ClassFile.FieldType)) ∈ lw_all := lw_g (lw_at lw_m3 189 rfl) rfl
theorem q785 : (Jvm.Cond.stringRef "ProbeConsole$Parser" (99 : Nat) "abcrxnk") ∈ lw_tbl := lw_at lw_m3 190 rfl
theorem q786 : (Jvm.Cond.methodLink "ProbeConsole$Parser" (232 : Nat) ({ cls := "java/lang/String", name := "substring", desc := "(II)Ljava/lang/String;" } : Jvm.MethodName)) ∈ lw_all := lw_g (lw_at lw_m3 191 rfl) rfl
theorem q810 : (Jvm.Cond.methodLink "ProbeConsole$Parser" (236 : Nat) ({ cls := "ProbeConsole$Parser", name := "whole", desc := "(Ljava/lang/String;Z)LProbeConsole$Node;" } : Jvm.MethodName)) ∈ lw_all := lw_g (lw_at lw_m3 215 rfl) rfl
theorem q811 : (Jvm.Cond.privateMethod ({ cls := "ProbeConsole$Parser", name := "whole", desc := "(Ljava/lang/String;Z)LProbeConsole$Node;" } : Jvm.MethodName)) ∈ lw_tbl := lw_at lw_m3 216 rfl
theorem q812 : (Jvm.Cond.instanceMethod ({ cls := "ProbeConsole$Parser", name := "whole", desc := "(Ljava/lang/String;Z)LProbeConsole$Node;" } : Jvm.MethodName)) ∈ lw_all := lw_g (lw_at lw_m3 217 rfl) rfl
theorem q813 : (Jvm.Cond.code ({ cls := "ProbeConsole$Parser", name := "whole", desc := "(Ljava/lang/String;Z)LProbeConsole$Node;" } : Jvm.MethodName) prog_9_method_25_code (3 : Nat) (Option.some (Jvm.ClassFile.FieldType.object "ProbeConsole$Node"))) ∈ lw_all := lw_g (lw_at lw_m3 218 rfl) rfl
theorem q814 : (Jvm.Cond.methodLink "ProbeConsole$Parser" (138 : Nat) ({ cls := "ProbeConsole$Parser", name := "expression", desc := "()LProbeConsole$Node;" } : Jvm.MethodName)) ∈ lw_all := lw_g (lw_at lw_m3 219 rfl) rfl
theorem q815 : (Jvm.Cond.privateMethod ({ cls := "ProbeConsole$Parser", name := "expression", desc := "()LProbeConsole$Node;" } : Jvm.MethodName)) ∈ lw_tbl := lw_at lw_m3 220 rfl
theorem q816 : (Jvm.Cond.instanceMethod ({ cls := "ProbeConsole$Parser", name := "expression", desc := "()LProbeConsole$Node;" } : Jvm.MethodName)) ∈ lw_all := lw_g (lw_at lw_m3 221 rfl) rfl
theorem q817 : (Jvm.Cond.code ({ cls := "ProbeConsole$Parser", name := "expression", desc := "()LProbeConsole$Node;" } : Jvm.MethodName) prog_9_method_24_code (2 : Nat) (Option.some (Jvm.ClassFile.FieldType.object "ProbeConsole$Node"))) ∈ lw_all := lw_g (lw_at lw_m3 222 rfl) rfl
theorem q818 : (Jvm.Cond.methodLink "ProbeConsole$Parser" (223 : Nat) ({ cls := "ProbeConsole$Parser", name := "chosen", desc := "()LProbeConsole$Node;" } : Jvm.MethodName)) ∈ lw_all := lw_g (lw_at lw_m3 223 rfl) rfl
theorem q819 : (Jvm.Cond.privateMethod ({ cls := "ProbeConsole$Parser", name := "chosen", desc := "()LProbeConsole$Node;" } : Jvm.MethodName)) ∈ lw_tbl := lw_at lw_m3 224 rfl
theorem q820 : (Jvm.Cond.instanceMethod ({ cls := "ProbeConsole$Parser", name := "chosen", desc := "()LProbeConsole$Node;" } : Jvm.MethodName)) ∈ lw_all := lw_g (lw_at lw_m3 225 rfl) rfl
theorem q821 : (Jvm.Cond.code ({ cls := "ProbeConsole$Parser", name := "chosen", desc := "()LProbeConsole$Node;" } : Jvm.MethodName) prog_9_method_23_code (3 : Nat) (Option.some (Jvm.ClassFile.FieldType.object "ProbeConsole$Node"))) ∈ lw_all := lw_g (lw_at lw_m3 226 rfl) rfl
theorem q822 : (Jvm.Cond.methodLink "ProbeConsole$Parser" (217 : Nat) ({ cls := "ProbeConsole$Parser", name := "compared", desc := "()LProbeConsole$Node;" } : Jvm.MethodName)) ∈ lw_all := lw_g (lw_at lw_m3 227 rfl) rfl
theorem q823 : (Jvm.Cond.privateMethod ({ cls := "ProbeConsole$Parser", name := "compared", desc := "()LProbeConsole$Node;" } : Jvm.MethodName)) ∈ lw_tbl := lw_at lw_m3 228 rfl
theorem q824 : (Jvm.Cond.instanceMethod ({ cls := "ProbeConsole$Parser", name := "compared", desc := "()LProbeConsole$Node;" } : Jvm.MethodName)) ∈ lw_all := lw_g (lw_at lw_m3 229 rfl) rfl
theorem q825 : (Jvm.Cond.code ({ cls := "ProbeConsole$Parser", name := "compared", desc := "()LProbeConsole$Node;" } : Jvm.MethodName) prog_9_method_22_code (3 : Nat) (Option.some (Jvm.ClassFile.FieldType.object "ProbeConsole$Node"))) ∈ lw_all := lw_g (lw_at lw_m3 230 rfl) rfl
theorem q826 : (Jvm.Cond.methodLink "ProbeConsole$Parser" (209 : Nat) ({ cls := "ProbeConsole$Parser", name := "sum", desc := "()LProbeConsole$Node;" } : Jvm.MethodName)) ∈ lw_all := lw_g (lw_at lw_m3 231 rfl) rfl
theorem q827 : (Jvm.Cond.privateMethod ({ cls := "ProbeConsole$Parser", name := "sum", desc := "()LProbeConsole$Node;" } : Jvm.MethodName)) ∈ lw_tbl := lw_at lw_m3 232 rfl
theorem q828 : (Jvm.Cond.instanceMethod ({ cls := "ProbeConsole$Parser", name := "sum", desc := "()LProbeConsole$Node;" } : Jvm.MethodName)) ∈ lw_all := lw_g (lw_at lw_m3 233 rfl) rfl
theorem q829 : (Jvm.Cond.code ({ cls := "ProbeConsole$Parser", name := "sum", desc := "()LProbeConsole$Node;" } : Jvm.MethodName) prog_9_method_21_code (3 : Nat) (Option.some (Jvm.ClassFile.FieldType.object "ProbeConsole$Node"))) ∈ lw_all := lw_g (lw_at lw_m3 234 rfl) rfl
theorem q830 : (Jvm.Cond.methodLink "ProbeConsole$Parser" (201 : Nat) ({ cls := "ProbeConsole$Parser", name := "product", desc := "()LProbeConsole$Node;" } : Jvm.MethodName)) ∈ lw_all := lw_g (lw_at lw_m3 235 rfl) rfl
theorem q831 : (Jvm.Cond.privateMethod ({ cls := "ProbeConsole$Parser", name := "product", desc := "()LProbeConsole$Node;" } : Jvm.MethodName)) ∈ lw_tbl := lw_at lw_m3 236 rfl
theorem q832 : (Jvm.Cond.instanceMethod ({ cls := "ProbeConsole$Parser", name := "product", desc := "()LProbeConsole$Node;" } : Jvm.MethodName)) ∈ lw_all := lw_g (lw_at lw_m3 237 rfl) rfl
theorem q833 : (Jvm.Cond.code ({ cls := "ProbeConsole$Parser", name := "product", desc := "()LProbeConsole$Node;" } : Jvm.MethodName) prog_9_method_20_code (3 : Nat) (Option.some (Jvm.ClassFile.FieldType.object "ProbeConsole$Node"))) ∈ lw_all := lw_g (lw_at lw_m3 238 rfl) rfl
theorem q834 : (Jvm.Cond.methodLink "ProbeConsole$Parser" (182 : Nat) ({ cls := "ProbeConsole$Parser", name := "signed", desc := "()LProbeConsole$Node;" } : Jvm.MethodName)) ∈ lw_all := lw_g (lw_at lw_m3 239 rfl) rfl
theorem q835 : (Jvm.Cond.privateMethod ({ cls := "ProbeConsole$Parser", name := "signed", desc := "()LProbeConsole$Node;" } : Jvm.MethodName)) ∈ lw_tbl := lw_at lw_m4 0 rfl
theorem q836 : (Jvm.Cond.instanceMethod ({ cls := "ProbeConsole$Parser", name := "signed", desc := "()LProbeConsole$Node;" } : Jvm.MethodName)) ∈ lw_all := lw_g (lw_at lw_m4 1 rfl) rfl
theorem q837 : (Jvm.Cond.code ({ cls := "ProbeConsole$Parser", name := "signed", desc := "()LProbeConsole$Node;" } : Jvm.MethodName) prog_9_method_18_code (3 : Nat) (Option.some (Jvm.ClassFile.FieldType.object "ProbeConsole$Node"))) ∈ lw_all := lw_g (lw_at lw_m4 2 rfl) rfl
theorem q838 : (Jvm.Cond.methodLink "ProbeConsole$Parser" (173 : Nat) ({ cls := "ProbeConsole$Parser", name := "single", desc := "()LProbeConsole$Node;" } : Jvm.MethodName)) ∈ lw_all := lw_g (lw_at lw_m4 3 rfl) rfl
theorem q839 : (Jvm.Cond.privateMethod ({ cls := "ProbeConsole$Parser", name := "single", desc := "()LProbeConsole$Node;" } : Jvm.MethodName)) ∈ lw_tbl := lw_at lw_m4 4 rfl
theorem q840 : (Jvm.Cond.instanceMethod ({ cls := "ProbeConsole$Parser", name := "single", desc := "()LProbeConsole$Node;" } : Jvm.MethodName)) ∈ lw_all := lw_g (lw_at lw_m4 5 rfl) rfl
theorem q841 : (Jvm.Cond.code ({ cls := "ProbeConsole$Parser", name := "single", desc := "()LProbeConsole$Node;" } : Jvm.MethodName) prog_9_method_17_code (3 : Nat) (Option.some (Jvm.ClassFile.FieldType.object "ProbeConsole$Node"))) ∈ lw_all := lw_g (lw_at lw_m4 6 rfl) rfl
theorem q842 : (Jvm.Cond.methodLink "ProbeConsole$Parser" (127 : Nat) ({ cls := "ProbeConsole$Parser", name := "opens", desc := "()V" } : Jvm.MethodName)) ∈ lw_all := lw_g (lw_at lw_m4 7 rfl) rfl
theorem q843 : (Jvm.Cond.privateMethod ({ cls := "ProbeConsole$Parser", name := "opens", desc := "()V" } : Jvm.MethodName)) ∈ lw_tbl := lw_at lw_m4 8 rfl
theorem q844 : (Jvm.Cond.instanceMethod ({ cls := "ProbeConsole$Parser", name := "opens", desc := "()V" } : Jvm.MethodName)) ∈ lw_all := lw_g (lw_at lw_m4 9 rfl) rfl
theorem q845 : (Jvm.Cond.code ({ cls := "ProbeConsole$Parser", name := "opens", desc := "()V" } : Jvm.MethodName) prog_9_method_15_code (1 : Nat) (Option.none : Option Jvm.ClassFile.FieldType)) ∈ lw_all := lw_g (lw_at lw_m4 10 rfl) rfl
theorem q846 : (Jvm.Cond.methodLink "ProbeConsole$Parser" (149 : Nat) ({ cls := "ProbeConsole$Parser", name := "closes", desc := "()V" } : Jvm.MethodName)) ∈ lw_all := lw_g (lw_at lw_m4 11 rfl) rfl
theorem q847 : (Jvm.Cond.privateMethod ({ cls := "ProbeConsole$Parser", name := "closes", desc := "()V" } : Jvm.MethodName)) ∈ lw_tbl := lw_at lw_m4 12 rfl
theorem q848 : (Jvm.Cond.instanceMethod ({ cls := "ProbeConsole$Parser", name := "closes", desc := "()V" } : Jvm.MethodName)) ∈ lw_all := lw_g (lw_at lw_m4 13 rfl) rfl
theorem q849 : (Jvm.Cond.code ({ cls := "ProbeConsole$Parser", name := "closes", desc := "()V" } : Jvm.MethodName) prog_9_method_16_code (1 : Nat) (Option.none : Option Jvm.ClassFile.FieldType)) ∈ lw_all := lw_g (lw_at lw_m4 14 rfl) rfl
theorem q850 : (Jvm.Cond.methodLink "ProbeConsole$Parser" (53 : Nat) ({ cls := "ProbeConsole$Parser", name := "isFigure", desc := "()Z" } : Jvm.MethodName)) ∈ lw_all := lw_g (lw_at lw_m4 15 rfl) rfl
theorem q851 : (Jvm.Cond.privateMethod ({ cls := "ProbeConsole$Parser", name := "isFigure", desc := "()Z" } : Jvm.MethodName)) ∈ lw_tbl := lw_at lw_m4 16 rfl
theorem q852 : (Jvm.Cond.instanceMethod ({ cls := "ProbeConsole$Parser", name := "isFigure", desc := "()Z" } : Jvm.MethodName)) ∈ lw_all := lw_g (lw_at lw_m4 17 rfl) rfl
theorem q853 : (Jvm.Cond.code ({ cls := "ProbeConsole$Parser", name := "isFigure", desc := "()Z" } : Jvm.MethodName) prog_9_method_8_code (1 : Nat) (Option.some Jvm.ClassFile.FieldType.boolean)) ∈ lw_all := lw_g (lw_at lw_m4 18 rfl) rfl
theorem q854 : (Jvm.Cond.methodLink "ProbeConsole$Parser" (159 : Nat) ({ cls := "ProbeConsole$Parser", name := "node", desc := "(I)V" } : Jvm.MethodName)) ∈ lw_all := lw_g (lw_at lw_m4 19 rfl) rfl
theorem q855 : (Jvm.Cond.privateMethod ({ cls := "ProbeConsole$Parser", name := "node", desc := "(I)V" } : Jvm.MethodName)) ∈ lw_tbl := lw_at lw_m4 20 rfl
theorem q856 : (Jvm.Cond.instanceMethod ({ cls := "ProbeConsole$Parser", name := "node", desc := "(I)V" } : Jvm.MethodName)) ∈ lw_all := lw_g (lw_at lw_m4 21 rfl) rfl
theorem q857 : (Jvm.Cond.code ({ cls := "ProbeConsole$Parser", name := "node", desc := "(I)V" } : Jvm.MethodName) prog_9_method_11_code (2 : Nat) (Option.none : Option Jvm.ClassFile.FieldType)) ∈ lw_all := lw_g (lw_at lw_m4 22 rfl) rfl
theorem q858 : (Jvm.Cond.classLink "ProbeConsole$Parser" (105 : Nat) "ProbeConsole$Node") ∈ lw_all := lw_g (lw_at lw_m4 23 rfl) rfl
theorem q860 : (Jvm.Cond.fieldLink "ProbeConsole$Parser" (162 : Nat) "ProbeConsole$Kind" "NUMBER" "LProbeConsole$Kind;") ∈ lw_all := lw_g (lw_at lw_m4 25 rfl) rfl
theorem q862 : (Jvm.Cond.constant "ProbeConsole$Parser" (165 : Nat) (2147483647 : Int32)) ∈ lw_all := lw_g (lw_at lw_m4 27 rfl) rfl
theorem q863 : (Jvm.Cond.methodLink "ProbeConsole$Parser" (166 : Nat) ({ cls := "ProbeConsole$Parser", name := "number", desc := "(I)I" } : Jvm.MethodName)) ∈ lw_all := lw_g (lw_at lw_m4 28 rfl) rfl
theorem q864 : (Jvm.Cond.privateMethod ({ cls := "ProbeConsole$Parser", name := "number", desc := "(I)I" } : Jvm.MethodName)) ∈ lw_tbl := lw_at lw_m4 29 rfl
theorem q865 : (Jvm.Cond.instanceMethod ({ cls := "ProbeConsole$Parser", name := "number", desc := "(I)I" } : Jvm.MethodName)) ∈ lw_all := lw_g (lw_at lw_m4 30 rfl) rfl
theorem q866 : (Jvm.Cond.code ({ cls := "ProbeConsole$Parser", name := "number", desc := "(I)I" } : Jvm.MethodName) prog_9_method_10_code (5 : Nat) (Option.some Jvm.ClassFile.FieldType.int)) ∈ lw_all := lw_g (lw_at lw_m4 31 rfl) rfl
theorem q867 : (Jvm.Cond.constantLong "ProbeConsole$Parser" (57 : Nat) (2147483648 : Int64)) ∈ lw_all := lw_g (lw_at lw_m4 32 rfl) rfl
theorem q868 : (Jvm.Cond.constantLong "ProbeConsole$Parser" (59 : Nat) (10 : Int64)) ∈ lw_all := lw_g (lw_at lw_m4 33 rfl) rfl
theorem q869 : (Jvm.Cond.constantLong "ProbeConsole$Parser" (61 : Nat) (48 : Int64)) ∈ lw_all := lw_g (lw_at lw_m4 34 rfl) rfl
theorem q870 : (Jvm.Cond.methodLink "ProbeConsole$Parser" (63 : Nat) ({ cls := "java/lang/Math", name := "min", desc := "(JJ)J" } : Jvm.MethodName)) ∈ lw_all := lw_g (lw_at lw_m4 35 rfl) rfl
theorem q873 : (Jvm.Cond.methodLink "ProbeConsole$Parser" (113 : Nat) ({ cls := "ProbeConsole$Node", name := "<init>", desc := "(LProbeConsole$Kind;ILjava/lang/String;)V" } : Jvm.MethodName)) ∈ lw_all := lw_g (lw_at lw_m4 38 rfl) rfl
theorem q901 : (Jvm.Cond.fieldLinkNest "ProbeConsole$Parser" (130 : Nat) "ProbeConsole$Node" "parts" "Ljava/util/List;" "ProbeConsole") ∈ lw_tbl := lw_at lw_m4 66 rfl
theorem q911 : (Jvm.Cond.methodLink "ProbeConsole$Parser" (169 : Nat) ({ cls := "ProbeConsole$Parser", name := "named", desc := "(I)LProbeConsole$Node;" } : Jvm.MethodName)) ∈ lw_all := lw_g (lw_at lw_m4 76 rfl) rfl
theorem q912 : (Jvm.Cond.privateMethod ({ cls := "ProbeConsole$Parser", name := "named", desc := "(I)LProbeConsole$Node;" } : Jvm.MethodName)) ∈ lw_tbl := lw_at lw_m4 77 rfl
theorem q913 : (Jvm.Cond.instanceMethod ({ cls := "ProbeConsole$Parser", name := "named", desc := "(I)LProbeConsole$Node;" } : Jvm.MethodName)) ∈ lw_all := lw_g (lw_at lw_m4 78 rfl) rfl
theorem q914 : (Jvm.Cond.code ({ cls := "ProbeConsole$Parser", name := "named", desc := "(I)LProbeConsole$Node;" } : Jvm.MethodName) prog_9_method_14_code (6 : Nat) (Option.some (Jvm.ClassFile.FieldType.object "ProbeConsole$Node"))) ∈ lw_all := lw_g (lw_at lw_m4 79 rfl) rfl
theorem q915 : (Jvm.Cond.methodLink "ProbeConsole$Parser" (101 : Nat) ({ cls := "java/lang/String", name := "indexOf", desc := "(I)I" } : Jvm.MethodName)) ∈ lw_all := lw_g (lw_at lw_m4 80 rfl) rfl
theorem q960 : (Jvm.Cond.fieldLink "ProbeConsole$Parser" (107 : Nat) "ProbeConsole$Kind" "VARIABLE" "LProbeConsole$Kind;") ∈ lw_all := lw_g (lw_at lw_m4 125 rfl) rfl
theorem q962 : (Jvm.Cond.fieldLink "ProbeConsole$Parser" (124 : Nat) "ProbeConsole$Kind" "INVOKE" "LProbeConsole$Kind;") ∈ lw_all := lw_g (lw_at lw_m4 127 rfl) rfl
theorem q964 : (Jvm.Cond.interfaceEntry "ProbeConsole$Parser" (134 : Nat)) ∈ lw_tbl := lw_at lw_m4 129 rfl
theorem q965 : (Jvm.Cond.methodLink "ProbeConsole$Parser" (134 : Nat) ({ cls := "java/util/List", name := "size", desc := "()I" } : Jvm.MethodName)) ∈ lw_all := lw_g (lw_at lw_m4 130 rfl) rfl
theorem q966 : (Jvm.Cond.methodLink "ProbeConsole$Parser" (142 : Nat) ({ cls := "ProbeConsole$Node", name := "with", desc := "(LProbeConsole$Node;)LProbeConsole$Node;" } : Jvm.MethodName)) ∈ lw_all := lw_g (lw_at lw_m4 131 rfl) rfl
theorem q1006 : (Jvm.Cond.selects "ProbeConsole$Parser" ({ cls := "java/lang/Object", name := "getClass", desc := "()Ljava/lang/Class;" } : Jvm.MethodName) ({ cls := "java/lang/Object", name := "getClass", desc := "()Ljava/lang/Class;" } : Jvm.MethodName)) ∈ lw_all := lw_g (lw_at lw_m4 171 rfl) rfl
theorem q1031 : (Jvm.Cond.methodLink "ProbeConsole$Parser" (146 : Nat) ({ cls := "ProbeConsole$Parser", name := "goesOver", desc := "(I)Z" } : Jvm.MethodName)) ∈ lw_all := lw_g (lw_at lw_m4 196 rfl) rfl
theorem q1032 : (Jvm.Cond.privateMethod ({ cls := "ProbeConsole$Parser", name := "goesOver", desc := "(I)Z" } : Jvm.MethodName)) ∈ lw_tbl := lw_at lw_m4 197 rfl
theorem q1033 : (Jvm.Cond.instanceMethod ({ cls := "ProbeConsole$Parser", name := "goesOver", desc := "(I)Z" } : Jvm.MethodName)) ∈ lw_all := lw_g (lw_at lw_m4 198 rfl) rfl
theorem q1034 : (Jvm.Cond.code ({ cls := "ProbeConsole$Parser", name := "goesOver", desc := "(I)Z" } : Jvm.MethodName) prog_9_method_5_code (3 : Nat) (Option.some Jvm.ClassFile.FieldType.boolean)) ∈ lw_all := lw_g (lw_at lw_m4 199 rfl) rfl
theorem q1035 : (Jvm.Cond.fieldLink "ProbeConsole$Parser" (176 : Nat) "ProbeConsole$Kind" "LESS_BY" "LProbeConsole$Kind;") ∈ lw_all := lw_g (lw_at lw_m4 200 rfl) rfl
theorem q1037 : (Jvm.Cond.fieldLink "ProbeConsole$Parser" (179 : Nat) "ProbeConsole$Kind" "THROW" "LProbeConsole$Kind;") ∈ lw_all := lw_g (lw_at lw_m4 202 rfl) rfl
theorem q1039 : (Jvm.Cond.stringRef "ProbeConsole$Parser" (192 : Nat) "*/%") ∈ lw_tbl := lw_at lw_m4 204 rfl
theorem q1040 : (Jvm.Cond.fieldLink "ProbeConsole$Parser" (194 : Nat) "ProbeConsole$Kind" "MUL" "LProbeConsole$Kind;") ∈ lw_all := lw_g (lw_at lw_m4 205 rfl) rfl
theorem q1042 : (Jvm.Cond.methodLink "ProbeConsole$Parser" (197 : Nat) ({ cls := "ProbeConsole$Parser", name := "signOf", desc := "(Ljava/lang/String;LProbeConsole$Kind;)LProbeConsole$Kind;" } : Jvm.MethodName)) ∈ lw_all := lw_g (lw_at lw_m4 207 rfl) rfl
theorem q1043 : (Jvm.Cond.privateMethod ({ cls := "ProbeConsole$Parser", name := "signOf", desc := "(Ljava/lang/String;LProbeConsole$Kind;)LProbeConsole$Kind;" } : Jvm.MethodName)) ∈ lw_tbl := lw_at lw_m4 208 rfl
theorem q1044 : (Jvm.Cond.instanceMethod ({ cls := "ProbeConsole$Parser", name := "signOf", desc := "(Ljava/lang/String;LProbeConsole$Kind;)LProbeConsole$Kind;" } : Jvm.MethodName)) ∈ lw_all := lw_g (lw_at lw_m4 209 rfl) rfl
theorem q1045 : (Jvm.Cond.code ({ cls := "ProbeConsole$Parser", name := "signOf", desc := "(Ljava/lang/String;LProbeConsole$Kind;)LProbeConsole$Kind;" } : Jvm.MethodName) prog_9_method_19_code (4 : Nat) (Option.some (Jvm.ClassFile.FieldType.object "ProbeConsole$Kind"))) ∈ lw_all := lw_g (lw_at lw_m4 210 rfl) rfl
theorem q1046 : (Jvm.Cond.methodLink "ProbeConsole$Parser" (185 : Nat) ({ cls := "ProbeConsole$Kind", name := "values", desc := "()[LProbeConsole$Kind;" } : Jvm.MethodName)) ∈ lw_all := lw_g (lw_at lw_m4 211 rfl) rfl
theorem q1057 : (Jvm.Cond.methodLink "ProbeConsole$Parser" (189 : Nat) ({ cls := "ProbeConsole$Kind", name := "ordinal", desc := "()I" } : Jvm.MethodName)) ∈ lw_all := lw_g (lw_at lw_m4 222 rfl) rfl
theorem q1063 : (Jvm.Cond.stringRef "ProbeConsole$Parser" (204 : Nat) "+-") ∈ lw_tbl := lw_at lw_m4 228 rfl
theorem q1064 : (Jvm.Cond.fieldLink "ProbeConsole$Parser" (206 : Nat) "ProbeConsole$Kind" "ADD" "LProbeConsole$Kind;") ∈ lw_all := lw_g (lw_at lw_m4 229 rfl) rfl
theorem q1066 : (Jvm.Cond.stringRef "ProbeConsole$Parser" (212 : Nat) "<=>") ∈ lw_tbl := lw_at lw_m4 231 rfl
theorem q1067 : (Jvm.Cond.fieldLink "ProbeConsole$Parser" (214 : Nat) "ProbeConsole$Kind" "LESS" "LProbeConsole$Kind;") ∈ lw_all := lw_g (lw_at lw_m4 232 rfl) rfl
theorem q1069 : (Jvm.Cond.fieldLink "ProbeConsole$Parser" (220 : Nat) "ProbeConsole$Kind" "CHOOSE" "LProbeConsole$Kind;") ∈ lw_all := lw_g (lw_at lw_m4 234 rfl) rfl
theorem q1071 : (Jvm.Cond.fieldLink "ProbeConsole$Parser" (226 : Nat) "ProbeConsole$Kind" "CATCH" "LProbeConsole$Kind;") ∈ lw_all := lw_g (lw_at lw_m4 236 rfl) rfl
theorem q1073 : (Jvm.Cond.classLink "ProbeConsole$Parser" (240 : Nat) "ProbeConsole$Method") ∈ lw_all := lw_g (lw_at lw_m4 238 rfl) rfl
theorem q1075 : (Jvm.Cond.methodLink "ProbeConsole$Parser" (242 : Nat) ({ cls := "ProbeConsole$Method", name := "<init>", desc := "(ILjava/lang/String;ILProbeConsole$Node;)V" } : Jvm.MethodName)) ∈ lw_all := lw_g (lw_at lw_m5 0 rfl) rfl
theorem q1142 : (Jvm.Cond.selects "ProbeConsole$Parser" ({ cls := "java/lang/Object", name := "hashCode", desc := "()I" } : Jvm.MethodName) ({ cls := "java/lang/Object", name := "hashCode", desc := "()I" } : Jvm.MethodName)) ∈ lw_all := lw_g (lw_at lw_m5 67 rfl) rfl
theorem q1233 : (Jvm.Cond.selects "ProbeConsole$Parser" ({ cls := "java/lang/Object", name := "equals", desc := "(Ljava/lang/Object;)Z" } : Jvm.MethodName) ({ cls := "java/lang/Object", name := "equals", desc := "(Ljava/lang/Object;)Z" } : Jvm.MethodName)) ∈ lw_all := lw_g (lw_at lw_m5 158 rfl) rfl
theorem q1765 : (Jvm.Cond.instanceMethod ({ cls := "ProbeConsole$Parser", name := "word", desc := "([Ljava/lang/String;)I" } : Jvm.MethodName)) ∈ lw_all := lw_g (lw_at lw_m7 210 rfl) rfl
theorem q1766 : (Jvm.Cond.selects "ProbeConsole$Parser" ({ cls := "ProbeConsole$Parser", name := "word", desc := "([Ljava/lang/String;)I" } : Jvm.MethodName) ({ cls := "ProbeConsole$Parser", name := "word", desc := "([Ljava/lang/String;)I" } : Jvm.MethodName)) ∈ lw_all := lw_g (lw_at lw_m7 211 rfl) rfl
theorem q1767 : (Jvm.Cond.code ({ cls := "ProbeConsole$Parser", name := "word", desc := "([Ljava/lang/String;)I" } : Jvm.MethodName) prog_9_method_29_code (5 : Nat) (Option.some Jvm.ClassFile.FieldType.int)) ∈ lw_all := lw_g (lw_at lw_m7 212 rfl) rfl
theorem q1768 : (Jvm.Cond.methodLink "ProbeConsole$Parser" (245 : Nat) ({ cls := "ProbeConsole$Parser", name := "blanks", desc := "()V" } : Jvm.MethodName)) ∈ lw_all := lw_g (lw_at lw_m7 213 rfl) rfl
theorem q1769 : (Jvm.Cond.instanceMethod ({ cls := "ProbeConsole$Parser", name := "blanks", desc := "()V" } : Jvm.MethodName)) ∈ lw_all := lw_g (lw_at lw_m7 214 rfl) rfl
theorem q1770 : (Jvm.Cond.selects "ProbeConsole$Parser" ({ cls := "ProbeConsole$Parser", name := "blanks", desc := "()V" } : Jvm.MethodName) ({ cls := "ProbeConsole$Parser", name := "blanks", desc := "()V" } : Jvm.MethodName)) ∈ lw_all := lw_g (lw_at lw_m7 215 rfl) rfl
theorem q1771 : (Jvm.Cond.code ({ cls := "ProbeConsole$Parser", name := "blanks", desc := "()V" } : Jvm.MethodName) prog_9_method_27_code (1 : Nat) (Option.none : Option Jvm.ClassFile.FieldType)) ∈ lw_all := lw_g (lw_at lw_m7 216 rfl) rfl
theorem q1772 : (Jvm.Cond.methodLink "ProbeConsole$Parser" (248 : Nat) ({ cls := "ProbeConsole$Parser", name := "isBehindWord", desc := "()Z" } : Jvm.MethodName)) ∈ lw_all := lw_g (lw_at lw_m7 217 rfl) rfl
theorem q1773 : (Jvm.Cond.privateMethod ({ cls := "ProbeConsole$Parser", name := "isBehindWord", desc := "()Z" } : Jvm.MethodName)) ∈ lw_tbl := lw_at lw_m7 218 rfl
theorem q1774 : (Jvm.Cond.instanceMethod ({ cls := "ProbeConsole$Parser", name := "isBehindWord", desc := "()Z" } : Jvm.MethodName)) ∈ lw_all := lw_g (lw_at lw_m7 219 rfl) rfl
theorem q1775 : (Jvm.Cond.code ({ cls := "ProbeConsole$Parser", name := "isBehindWord", desc := "()Z" } : Jvm.MethodName) prog_9_method_28_code (1 : Nat) (Option.some Jvm.ClassFile.FieldType.boolean)) ∈ lw_all := lw_g (lw_at lw_m7 220 rfl) rfl
theorem q1776 : (Jvm.Cond.methodLink "ProbeConsole$Parser" (251 : Nat) ({ cls := "java/lang/String", name := "equals", desc := "(Ljava/lang/Object;)Z" } : Jvm.MethodName)) ∈ lw_all := lw_g (lw_at lw_m7 221 rfl) rfl
theorem q1782 : (Jvm.Cond.privateMethod ({ cls := "ProbeConsole$Parser", name := "figures", desc := "()I" } : Jvm.MethodName)) ∈ lw_tbl := lw_at lw_m7 227 rfl
theorem q1783 : (Jvm.Cond.instanceMethod ({ cls := "ProbeConsole$Parser", name := "figures", desc := "()I" } : Jvm.MethodName)) ∈ lw_all := lw_g (lw_at lw_m7 228 rfl) rfl
theorem q1784 : (Jvm.Cond.code ({ cls := "ProbeConsole$Parser", name := "figures", desc := "()I" } : Jvm.MethodName) prog_9_method_32_code (2 : Nat) (Option.some Jvm.ClassFile.FieldType.int)) ∈ lw_all := lw_g (lw_at lw_m7 229 rfl) rfl
theorem q1786 : (Jvm.Cond.instanceMethod ({ cls := "ProbeConsole$Parser", name := "ends", desc := "()V" } : Jvm.MethodName)) ∈ lw_all := lw_g (lw_at lw_m7 231 rfl) rfl
theorem q1787 : (Jvm.Cond.selects "ProbeConsole$Parser" ({ cls := "ProbeConsole$Parser", name := "ends", desc := "()V" } : Jvm.MethodName) ({ cls := "ProbeConsole$Parser", name := "ends", desc := "()V" } : Jvm.MethodName)) ∈ lw_all := lw_g (lw_at lw_m7 232 rfl) rfl
theorem q1788 : (Jvm.Cond.code ({ cls := "ProbeConsole$Parser", name := "ends", desc := "()V" } : Jvm.MethodName) prog_9_method_34_code (1 : Nat) (Option.none : Option Jvm.ClassFile.FieldType)) ∈ lw_all := lw_g (lw_at lw_m7 233 rfl) rfl
theorem q1836 : (Jvm.Cond.instanceMethod ({ cls := "ProbeConsole$Parser", name := "job", desc := "(I)LProbeConsole$Job;" } : Jvm.MethodName)) ∈ lw_all := lw_g (lw_at lw_m8 41 rfl) rfl
theorem q1837 : (Jvm.Cond.selects "ProbeConsole$Parser" ({ cls := "ProbeConsole$Parser", name := "job", desc := "(I)LProbeConsole$Job;" } : Jvm.MethodName) ({ cls := "ProbeConsole$Parser", name := "job", desc := "(I)LProbeConsole$Job;" } : Jvm.MethodName)) ∈ lw_all := lw_g (lw_at lw_m8 42 rfl) rfl
theorem q1838 : (Jvm.Cond.code ({ cls := "ProbeConsole$Parser", name := "job", desc := "(I)LProbeConsole$Job;" } : Jvm.MethodName) prog_9_method_35_code (4 : Nat) (Option.some (Jvm.ClassFile.FieldType.object "ProbeConsole$Job"))) ∈ lw_all := lw_g (lw_at lw_m8 43 rfl) rfl
theorem q1839 : (Jvm.Cond.classLink "ProbeConsole$Parser" (90 : Nat) "java/lang/String") ∈ lw_all := lw_g (lw_at lw_m8 44 rfl) rfl
theorem q1840 : (Jvm.Cond.stringRef "ProbeConsole$Parser" (269 : Nat) "enter") ∈ lw_tbl := lw_at lw_m8 45 rfl
theorem q1841 : (Jvm.Cond.stringRef "ProbeConsole$Parser" (271 : Nat) "return") ∈ lw_tbl := lw_at lw_m8 46 rfl
theorem q1842 : (Jvm.Cond.stringRef "ProbeConsole$Parser" (273 : Nat) "throw") ∈ lw_tbl := lw_at lw_m8 47 rfl
theorem q1843 : (Jvm.Cond.methodLink "ProbeConsole$Parser" (275 : Nat) ({ cls := "ProbeConsole$Parser", name := "word", desc := "([Ljava/lang/String;)I" } : Jvm.MethodName)) ∈ lw_all := lw_g (lw_at lw_m8 48 rfl) rfl
theorem q1844 : (Jvm.Cond.classLink "ProbeConsole$Parser" (259 : Nat) "ProbeConsole$Job") ∈ lw_all := lw_g (lw_at lw_m8 49 rfl) rfl
theorem q1846 : (Jvm.Cond.methodLink "ProbeConsole$Parser" (279 : Nat) ({ cls := "ProbeConsole$Parser", name := "pattern", desc := "()Ljava/lang/String;" } : Jvm.MethodName)) ∈ lw_all := lw_g (lw_at lw_m8 51 rfl) rfl
theorem q1847 : (Jvm.Cond.privateMethod ({ cls := "ProbeConsole$Parser", name := "pattern", desc := "()Ljava/lang/String;" } : Jvm.MethodName)) ∈ lw_tbl := lw_at lw_m8 52 rfl
theorem q1848 : (Jvm.Cond.instanceMethod ({ cls := "ProbeConsole$Parser", name := "pattern", desc := "()Ljava/lang/String;" } : Jvm.MethodName)) ∈ lw_all := lw_g (lw_at lw_m8 53 rfl) rfl
theorem q1849 : (Jvm.Cond.code ({ cls := "ProbeConsole$Parser", name := "pattern", desc := "()Ljava/lang/String;" } : Jvm.MethodName) prog_9_method_30_code (2 : Nat) (Option.some (Jvm.ClassFile.FieldType.object "java/lang/String"))) ∈ lw_all := lw_g (lw_at lw_m8 54 rfl) rfl
theorem q1850 : (Jvm.Cond.methodLink "ProbeConsole$Parser" (282 : Nat) ({ cls := "ProbeConsole$Job", name := "<init>", desc := "(ILjava/lang/String;)V" } : Jvm.MethodName)) ∈ lw_all := lw_g (lw_at lw_m8 55 rfl) rfl
theorem q1859 : (Jvm.Cond.fieldLinkNest "ProbeConsole$Parser" (285 : Nat) "ProbeConsole$Job" "point" "I" "ProbeConsole") ∈ lw_tbl := lw_at lw_m8 64 rfl
theorem q1861 : (Jvm.Cond.fieldLinkNest "ProbeConsole$Parser" (258 : Nat) "ProbeConsole$Job" "expression" "LProbeConsole$Node;" "ProbeConsole") ∈ lw_tbl := lw_at lw_m8 66 rfl
theorem q1863 : (Jvm.Cond.fieldLinkNest "ProbeConsole$Parser" (263 : Nat) "ProbeConsole$Job" "condition" "LProbeConsole$Node;" "ProbeConsole") ∈ lw_tbl := lw_at lw_m8 68 rfl
theorem q1867 : (Jvm.Cond.fieldLinkNest "ProbeConsole$Parser" (266 : Nat) "ProbeConsole$Job" "limit" "I" "ProbeConsole") ∈ lw_tbl := lw_at lw_m8 72 rfl
theorem q1890 : (Jvm.Cond.methodLink "ProbeConsole$Parser" (288 : Nat) ({ cls := "ProbeConsole$Parser", name := "watch", desc := "(LProbeConsole$Job;)V" } : Jvm.MethodName)) ∈ lw_all := lw_g (lw_at lw_m8 95 rfl) rfl
theorem q1891 : (Jvm.Cond.privateMethod ({ cls := "ProbeConsole$Parser", name := "watch", desc := "(LProbeConsole$Job;)V" } : Jvm.MethodName)) ∈ lw_tbl := lw_at lw_m8 96 rfl
theorem q1892 : (Jvm.Cond.instanceMethod ({ cls := "ProbeConsole$Parser", name := "watch", desc := "(LProbeConsole$Job;)V" } : Jvm.MethodName)) ∈ lw_all := lw_g (lw_at lw_m8 97 rfl) rfl
theorem q1893 : (Jvm.Cond.code ({ cls := "ProbeConsole$Parser", name := "watch", desc := "(LProbeConsole$Job;)V" } : Jvm.MethodName) prog_9_method_33_code (3 : Nat) (Option.none : Option Jvm.ClassFile.FieldType)) ∈ lw_all := lw_g (lw_at lw_m8 98 rfl) rfl
theorem q1894 : (Jvm.Cond.methodLink "ProbeConsole$Parser" (255 : Nat) ({ cls := "ProbeConsole$Parser", name := "probe", desc := "()LProbeConsole$Node;" } : Jvm.MethodName)) ∈ lw_all := lw_g (lw_at lw_m8 99 rfl) rfl
theorem q1895 : (Jvm.Cond.privateMethod ({ cls := "ProbeConsole$Parser", name := "probe", desc := "()LProbeConsole$Node;" } : Jvm.MethodName)) ∈ lw_tbl := lw_at lw_m8 100 rfl
theorem q1896 : (Jvm.Cond.instanceMethod ({ cls := "ProbeConsole$Parser", name := "probe", desc := "()LProbeConsole$Node;" } : Jvm.MethodName)) ∈ lw_all := lw_g (lw_at lw_m8 101 rfl) rfl
theorem q1897 : (Jvm.Cond.code ({ cls := "ProbeConsole$Parser", name := "probe", desc := "()LProbeConsole$Node;" } : Jvm.MethodName) prog_9_method_31_code (2 : Nat) (Option.some (Jvm.ClassFile.FieldType.object "ProbeConsole$Node"))) ∈ lw_all := lw_g (lw_at lw_m8 102 rfl) rfl
theorem q1898 : (Jvm.Cond.methodLink "ProbeConsole$Parser" (292 : Nat) ({ cls := "ProbeConsole$Parser", name := "ends", desc := "()V" } : Jvm.MethodName)) ∈ lw_all := lw_g (lw_at lw_m8 103 rfl) rfl
theorem q2793 : (Jvm.Cond.castable "ProbeConsole$Parser" "java/lang/Object") ∈ lw_tbl := lw_at lw_m12 38 rfl
theorem in_X2 : ∀ w ∈ wsX20, w ∈ lw_all := lw_in wsX20 [191, 193, 195, 197, 199, 201, 203, 205, 207] (by decide +kernel) (by decide +kernel)
