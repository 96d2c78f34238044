set_option maxRecDepth 100000
def dkwJ35_divide_3 : List UInt8 := [173, 42, 31, 45, 182, 1, 6, 182, 1, 10, 173]
abbrev dktJ35_divide_3 : List UInt8 := dkwJ35_divide_3 ++ []
def dkwJ35_divide_2 : List UInt8 := [136, 54, 4, 45, 182, 0, 149, 21, 4, 154, 0, 16, 42, 31, 136, 45, 182, 0, 178, 133, 20, 0, 52, 127]
abbrev dktJ35_divide_2 : List UInt8 := dkwJ35_divide_2 ++ dktJ35_divide_3
def dkwJ35_divide_1 : List UInt8 := [45, 3, 90, 181, 0, 11, 181, 0, 21, 9, 173, 31, 9, 148, 156, 0, 6, 31, 117, 64, 31, 16, 32, 125]
abbrev dktJ35_divide_1 : List UInt8 := dkwJ35_divide_1 ++ dktJ35_divide_2
def dkwJ35_divide_0 : List UInt8 := [31, 9, 148, 154, 0, 13, 187, 0, 170, 89, 18, 172, 183, 0, 174, 191, 42, 180, 0, 21, 154, 0, 15, 45]
abbrev dktJ35_divide_0 : List UInt8 := dkwJ35_divide_0 ++ dktJ35_divide_1
theorem dksJ35_divide_0 : cJ35_divide.data.toList.drop 0 = dktJ35_divide_0 := by decide +kernel
theorem dksJ35_divide_1 : cJ35_divide.data.toList.drop 24 = dktJ35_divide_1 := dk_seg dksJ35_divide_0 24 rfl rfl
theorem dksJ35_divide_2 : cJ35_divide.data.toList.drop 48 = dktJ35_divide_2 := dk_seg dksJ35_divide_1 24 rfl rfl
theorem dksJ35_divide_3 : cJ35_divide.data.toList.drop 72 = dktJ35_divide_3 := dk_seg dksJ35_divide_2 24 rfl rfl
theorem dJ35_divide_0 : decode cJ35_divide 0 = .ok (.lload_n 1, 1) := dk_31 (dk_at dksJ35_divide_0 0 rfl rfl)
theorem dJ35_divide_1 : decode cJ35_divide 1 = .ok (.lconst 0, 1) := dk_9 (dk_at dksJ35_divide_0 1 rfl rfl)
theorem dJ35_divide_2 : decode cJ35_divide 2 = .ok (.lcmp, 1) := dk_148 (dk_at dksJ35_divide_0 2 rfl rfl)
theorem dJ35_divide_3 : decode cJ35_divide 3 = .ok (.ifCond .ne 13, 3) := dk_154 0 13 (dk_at dksJ35_divide_0 3 rfl rfl)
theorem dJ35_divide_6 : decode cJ35_divide 6 = .ok (.new 170, 3) := dk_187 0 170 (dk_at dksJ35_divide_0 6 rfl rfl)
theorem dJ35_divide_9 : decode cJ35_divide 9 = .ok (.dup, 1) := dk_89 (dk_at dksJ35_divide_0 9 rfl rfl)
theorem dJ35_divide_10 : decode cJ35_divide 10 = .ok (.ldc 172, 2) := dk_18 172 (dk_at dksJ35_divide_0 10 rfl rfl)
theorem dJ35_divide_12 : decode cJ35_divide 12 = .ok (.invokespecial 174, 3) := dk_183 0 174 (dk_at dksJ35_divide_0 12 rfl rfl)
theorem dJ35_divide_15 : decode cJ35_divide 15 = .ok (.athrow, 1) := dk_191 (dk_at dksJ35_divide_0 15 rfl rfl)
theorem dJ35_divide_16 : decode cJ35_divide 16 = .ok (.aload_n 0, 1) := dk_42 (dk_at dksJ35_divide_0 16 rfl rfl)
theorem dJ35_divide_17 : decode cJ35_divide 17 = .ok (.getfield 21, 3) := dk_180 0 21 (dk_at dksJ35_divide_0 17 rfl rfl)
theorem dJ35_divide_20 : decode cJ35_divide 20 = .ok (.ifCond .ne 15, 3) := dk_154 0 15 (dk_at dksJ35_divide_0 20 rfl rfl)
theorem dJ35_divide_23 : decode cJ35_divide 23 = .ok (.aload_n 3, 1) := dk_45 (dk_at dksJ35_divide_0 23 rfl rfl)
theorem dJ35_divide_24 : decode cJ35_divide 24 = .ok (.aload_n 3, 1) := dk_45 (dk_at dksJ35_divide_1 0 rfl rfl)
theorem dJ35_divide_25 : decode cJ35_divide 25 = .ok (.iconst 0, 1) := dk_3 (dk_at dksJ35_divide_1 1 rfl rfl)
theorem dJ35_divide_26 : decode cJ35_divide 26 = .ok (.dup_x1, 1) := dk_90 (dk_at dksJ35_divide_1 2 rfl rfl)
theorem dJ35_divide_27 : decode cJ35_divide 27 = .ok (.putfield 11, 3) := dk_181 0 11 (dk_at dksJ35_divide_1 3 rfl rfl)
theorem dJ35_divide_30 : decode cJ35_divide 30 = .ok (.putfield 21, 3) := dk_181 0 21 (dk_at dksJ35_divide_1 6 rfl rfl)
theorem dJ35_divide_33 : decode cJ35_divide 33 = .ok (.lconst 0, 1) := dk_9 (dk_at dksJ35_divide_1 9 rfl rfl)
theorem dJ35_divide_34 : decode cJ35_divide 34 = .ok (.lreturn, 1) := dk_173 (dk_at dksJ35_divide_1 10 rfl rfl)
theorem dJ35_divide_35 : decode cJ35_divide 35 = .ok (.lload_n 1, 1) := dk_31 (dk_at dksJ35_divide_1 11 rfl rfl)
theorem dJ35_divide_36 : decode cJ35_divide 36 = .ok (.lconst 0, 1) := dk_9 (dk_at dksJ35_divide_1 12 rfl rfl)
theorem dJ35_divide_37 : decode cJ35_divide 37 = .ok (.lcmp, 1) := dk_148 (dk_at dksJ35_divide_1 13 rfl rfl)
theorem dJ35_divide_38 : decode cJ35_divide 38 = .ok (.ifCond .ge 6, 3) := dk_156 0 6 (dk_at dksJ35_divide_1 14 rfl rfl)
theorem dJ35_divide_41 : decode cJ35_divide 41 = .ok (.lload_n 1, 1) := dk_31 (dk_at dksJ35_divide_1 17 rfl rfl)
theorem dJ35_divide_42 : decode cJ35_divide 42 = .ok (.lneg, 1) := dk_117 (dk_at dksJ35_divide_1 18 rfl rfl)
theorem dJ35_divide_43 : decode cJ35_divide 43 = .ok (.lstore_n 1, 1) := dk_64 (dk_at dksJ35_divide_1 19 rfl rfl)
theorem dJ35_divide_44 : decode cJ35_divide 44 = .ok (.lload_n 1, 1) := dk_31 (dk_at dksJ35_divide_1 20 rfl rfl)
theorem dJ35_divide_45 : decode cJ35_divide 45 = .ok (.bipush 32, 2) := dk_16 32 (dk_at dksJ35_divide_1 21 rfl rfl)
theorem dJ35_divide_47 : decode cJ35_divide 47 = .ok (.lushr, 1) := dk_125 (dk_at dksJ35_divide_1 23 rfl rfl)
theorem dJ35_divide_48 : decode cJ35_divide 48 = .ok (.l2i, 1) := dk_136 (dk_at dksJ35_divide_2 0 rfl rfl)
theorem dJ35_divide_49 : decode cJ35_divide 49 = .ok (.istore 4, 2) := dk_54 4 (dk_at dksJ35_divide_2 1 rfl rfl)
theorem dJ35_divide_51 : decode cJ35_divide 51 = .ok (.aload_n 3, 1) := dk_45 (dk_at dksJ35_divide_2 3 rfl rfl)
theorem dJ35_divide_52 : decode cJ35_divide 52 = .ok (.invokevirtual 149, 3) := dk_182 0 149 (dk_at dksJ35_divide_2 4 rfl rfl)
theorem dJ35_divide_55 : decode cJ35_divide 55 = .ok (.iload 4, 2) := dk_21 4 (dk_at dksJ35_divide_2 7 rfl rfl)
theorem dJ35_divide_57 : decode cJ35_divide 57 = .ok (.ifCond .ne 16, 3) := dk_154 0 16 (dk_at dksJ35_divide_2 9 rfl rfl)
theorem dJ35_divide_60 : decode cJ35_divide 60 = .ok (.aload_n 0, 1) := dk_42 (dk_at dksJ35_divide_2 12 rfl rfl)
theorem dJ35_divide_61 : decode cJ35_divide 61 = .ok (.lload_n 1, 1) := dk_31 (dk_at dksJ35_divide_2 13 rfl rfl)
theorem dJ35_divide_62 : decode cJ35_divide 62 = .ok (.l2i, 1) := dk_136 (dk_at dksJ35_divide_2 14 rfl rfl)
theorem dJ35_divide_63 : decode cJ35_divide 63 = .ok (.aload_n 3, 1) := dk_45 (dk_at dksJ35_divide_2 15 rfl rfl)
theorem dJ35_divide_64 : decode cJ35_divide 64 = .ok (.invokevirtual 178, 3) := dk_182 0 178 (dk_at dksJ35_divide_2 16 rfl rfl)
theorem dJ35_divide_67 : decode cJ35_divide 67 = .ok (.i2l, 1) := dk_133 (dk_at dksJ35_divide_2 19 rfl rfl)
theorem dJ35_divide_68 : decode cJ35_divide 68 = .ok (.ldc2_w 52, 3) := dk_20 0 52 (dk_at dksJ35_divide_2 20 rfl rfl)
theorem dJ35_divide_71 : decode cJ35_divide 71 = .ok (.land, 1) := dk_127 (dk_at dksJ35_divide_2 23 rfl rfl)
theorem dJ35_divide_72 : decode cJ35_divide 72 = .ok (.lreturn, 1) := dk_173 (dk_at dksJ35_divide_3 0 rfl rfl)
theorem dJ35_divide_73 : decode cJ35_divide 73 = .ok (.aload_n 0, 1) := dk_42 (dk_at dksJ35_divide_3 1 rfl rfl)
theorem dJ35_divide_74 : decode cJ35_divide 74 = .ok (.lload_n 1, 1) := dk_31 (dk_at dksJ35_divide_3 2 rfl rfl)
theorem dJ35_divide_75 : decode cJ35_divide 75 = .ok (.aload_n 3, 1) := dk_45 (dk_at dksJ35_divide_3 3 rfl rfl)
theorem dJ35_divide_76 : decode cJ35_divide 76 = .ok (.invokevirtual 262, 3) := dk_182 1 6 (dk_at dksJ35_divide_3 4 rfl rfl)
theorem dJ35_divide_79 : decode cJ35_divide 79 = .ok (.invokevirtual 266, 3) := dk_182 1 10 (dk_at dksJ35_divide_3 7 rfl rfl)
theorem dJ35_divide_82 : decode cJ35_divide 82 = .ok (.lreturn, 1) := dk_173 (dk_at dksJ35_divide_3 10 rfl rfl)
def dkwJ35_divideLongMagnitude_26 : List UInt8 := [182, 0, 64, 25, 4, 182, 0, 64, 25, 4, 176]
abbrev dktJ35_divideLongMagnitude_26 : List UInt8 := dkwJ35_divideLongMagnitude_26 ++ []
def dkwJ35_divideLongMagnitude_25 : List UInt8 := [21, 13, 21, 14, 79, 132, 13, 1, 167, 254, 110, 21, 8, 158, 0, 10, 25, 4, 21, 8, 182, 0, 108, 45]
abbrev dktJ35_divideLongMagnitude_25 : List UInt8 := dkwJ35_divideLongMagnitude_25 ++ dktJ35_divideLongMagnitude_26
def dkwJ35_divideLongMagnitude_24 : List UInt8 := [25, 4, 180, 0, 17, 21, 13, 4, 96, 25, 4, 180, 0, 11, 96, 182, 1, 41, 87, 132, 14, 255, 25, 7]
abbrev dktJ35_divideLongMagnitude_24 : List UInt8 := dkwJ35_divideLongMagnitude_24 ++ dktJ35_divideLongMagnitude_25
def dkwJ35_divideLongMagnitude_23 : List UInt8 := [180, 0, 11, 96, 182, 1, 37, 54, 20, 21, 20, 18, 88, 96, 21, 18, 164, 0, 30, 42, 21, 9, 21, 12]
abbrev dktJ35_divideLongMagnitude_23 : List UInt8 := dkwJ35_divideLongMagnitude_23 ++ dktJ35_divideLongMagnitude_24
def dkwJ35_divideLongMagnitude_22 : List UInt8 := [180, 0, 11, 96, 3, 79, 42, 25, 4, 180, 0, 17, 21, 9, 21, 12, 21, 14, 21, 13, 25, 4]
abbrev dktJ35_divideLongMagnitude_22 : List UInt8 := dkwJ35_divideLongMagnitude_22 ++ dktJ35_divideLongMagnitude_23
def dkwJ35_divideLongMagnitude_21 : List UInt8 := [22, 24, 22, 22, 182, 1, 17, 153, 0, 6, 132, 14, 255, 25, 4, 180, 0, 17, 21, 13, 25, 4]
abbrev dktJ35_divideLongMagnitude_21 : List UInt8 := dkwJ35_divideLongMagnitude_21 ++ dktJ35_divideLongMagnitude_22
def dkwJ35_divideLongMagnitude_20 : List UInt8 := [20, 0, 52, 127, 101, 55, 24, 21, 15, 133, 20, 0, 52, 127, 16, 32, 121, 22, 20, 129, 55, 22, 42]
abbrev dktJ35_divideLongMagnitude_20 : List UInt8 := dkwJ35_divideLongMagnitude_20 ++ dktJ35_divideLongMagnitude_21
def dkwJ35_divideLongMagnitude_19 : List UInt8 := [22, 10, 97, 136, 54, 15, 21, 15, 133, 20, 0, 52, 127, 22, 10, 148, 155, 0, 44, 22, 24, 21, 12, 133]
abbrev dktJ35_divideLongMagnitude_19 : List UInt8 := dkwJ35_divideLongMagnitude_19 ++ dktJ35_divideLongMagnitude_20
def dkwJ35_divideLongMagnitude_18 : List UInt8 := [55, 24, 42, 22, 24, 22, 22, 182, 1, 17, 153, 0, 73, 132, 14, 255, 21, 15, 133, 20, 0, 52, 127]
abbrev dktJ35_divideLongMagnitude_18 : List UInt8 := dkwJ35_divideLongMagnitude_18 ++ dktJ35_divideLongMagnitude_19
def dkwJ35_divideLongMagnitude_17 : List UInt8 := [127, 16, 32, 121, 22, 20, 129, 55, 22, 21, 12, 133, 20, 0, 52, 127, 21, 14, 133, 20, 0, 52, 127, 105]
abbrev dktJ35_divideLongMagnitude_17 : List UInt8 := dkwJ35_divideLongMagnitude_17 ++ dktJ35_divideLongMagnitude_18
def dkwJ35_divideLongMagnitude_16 : List UInt8 := [21, 13, 5, 96, 25, 4, 180, 0, 11, 96, 46, 133, 20, 0, 52, 127, 55, 20, 21, 15, 133, 20, 0, 52]
abbrev dktJ35_divideLongMagnitude_16 : List UInt8 := dkwJ35_divideLongMagnitude_16 ++ dktJ35_divideLongMagnitude_17
def dkwJ35_divideLongMagnitude_15 : List UInt8 := [16, 32, 125, 136, 54, 15, 21, 14, 154, 0, 6, 167, 0, 228, 21, 16, 154, 0, 139, 25, 4, 180, 0, 17]
abbrev dktJ35_divideLongMagnitude_15 : List UInt8 := dkwJ35_divideLongMagnitude_15 ++ dktJ35_divideLongMagnitude_16
def dkwJ35_divideLongMagnitude_14 : List UInt8 := [167, 0, 29, 22, 20, 21, 9, 184, 0, 155, 55, 22, 22, 22, 20, 0, 52, 127, 136, 54, 14, 22, 22]
abbrev dktJ35_divideLongMagnitude_14 : List UInt8 := dkwJ35_divideLongMagnitude_14 ++ dktJ35_divideLongMagnitude_15
def dkwJ35_divideLongMagnitude_13 : List UInt8 := [155, 0, 26, 22, 20, 22, 10, 109, 136, 54, 14, 22, 20, 21, 14, 133, 22, 10, 105, 101, 136, 54, 15]
abbrev dktJ35_divideLongMagnitude_13 : List UInt8 := dkwJ35_divideLongMagnitude_13 ++ dktJ35_divideLongMagnitude_14
def dkwJ35_divideLongMagnitude_12 : List UInt8 := [167, 0, 75, 21, 17, 133, 16, 32, 121, 21, 19, 133, 20, 0, 52, 127, 129, 55, 20, 22, 20, 9, 148]
abbrev dktJ35_divideLongMagnitude_12 : List UInt8 := dkwJ35_divideLongMagnitude_12 ++ dktJ35_divideLongMagnitude_13
def dkwJ35_divideLongMagnitude_11 : List UInt8 := [21, 17, 21, 19, 96, 54, 15, 21, 15, 18, 88, 96, 21, 18, 162, 0, 7, 4, 167, 0, 4, 3, 54, 16]
abbrev dktJ35_divideLongMagnitude_11 : List UInt8 := dkwJ35_divideLongMagnitude_11 ++ dktJ35_divideLongMagnitude_12
def dkwJ35_divideLongMagnitude_10 : List UInt8 := [21, 13, 4, 96, 25, 4, 180, 0, 11, 96, 46, 54, 19, 21, 17, 21, 9, 160, 0, 33, 2, 54, 14]
abbrev dktJ35_divideLongMagnitude_10 : List UInt8 := dkwJ35_divideLongMagnitude_10 ++ dktJ35_divideLongMagnitude_11
def dkwJ35_divideLongMagnitude_9 : List UInt8 := [21, 13, 25, 4, 180, 0, 11, 96, 46, 54, 17, 21, 17, 18, 88, 96, 54, 18, 25, 4, 180, 0, 17]
abbrev dktJ35_divideLongMagnitude_9 : List UInt8 := dkwJ35_divideLongMagnitude_9 ++ dktJ35_divideLongMagnitude_10
def dkwJ35_divideLongMagnitude_8 : List UInt8 := [54, 13, 21, 13, 21, 6, 162, 1, 145, 3, 54, 14, 3, 54, 15, 3, 54, 16, 25, 4, 180, 0, 17]
abbrev dktJ35_divideLongMagnitude_8 : List UInt8 := dkwJ35_divideLongMagnitude_8 ++ dktJ35_divideLongMagnitude_9
def dkwJ35_divideLongMagnitude_7 : List UInt8 := [16, 32, 125, 136, 54, 9, 21, 9, 133, 20, 0, 52, 127, 55, 10, 31, 20, 0, 52, 127, 136, 54, 12, 3]
abbrev dktJ35_divideLongMagnitude_7 : List UInt8 := dkwJ35_divideLongMagnitude_7 ++ dktJ35_divideLongMagnitude_8
def dkwJ35_divideLongMagnitude_6 : List UInt8 := [181, 0, 11, 25, 4, 180, 0, 17, 3, 3, 79, 25, 4, 89, 180, 0, 21, 4, 96, 181, 0, 21, 31]
abbrev dktJ35_divideLongMagnitude_6 : List UInt8 := dkwJ35_divideLongMagnitude_6 ++ dktJ35_divideLongMagnitude_7
def dkwJ35_divideLongMagnitude_5 : List UInt8 := [21, 8, 121, 64, 25, 4, 21, 8, 182, 0, 121, 25, 4, 180, 0, 21, 21, 5, 160, 0, 28, 25, 4, 3]
abbrev dktJ35_divideLongMagnitude_5 : List UInt8 := dkwJ35_divideLongMagnitude_5 ++ dktJ35_divideLongMagnitude_6
def dkwJ35_divideLongMagnitude_4 : List UInt8 := [21, 6, 181, 0, 21, 45, 180, 0, 17, 58, 7, 31, 184, 1, 32, 54, 8, 21, 8, 158, 0, 15, 31]
abbrev dktJ35_divideLongMagnitude_4 : List UInt8 := dkwJ35_divideLongMagnitude_4 ++ dktJ35_divideLongMagnitude_5
def dkwJ35_divideLongMagnitude_3 : List UInt8 := [45, 180, 0, 17, 190, 21, 6, 162, 0, 16, 45, 21, 6, 188, 10, 181, 0, 17, 45, 3, 181, 0, 11, 45]
abbrev dktJ35_divideLongMagnitude_3 : List UInt8 := dkwJ35_divideLongMagnitude_3 ++ dktJ35_divideLongMagnitude_4
def dkwJ35_divideLongMagnitude_2 : List UInt8 := [181, 0, 21, 25, 4, 4, 181, 0, 11, 25, 4, 180, 0, 21, 54, 5, 21, 5, 5, 100, 4, 96, 54, 6]
abbrev dktJ35_divideLongMagnitude_2 : List UInt8 := dkwJ35_divideLongMagnitude_2 ++ dktJ35_divideLongMagnitude_3
def dkwJ35_divideLongMagnitude_1 : List UInt8 := [180, 0, 11, 25, 4, 180, 0, 17, 4, 42, 180, 0, 21, 184, 0, 95, 25, 4, 42, 180, 0, 21]
abbrev dktJ35_divideLongMagnitude_1 : List UInt8 := dkwJ35_divideLongMagnitude_1 ++ dktJ35_divideLongMagnitude_2
def dkwJ35_divideLongMagnitude_0 : List UInt8 := [187, 0, 12, 89, 42, 180, 0, 21, 4, 96, 188, 10, 183, 1, 3, 58, 4, 42, 180, 0, 17, 42]
abbrev dktJ35_divideLongMagnitude_0 : List UInt8 := dkwJ35_divideLongMagnitude_0 ++ dktJ35_divideLongMagnitude_1
theorem dksJ35_divideLongMagnitude_0 : cJ35_divideLongMagnitude.data.toList.drop 0 = dktJ35_divideLongMagnitude_0 := by decide +kernel
theorem dksJ35_divideLongMagnitude_1 : cJ35_divideLongMagnitude.data.toList.drop 22 = dktJ35_divideLongMagnitude_1 := dk_seg dksJ35_divideLongMagnitude_0 22 rfl rfl
theorem dksJ35_divideLongMagnitude_2 : cJ35_divideLongMagnitude.data.toList.drop 44 = dktJ35_divideLongMagnitude_2 := dk_seg dksJ35_divideLongMagnitude_1 22 rfl rfl
theorem dksJ35_divideLongMagnitude_3 : cJ35_divideLongMagnitude.data.toList.drop 68 = dktJ35_divideLongMagnitude_3 := dk_seg dksJ35_divideLongMagnitude_2 24 rfl rfl
theorem dksJ35_divideLongMagnitude_4 : cJ35_divideLongMagnitude.data.toList.drop 92 = dktJ35_divideLongMagnitude_4 := dk_seg dksJ35_divideLongMagnitude_3 24 rfl rfl
theorem dksJ35_divideLongMagnitude_5 : cJ35_divideLongMagnitude.data.toList.drop 115 = dktJ35_divideLongMagnitude_5 := dk_seg dksJ35_divideLongMagnitude_4 23 rfl rfl
theorem dksJ35_divideLongMagnitude_6 : cJ35_divideLongMagnitude.data.toList.drop 139 = dktJ35_divideLongMagnitude_6 := dk_seg dksJ35_divideLongMagnitude_5 24 rfl rfl
theorem dksJ35_divideLongMagnitude_7 : cJ35_divideLongMagnitude.data.toList.drop 162 = dktJ35_divideLongMagnitude_7 := dk_seg dksJ35_divideLongMagnitude_6 23 rfl rfl
theorem dksJ35_divideLongMagnitude_8 : cJ35_divideLongMagnitude.data.toList.drop 186 = dktJ35_divideLongMagnitude_8 := dk_seg dksJ35_divideLongMagnitude_7 24 rfl rfl
theorem dksJ35_divideLongMagnitude_9 : cJ35_divideLongMagnitude.data.toList.drop 209 = dktJ35_divideLongMagnitude_9 := dk_seg dksJ35_divideLongMagnitude_8 23 rfl rfl
theorem dksJ35_divideLongMagnitude_10 : cJ35_divideLongMagnitude.data.toList.drop 232 = dktJ35_divideLongMagnitude_10 := dk_seg dksJ35_divideLongMagnitude_9 23 rfl rfl
theorem dksJ35_divideLongMagnitude_11 : cJ35_divideLongMagnitude.data.toList.drop 255 = dktJ35_divideLongMagnitude_11 := dk_seg dksJ35_divideLongMagnitude_10 23 rfl rfl
theorem dksJ35_divideLongMagnitude_12 : cJ35_divideLongMagnitude.data.toList.drop 279 = dktJ35_divideLongMagnitude_12 := dk_seg dksJ35_divideLongMagnitude_11 24 rfl rfl
theorem dksJ35_divideLongMagnitude_13 : cJ35_divideLongMagnitude.data.toList.drop 302 = dktJ35_divideLongMagnitude_13 := dk_seg dksJ35_divideLongMagnitude_12 23 rfl rfl
theorem dksJ35_divideLongMagnitude_14 : cJ35_divideLongMagnitude.data.toList.drop 325 = dktJ35_divideLongMagnitude_14 := dk_seg dksJ35_divideLongMagnitude_13 23 rfl rfl
theorem dksJ35_divideLongMagnitude_15 : cJ35_divideLongMagnitude.data.toList.drop 348 = dktJ35_divideLongMagnitude_15 := dk_seg dksJ35_divideLongMagnitude_14 23 rfl rfl
theorem dksJ35_divideLongMagnitude_16 : cJ35_divideLongMagnitude.data.toList.drop 372 = dktJ35_divideLongMagnitude_16 := dk_seg dksJ35_divideLongMagnitude_15 24 rfl rfl
theorem dksJ35_divideLongMagnitude_17 : cJ35_divideLongMagnitude.data.toList.drop 396 = dktJ35_divideLongMagnitude_17 := dk_seg dksJ35_divideLongMagnitude_16 24 rfl rfl
theorem dksJ35_divideLongMagnitude_18 : cJ35_divideLongMagnitude.data.toList.drop 420 = dktJ35_divideLongMagnitude_18 := dk_seg dksJ35_divideLongMagnitude_17 24 rfl rfl
theorem dksJ35_divideLongMagnitude_19 : cJ35_divideLongMagnitude.data.toList.drop 443 = dktJ35_divideLongMagnitude_19 := dk_seg dksJ35_divideLongMagnitude_18 23 rfl rfl
theorem dksJ35_divideLongMagnitude_20 : cJ35_divideLongMagnitude.data.toList.drop 467 = dktJ35_divideLongMagnitude_20 := dk_seg dksJ35_divideLongMagnitude_19 24 rfl rfl
theorem dksJ35_divideLongMagnitude_21 : cJ35_divideLongMagnitude.data.toList.drop 490 = dktJ35_divideLongMagnitude_21 := dk_seg dksJ35_divideLongMagnitude_20 23 rfl rfl
theorem dksJ35_divideLongMagnitude_22 : cJ35_divideLongMagnitude.data.toList.drop 512 = dktJ35_divideLongMagnitude_22 := dk_seg dksJ35_divideLongMagnitude_21 22 rfl rfl
theorem dksJ35_divideLongMagnitude_23 : cJ35_divideLongMagnitude.data.toList.drop 534 = dktJ35_divideLongMagnitude_23 := dk_seg dksJ35_divideLongMagnitude_22 22 rfl rfl
theorem dksJ35_divideLongMagnitude_24 : cJ35_divideLongMagnitude.data.toList.drop 558 = dktJ35_divideLongMagnitude_24 := dk_seg dksJ35_divideLongMagnitude_23 24 rfl rfl
theorem dksJ35_divideLongMagnitude_25 : cJ35_divideLongMagnitude.data.toList.drop 582 = dktJ35_divideLongMagnitude_25 := dk_seg dksJ35_divideLongMagnitude_24 24 rfl rfl
theorem dksJ35_divideLongMagnitude_26 : cJ35_divideLongMagnitude.data.toList.drop 606 = dktJ35_divideLongMagnitude_26 := dk_seg dksJ35_divideLongMagnitude_25 24 rfl rfl
theorem dJ35_divideLongMagnitude_0 : decode cJ35_divideLongMagnitude 0 = .ok (.new 12, 3) := dk_187 0 12 (dk_at dksJ35_divideLongMagnitude_0 0 rfl rfl)
theorem dJ35_divideLongMagnitude_3 : decode cJ35_divideLongMagnitude 3 = .ok (.dup, 1) := dk_89 (dk_at dksJ35_divideLongMagnitude_0 3 rfl rfl)
theorem dJ35_divideLongMagnitude_4 : decode cJ35_divideLongMagnitude 4 = .ok (.aload_n 0, 1) := dk_42 (dk_at dksJ35_divideLongMagnitude_0 4 rfl rfl)
theorem dJ35_divideLongMagnitude_5 : decode cJ35_divideLongMagnitude 5 = .ok (.getfield 21, 3) := dk_180 0 21 (dk_at dksJ35_divideLongMagnitude_0 5 rfl rfl)
theorem dJ35_divideLongMagnitude_8 : decode cJ35_divideLongMagnitude 8 = .ok (.iconst 1, 1) := dk_4 (dk_at dksJ35_divideLongMagnitude_0 8 rfl rfl)
theorem dJ35_divideLongMagnitude_9 : decode cJ35_divideLongMagnitude 9 = .ok (.iadd, 1) := dk_96 (dk_at dksJ35_divideLongMagnitude_0 9 rfl rfl)
theorem dJ35_divideLongMagnitude_10 : decode cJ35_divideLongMagnitude 10 = .ok (.newarray .int, 2) := dk_188_10 (dk_at dksJ35_divideLongMagnitude_0 10 rfl rfl)
theorem dJ35_divideLongMagnitude_12 : decode cJ35_divideLongMagnitude 12 = .ok (.invokespecial 259, 3) := dk_183 1 3 (dk_at dksJ35_divideLongMagnitude_0 12 rfl rfl)
theorem dJ35_divideLongMagnitude_15 : decode cJ35_divideLongMagnitude 15 = .ok (.astore 4, 2) := dk_58 4 (dk_at dksJ35_divideLongMagnitude_0 15 rfl rfl)
theorem dJ35_divideLongMagnitude_17 : decode cJ35_divideLongMagnitude 17 = .ok (.aload_n 0, 1) := dk_42 (dk_at dksJ35_divideLongMagnitude_0 17 rfl rfl)
theorem dJ35_divideLongMagnitude_18 : decode cJ35_divideLongMagnitude 18 = .ok (.getfield 17, 3) := dk_180 0 17 (dk_at dksJ35_divideLongMagnitude_0 18 rfl rfl)
theorem dJ35_divideLongMagnitude_21 : decode cJ35_divideLongMagnitude 21 = .ok (.aload_n 0, 1) := dk_42 (dk_at dksJ35_divideLongMagnitude_0 21 rfl rfl)
theorem dJ35_divideLongMagnitude_22 : decode cJ35_divideLongMagnitude 22 = .ok (.getfield 11, 3) := dk_180 0 11 (dk_at dksJ35_divideLongMagnitude_1 0 rfl rfl)
theorem dJ35_divideLongMagnitude_25 : decode cJ35_divideLongMagnitude 25 = .ok (.aload 4, 2) := dk_25 4 (dk_at dksJ35_divideLongMagnitude_1 3 rfl rfl)
theorem dJ35_divideLongMagnitude_27 : decode cJ35_divideLongMagnitude 27 = .ok (.getfield 17, 3) := dk_180 0 17 (dk_at dksJ35_divideLongMagnitude_1 5 rfl rfl)
theorem dJ35_divideLongMagnitude_30 : decode cJ35_divideLongMagnitude 30 = .ok (.iconst 1, 1) := dk_4 (dk_at dksJ35_divideLongMagnitude_1 8 rfl rfl)
theorem dJ35_divideLongMagnitude_31 : decode cJ35_divideLongMagnitude 31 = .ok (.aload_n 0, 1) := dk_42 (dk_at dksJ35_divideLongMagnitude_1 9 rfl rfl)
theorem dJ35_divideLongMagnitude_32 : decode cJ35_divideLongMagnitude 32 = .ok (.getfield 21, 3) := dk_180 0 21 (dk_at dksJ35_divideLongMagnitude_1 10 rfl rfl)
theorem dJ35_divideLongMagnitude_35 : decode cJ35_divideLongMagnitude 35 = .ok (.invokestatic 95, 3) := dk_184 0 95 (dk_at dksJ35_divideLongMagnitude_1 13 rfl rfl)
theorem dJ35_divideLongMagnitude_38 : decode cJ35_divideLongMagnitude 38 = .ok (.aload 4, 2) := dk_25 4 (dk_at dksJ35_divideLongMagnitude_1 16 rfl rfl)
theorem dJ35_divideLongMagnitude_40 : decode cJ35_divideLongMagnitude 40 = .ok (.aload_n 0, 1) := dk_42 (dk_at dksJ35_divideLongMagnitude_1 18 rfl rfl)
theorem dJ35_divideLongMagnitude_41 : decode cJ35_divideLongMagnitude 41 = .ok (.getfield 21, 3) := dk_180 0 21 (dk_at dksJ35_divideLongMagnitude_1 19 rfl rfl)
theorem dJ35_divideLongMagnitude_44 : decode cJ35_divideLongMagnitude 44 = .ok (.putfield 21, 3) := dk_181 0 21 (dk_at dksJ35_divideLongMagnitude_2 0 rfl rfl)
theorem dJ35_divideLongMagnitude_47 : decode cJ35_divideLongMagnitude 47 = .ok (.aload 4, 2) := dk_25 4 (dk_at dksJ35_divideLongMagnitude_2 3 rfl rfl)
theorem dJ35_divideLongMagnitude_49 : decode cJ35_divideLongMagnitude 49 = .ok (.iconst 1, 1) := dk_4 (dk_at dksJ35_divideLongMagnitude_2 5 rfl rfl)
theorem dJ35_divideLongMagnitude_50 : decode cJ35_divideLongMagnitude 50 = .ok (.putfield 11, 3) := dk_181 0 11 (dk_at dksJ35_divideLongMagnitude_2 6 rfl rfl)
theorem dJ35_divideLongMagnitude_53 : decode cJ35_divideLongMagnitude 53 = .ok (.aload 4, 2) := dk_25 4 (dk_at dksJ35_divideLongMagnitude_2 9 rfl rfl)
theorem dJ35_divideLongMagnitude_55 : decode cJ35_divideLongMagnitude 55 = .ok (.getfield 21, 3) := dk_180 0 21 (dk_at dksJ35_divideLongMagnitude_2 11 rfl rfl)
theorem dJ35_divideLongMagnitude_58 : decode cJ35_divideLongMagnitude 58 = .ok (.istore 5, 2) := dk_54 5 (dk_at dksJ35_divideLongMagnitude_2 14 rfl rfl)
theorem dJ35_divideLongMagnitude_60 : decode cJ35_divideLongMagnitude 60 = .ok (.iload 5, 2) := dk_21 5 (dk_at dksJ35_divideLongMagnitude_2 16 rfl rfl)
theorem dJ35_divideLongMagnitude_62 : decode cJ35_divideLongMagnitude 62 = .ok (.iconst 2, 1) := dk_5 (dk_at dksJ35_divideLongMagnitude_2 18 rfl rfl)
theorem dJ35_divideLongMagnitude_63 : decode cJ35_divideLongMagnitude 63 = .ok (.isub, 1) := dk_100 (dk_at dksJ35_divideLongMagnitude_2 19 rfl rfl)
theorem dJ35_divideLongMagnitude_64 : decode cJ35_divideLongMagnitude 64 = .ok (.iconst 1, 1) := dk_4 (dk_at dksJ35_divideLongMagnitude_2 20 rfl rfl)
theorem dJ35_divideLongMagnitude_65 : decode cJ35_divideLongMagnitude 65 = .ok (.iadd, 1) := dk_96 (dk_at dksJ35_divideLongMagnitude_2 21 rfl rfl)
theorem dJ35_divideLongMagnitude_66 : decode cJ35_divideLongMagnitude 66 = .ok (.istore 6, 2) := dk_54 6 (dk_at dksJ35_divideLongMagnitude_2 22 rfl rfl)
theorem dJ35_divideLongMagnitude_68 : decode cJ35_divideLongMagnitude 68 = .ok (.aload_n 3, 1) := dk_45 (dk_at dksJ35_divideLongMagnitude_3 0 rfl rfl)
theorem dJ35_divideLongMagnitude_69 : decode cJ35_divideLongMagnitude 69 = .ok (.getfield 17, 3) := dk_180 0 17 (dk_at dksJ35_divideLongMagnitude_3 1 rfl rfl)
theorem dJ35_divideLongMagnitude_72 : decode cJ35_divideLongMagnitude 72 = .ok (.arraylength, 1) := dk_190 (dk_at dksJ35_divideLongMagnitude_3 4 rfl rfl)
theorem dJ35_divideLongMagnitude_73 : decode cJ35_divideLongMagnitude 73 = .ok (.iload 6, 2) := dk_21 6 (dk_at dksJ35_divideLongMagnitude_3 5 rfl rfl)
theorem dJ35_divideLongMagnitude_75 : decode cJ35_divideLongMagnitude 75 = .ok (.if_icmp .ge 16, 3) := dk_162 0 16 (dk_at dksJ35_divideLongMagnitude_3 7 rfl rfl)
theorem dJ35_divideLongMagnitude_78 : decode cJ35_divideLongMagnitude 78 = .ok (.aload_n 3, 1) := dk_45 (dk_at dksJ35_divideLongMagnitude_3 10 rfl rfl)
theorem dJ35_divideLongMagnitude_79 : decode cJ35_divideLongMagnitude 79 = .ok (.iload 6, 2) := dk_21 6 (dk_at dksJ35_divideLongMagnitude_3 11 rfl rfl)
theorem dJ35_divideLongMagnitude_81 : decode cJ35_divideLongMagnitude 81 = .ok (.newarray .int, 2) := dk_188_10 (dk_at dksJ35_divideLongMagnitude_3 13 rfl rfl)
theorem dJ35_divideLongMagnitude_83 : decode cJ35_divideLongMagnitude 83 = .ok (.putfield 17, 3) := dk_181 0 17 (dk_at dksJ35_divideLongMagnitude_3 15 rfl rfl)
theorem dJ35_divideLongMagnitude_86 : decode cJ35_divideLongMagnitude 86 = .ok (.aload_n 3, 1) := dk_45 (dk_at dksJ35_divideLongMagnitude_3 18 rfl rfl)
theorem dJ35_divideLongMagnitude_87 : decode cJ35_divideLongMagnitude 87 = .ok (.iconst 0, 1) := dk_3 (dk_at dksJ35_divideLongMagnitude_3 19 rfl rfl)
theorem dJ35_divideLongMagnitude_88 : decode cJ35_divideLongMagnitude 88 = .ok (.putfield 11, 3) := dk_181 0 11 (dk_at dksJ35_divideLongMagnitude_3 20 rfl rfl)
theorem dJ35_divideLongMagnitude_91 : decode cJ35_divideLongMagnitude 91 = .ok (.aload_n 3, 1) := dk_45 (dk_at dksJ35_divideLongMagnitude_3 23 rfl rfl)
theorem dJ35_divideLongMagnitude_92 : decode cJ35_divideLongMagnitude 92 = .ok (.iload 6, 2) := dk_21 6 (dk_at dksJ35_divideLongMagnitude_4 0 rfl rfl)
theorem dJ35_divideLongMagnitude_94 : decode cJ35_divideLongMagnitude 94 = .ok (.putfield 21, 3) := dk_181 0 21 (dk_at dksJ35_divideLongMagnitude_4 2 rfl rfl)
theorem dJ35_divideLongMagnitude_97 : decode cJ35_divideLongMagnitude 97 = .ok (.aload_n 3, 1) := dk_45 (dk_at dksJ35_divideLongMagnitude_4 5 rfl rfl)
theorem dJ35_divideLongMagnitude_98 : decode cJ35_divideLongMagnitude 98 = .ok (.getfield 17, 3) := dk_180 0 17 (dk_at dksJ35_divideLongMagnitude_4 6 rfl rfl)
theorem dJ35_divideLongMagnitude_101 : decode cJ35_divideLongMagnitude 101 = .ok (.astore 7, 2) := dk_58 7 (dk_at dksJ35_divideLongMagnitude_4 9 rfl rfl)
theorem dJ35_divideLongMagnitude_103 : decode cJ35_divideLongMagnitude 103 = .ok (.lload_n 1, 1) := dk_31 (dk_at dksJ35_divideLongMagnitude_4 11 rfl rfl)
theorem dJ35_divideLongMagnitude_104 : decode cJ35_divideLongMagnitude 104 = .ok (.invokestatic 288, 3) := dk_184 1 32 (dk_at dksJ35_divideLongMagnitude_4 12 rfl rfl)
theorem dJ35_divideLongMagnitude_107 : decode cJ35_divideLongMagnitude 107 = .ok (.istore 8, 2) := dk_54 8 (dk_at dksJ35_divideLongMagnitude_4 15 rfl rfl)
theorem dJ35_divideLongMagnitude_109 : decode cJ35_divideLongMagnitude 109 = .ok (.iload 8, 2) := dk_21 8 (dk_at dksJ35_divideLongMagnitude_4 17 rfl rfl)
theorem dJ35_divideLongMagnitude_111 : decode cJ35_divideLongMagnitude 111 = .ok (.ifCond .le 15, 3) := dk_158 0 15 (dk_at dksJ35_divideLongMagnitude_4 19 rfl rfl)
theorem dJ35_divideLongMagnitude_114 : decode cJ35_divideLongMagnitude 114 = .ok (.lload_n 1, 1) := dk_31 (dk_at dksJ35_divideLongMagnitude_4 22 rfl rfl)
theorem dJ35_divideLongMagnitude_115 : decode cJ35_divideLongMagnitude 115 = .ok (.iload 8, 2) := dk_21 8 (dk_at dksJ35_divideLongMagnitude_5 0 rfl rfl)
theorem dJ35_divideLongMagnitude_117 : decode cJ35_divideLongMagnitude 117 = .ok (.lshl, 1) := dk_121 (dk_at dksJ35_divideLongMagnitude_5 2 rfl rfl)
theorem dJ35_divideLongMagnitude_118 : decode cJ35_divideLongMagnitude 118 = .ok (.lstore_n 1, 1) := dk_64 (dk_at dksJ35_divideLongMagnitude_5 3 rfl rfl)
theorem dJ35_divideLongMagnitude_119 : decode cJ35_divideLongMagnitude 119 = .ok (.aload 4, 2) := dk_25 4 (dk_at dksJ35_divideLongMagnitude_5 4 rfl rfl)
theorem dJ35_divideLongMagnitude_121 : decode cJ35_divideLongMagnitude 121 = .ok (.iload 8, 2) := dk_21 8 (dk_at dksJ35_divideLongMagnitude_5 6 rfl rfl)
theorem dJ35_divideLongMagnitude_123 : decode cJ35_divideLongMagnitude 123 = .ok (.invokevirtual 121, 3) := dk_182 0 121 (dk_at dksJ35_divideLongMagnitude_5 8 rfl rfl)
theorem dJ35_divideLongMagnitude_126 : decode cJ35_divideLongMagnitude 126 = .ok (.aload 4, 2) := dk_25 4 (dk_at dksJ35_divideLongMagnitude_5 11 rfl rfl)
theorem dJ35_divideLongMagnitude_128 : decode cJ35_divideLongMagnitude 128 = .ok (.getfield 21, 3) := dk_180 0 21 (dk_at dksJ35_divideLongMagnitude_5 13 rfl rfl)
theorem dJ35_divideLongMagnitude_131 : decode cJ35_divideLongMagnitude 131 = .ok (.iload 5, 2) := dk_21 5 (dk_at dksJ35_divideLongMagnitude_5 16 rfl rfl)
theorem dJ35_divideLongMagnitude_133 : decode cJ35_divideLongMagnitude 133 = .ok (.if_icmp .ne 28, 3) := dk_160 0 28 (dk_at dksJ35_divideLongMagnitude_5 18 rfl rfl)
theorem dJ35_divideLongMagnitude_136 : decode cJ35_divideLongMagnitude 136 = .ok (.aload 4, 2) := dk_25 4 (dk_at dksJ35_divideLongMagnitude_5 21 rfl rfl)
theorem dJ35_divideLongMagnitude_138 : decode cJ35_divideLongMagnitude 138 = .ok (.iconst 0, 1) := dk_3 (dk_at dksJ35_divideLongMagnitude_5 23 rfl rfl)
theorem dJ35_divideLongMagnitude_139 : decode cJ35_divideLongMagnitude 139 = .ok (.putfield 11, 3) := dk_181 0 11 (dk_at dksJ35_divideLongMagnitude_6 0 rfl rfl)
theorem dJ35_divideLongMagnitude_142 : decode cJ35_divideLongMagnitude 142 = .ok (.aload 4, 2) := dk_25 4 (dk_at dksJ35_divideLongMagnitude_6 3 rfl rfl)
theorem dJ35_divideLongMagnitude_144 : decode cJ35_divideLongMagnitude 144 = .ok (.getfield 17, 3) := dk_180 0 17 (dk_at dksJ35_divideLongMagnitude_6 5 rfl rfl)
theorem dJ35_divideLongMagnitude_147 : decode cJ35_divideLongMagnitude 147 = .ok (.iconst 0, 1) := dk_3 (dk_at dksJ35_divideLongMagnitude_6 8 rfl rfl)
theorem dJ35_divideLongMagnitude_148 : decode cJ35_divideLongMagnitude 148 = .ok (.iconst 0, 1) := dk_3 (dk_at dksJ35_divideLongMagnitude_6 9 rfl rfl)
theorem dJ35_divideLongMagnitude_149 : decode cJ35_divideLongMagnitude 149 = .ok (.iastore, 1) := dk_79 (dk_at dksJ35_divideLongMagnitude_6 10 rfl rfl)
theorem dJ35_divideLongMagnitude_150 : decode cJ35_divideLongMagnitude 150 = .ok (.aload 4, 2) := dk_25 4 (dk_at dksJ35_divideLongMagnitude_6 11 rfl rfl)
theorem dJ35_divideLongMagnitude_152 : decode cJ35_divideLongMagnitude 152 = .ok (.dup, 1) := dk_89 (dk_at dksJ35_divideLongMagnitude_6 13 rfl rfl)
theorem dJ35_divideLongMagnitude_153 : decode cJ35_divideLongMagnitude 153 = .ok (.getfield 21, 3) := dk_180 0 21 (dk_at dksJ35_divideLongMagnitude_6 14 rfl rfl)
theorem dJ35_divideLongMagnitude_156 : decode cJ35_divideLongMagnitude 156 = .ok (.iconst 1, 1) := dk_4 (dk_at dksJ35_divideLongMagnitude_6 17 rfl rfl)
theorem dJ35_divideLongMagnitude_157 : decode cJ35_divideLongMagnitude 157 = .ok (.iadd, 1) := dk_96 (dk_at dksJ35_divideLongMagnitude_6 18 rfl rfl)
theorem dJ35_divideLongMagnitude_158 : decode cJ35_divideLongMagnitude 158 = .ok (.putfield 21, 3) := dk_181 0 21 (dk_at dksJ35_divideLongMagnitude_6 19 rfl rfl)
theorem dJ35_divideLongMagnitude_161 : decode cJ35_divideLongMagnitude 161 = .ok (.lload_n 1, 1) := dk_31 (dk_at dksJ35_divideLongMagnitude_6 22 rfl rfl)
theorem dJ35_divideLongMagnitude_162 : decode cJ35_divideLongMagnitude 162 = .ok (.bipush 32, 2) := dk_16 32 (dk_at dksJ35_divideLongMagnitude_7 0 rfl rfl)
theorem dJ35_divideLongMagnitude_164 : decode cJ35_divideLongMagnitude 164 = .ok (.lushr, 1) := dk_125 (dk_at dksJ35_divideLongMagnitude_7 2 rfl rfl)
theorem dJ35_divideLongMagnitude_165 : decode cJ35_divideLongMagnitude 165 = .ok (.l2i, 1) := dk_136 (dk_at dksJ35_divideLongMagnitude_7 3 rfl rfl)
theorem dJ35_divideLongMagnitude_166 : decode cJ35_divideLongMagnitude 166 = .ok (.istore 9, 2) := dk_54 9 (dk_at dksJ35_divideLongMagnitude_7 4 rfl rfl)
theorem dJ35_divideLongMagnitude_168 : decode cJ35_divideLongMagnitude 168 = .ok (.iload 9, 2) := dk_21 9 (dk_at dksJ35_divideLongMagnitude_7 6 rfl rfl)
theorem dJ35_divideLongMagnitude_170 : decode cJ35_divideLongMagnitude 170 = .ok (.i2l, 1) := dk_133 (dk_at dksJ35_divideLongMagnitude_7 8 rfl rfl)
theorem dJ35_divideLongMagnitude_171 : decode cJ35_divideLongMagnitude 171 = .ok (.ldc2_w 52, 3) := dk_20 0 52 (dk_at dksJ35_divideLongMagnitude_7 9 rfl rfl)
theorem dJ35_divideLongMagnitude_174 : decode cJ35_divideLongMagnitude 174 = .ok (.land, 1) := dk_127 (dk_at dksJ35_divideLongMagnitude_7 12 rfl rfl)
theorem dJ35_divideLongMagnitude_175 : decode cJ35_divideLongMagnitude 175 = .ok (.lstore 10, 2) := dk_55 10 (dk_at dksJ35_divideLongMagnitude_7 13 rfl rfl)
theorem dJ35_divideLongMagnitude_177 : decode cJ35_divideLongMagnitude 177 = .ok (.lload_n 1, 1) := dk_31 (dk_at dksJ35_divideLongMagnitude_7 15 rfl rfl)
theorem dJ35_divideLongMagnitude_178 : decode cJ35_divideLongMagnitude 178 = .ok (.ldc2_w 52, 3) := dk_20 0 52 (dk_at dksJ35_divideLongMagnitude_7 16 rfl rfl)
theorem dJ35_divideLongMagnitude_181 : decode cJ35_divideLongMagnitude 181 = .ok (.land, 1) := dk_127 (dk_at dksJ35_divideLongMagnitude_7 19 rfl rfl)
theorem dJ35_divideLongMagnitude_182 : decode cJ35_divideLongMagnitude 182 = .ok (.l2i, 1) := dk_136 (dk_at dksJ35_divideLongMagnitude_7 20 rfl rfl)
theorem dJ35_divideLongMagnitude_183 : decode cJ35_divideLongMagnitude 183 = .ok (.istore 12, 2) := dk_54 12 (dk_at dksJ35_divideLongMagnitude_7 21 rfl rfl)
theorem dJ35_divideLongMagnitude_185 : decode cJ35_divideLongMagnitude 185 = .ok (.iconst 0, 1) := dk_3 (dk_at dksJ35_divideLongMagnitude_7 23 rfl rfl)
theorem dJ35_divideLongMagnitude_186 : decode cJ35_divideLongMagnitude 186 = .ok (.istore 13, 2) := dk_54 13 (dk_at dksJ35_divideLongMagnitude_8 0 rfl rfl)
theorem dJ35_divideLongMagnitude_188 : decode cJ35_divideLongMagnitude 188 = .ok (.iload 13, 2) := dk_21 13 (dk_at dksJ35_divideLongMagnitude_8 2 rfl rfl)
theorem dJ35_divideLongMagnitude_190 : decode cJ35_divideLongMagnitude 190 = .ok (.iload 6, 2) := dk_21 6 (dk_at dksJ35_divideLongMagnitude_8 4 rfl rfl)
theorem dJ35_divideLongMagnitude_192 : decode cJ35_divideLongMagnitude 192 = .ok (.if_icmp .ge 401, 3) := dk_162 1 145 (dk_at dksJ35_divideLongMagnitude_8 6 rfl rfl)
theorem dJ35_divideLongMagnitude_195 : decode cJ35_divideLongMagnitude 195 = .ok (.iconst 0, 1) := dk_3 (dk_at dksJ35_divideLongMagnitude_8 9 rfl rfl)
theorem dJ35_divideLongMagnitude_196 : decode cJ35_divideLongMagnitude 196 = .ok (.istore 14, 2) := dk_54 14 (dk_at dksJ35_divideLongMagnitude_8 10 rfl rfl)
theorem dJ35_divideLongMagnitude_198 : decode cJ35_divideLongMagnitude 198 = .ok (.iconst 0, 1) := dk_3 (dk_at dksJ35_divideLongMagnitude_8 12 rfl rfl)
theorem dJ35_divideLongMagnitude_199 : decode cJ35_divideLongMagnitude 199 = .ok (.istore 15, 2) := dk_54 15 (dk_at dksJ35_divideLongMagnitude_8 13 rfl rfl)
theorem dJ35_divideLongMagnitude_201 : decode cJ35_divideLongMagnitude 201 = .ok (.iconst 0, 1) := dk_3 (dk_at dksJ35_divideLongMagnitude_8 15 rfl rfl)
theorem dJ35_divideLongMagnitude_202 : decode cJ35_divideLongMagnitude 202 = .ok (.istore 16, 2) := dk_54 16 (dk_at dksJ35_divideLongMagnitude_8 16 rfl rfl)
theorem dJ35_divideLongMagnitude_204 : decode cJ35_divideLongMagnitude 204 = .ok (.aload 4, 2) := dk_25 4 (dk_at dksJ35_divideLongMagnitude_8 18 rfl rfl)
theorem dJ35_divideLongMagnitude_206 : decode cJ35_divideLongMagnitude 206 = .ok (.getfield 17, 3) := dk_180 0 17 (dk_at dksJ35_divideLongMagnitude_8 20 rfl rfl)
theorem dJ35_divideLongMagnitude_209 : decode cJ35_divideLongMagnitude 209 = .ok (.iload 13, 2) := dk_21 13 (dk_at dksJ35_divideLongMagnitude_9 0 rfl rfl)
theorem dJ35_divideLongMagnitude_211 : decode cJ35_divideLongMagnitude 211 = .ok (.aload 4, 2) := dk_25 4 (dk_at dksJ35_divideLongMagnitude_9 2 rfl rfl)
theorem dJ35_divideLongMagnitude_213 : decode cJ35_divideLongMagnitude 213 = .ok (.getfield 11, 3) := dk_180 0 11 (dk_at dksJ35_divideLongMagnitude_9 4 rfl rfl)
theorem dJ35_divideLongMagnitude_216 : decode cJ35_divideLongMagnitude 216 = .ok (.iadd, 1) := dk_96 (dk_at dksJ35_divideLongMagnitude_9 7 rfl rfl)
theorem dJ35_divideLongMagnitude_217 : decode cJ35_divideLongMagnitude 217 = .ok (.iaload, 1) := dk_46 (dk_at dksJ35_divideLongMagnitude_9 8 rfl rfl)
theorem dJ35_divideLongMagnitude_218 : decode cJ35_divideLongMagnitude 218 = .ok (.istore 17, 2) := dk_54 17 (dk_at dksJ35_divideLongMagnitude_9 9 rfl rfl)
theorem dJ35_divideLongMagnitude_220 : decode cJ35_divideLongMagnitude 220 = .ok (.iload 17, 2) := dk_21 17 (dk_at dksJ35_divideLongMagnitude_9 11 rfl rfl)
theorem dJ35_divideLongMagnitude_222 : decode cJ35_divideLongMagnitude 222 = .ok (.ldc 88, 2) := dk_18 88 (dk_at dksJ35_divideLongMagnitude_9 13 rfl rfl)
theorem dJ35_divideLongMagnitude_224 : decode cJ35_divideLongMagnitude 224 = .ok (.iadd, 1) := dk_96 (dk_at dksJ35_divideLongMagnitude_9 15 rfl rfl)
theorem dJ35_divideLongMagnitude_225 : decode cJ35_divideLongMagnitude 225 = .ok (.istore 18, 2) := dk_54 18 (dk_at dksJ35_divideLongMagnitude_9 16 rfl rfl)
theorem dJ35_divideLongMagnitude_227 : decode cJ35_divideLongMagnitude 227 = .ok (.aload 4, 2) := dk_25 4 (dk_at dksJ35_divideLongMagnitude_9 18 rfl rfl)
theorem dJ35_divideLongMagnitude_229 : decode cJ35_divideLongMagnitude 229 = .ok (.getfield 17, 3) := dk_180 0 17 (dk_at dksJ35_divideLongMagnitude_9 20 rfl rfl)
theorem dJ35_divideLongMagnitude_232 : decode cJ35_divideLongMagnitude 232 = .ok (.iload 13, 2) := dk_21 13 (dk_at dksJ35_divideLongMagnitude_10 0 rfl rfl)
theorem dJ35_divideLongMagnitude_234 : decode cJ35_divideLongMagnitude 234 = .ok (.iconst 1, 1) := dk_4 (dk_at dksJ35_divideLongMagnitude_10 2 rfl rfl)
theorem dJ35_divideLongMagnitude_235 : decode cJ35_divideLongMagnitude 235 = .ok (.iadd, 1) := dk_96 (dk_at dksJ35_divideLongMagnitude_10 3 rfl rfl)
theorem dJ35_divideLongMagnitude_236 : decode cJ35_divideLongMagnitude 236 = .ok (.aload 4, 2) := dk_25 4 (dk_at dksJ35_divideLongMagnitude_10 4 rfl rfl)
theorem dJ35_divideLongMagnitude_238 : decode cJ35_divideLongMagnitude 238 = .ok (.getfield 11, 3) := dk_180 0 11 (dk_at dksJ35_divideLongMagnitude_10 6 rfl rfl)
theorem dJ35_divideLongMagnitude_241 : decode cJ35_divideLongMagnitude 241 = .ok (.iadd, 1) := dk_96 (dk_at dksJ35_divideLongMagnitude_10 9 rfl rfl)
theorem dJ35_divideLongMagnitude_242 : decode cJ35_divideLongMagnitude 242 = .ok (.iaload, 1) := dk_46 (dk_at dksJ35_divideLongMagnitude_10 10 rfl rfl)
theorem dJ35_divideLongMagnitude_243 : decode cJ35_divideLongMagnitude 243 = .ok (.istore 19, 2) := dk_54 19 (dk_at dksJ35_divideLongMagnitude_10 11 rfl rfl)
theorem dJ35_divideLongMagnitude_245 : decode cJ35_divideLongMagnitude 245 = .ok (.iload 17, 2) := dk_21 17 (dk_at dksJ35_divideLongMagnitude_10 13 rfl rfl)
theorem dJ35_divideLongMagnitude_247 : decode cJ35_divideLongMagnitude 247 = .ok (.iload 9, 2) := dk_21 9 (dk_at dksJ35_divideLongMagnitude_10 15 rfl rfl)
theorem dJ35_divideLongMagnitude_249 : decode cJ35_divideLongMagnitude 249 = .ok (.if_icmp .ne 33, 3) := dk_160 0 33 (dk_at dksJ35_divideLongMagnitude_10 17 rfl rfl)
theorem dJ35_divideLongMagnitude_252 : decode cJ35_divideLongMagnitude 252 = .ok (.iconst (-1), 1) := dk_2 (dk_at dksJ35_divideLongMagnitude_10 20 rfl rfl)
theorem dJ35_divideLongMagnitude_253 : decode cJ35_divideLongMagnitude 253 = .ok (.istore 14, 2) := dk_54 14 (dk_at dksJ35_divideLongMagnitude_10 21 rfl rfl)
theorem dJ35_divideLongMagnitude_255 : decode cJ35_divideLongMagnitude 255 = .ok (.iload 17, 2) := dk_21 17 (dk_at dksJ35_divideLongMagnitude_11 0 rfl rfl)
theorem dJ35_divideLongMagnitude_257 : decode cJ35_divideLongMagnitude 257 = .ok (.iload 19, 2) := dk_21 19 (dk_at dksJ35_divideLongMagnitude_11 2 rfl rfl)
theorem dJ35_divideLongMagnitude_259 : decode cJ35_divideLongMagnitude 259 = .ok (.iadd, 1) := dk_96 (dk_at dksJ35_divideLongMagnitude_11 4 rfl rfl)
theorem dJ35_divideLongMagnitude_260 : decode cJ35_divideLongMagnitude 260 = .ok (.istore 15, 2) := dk_54 15 (dk_at dksJ35_divideLongMagnitude_11 5 rfl rfl)
theorem dJ35_divideLongMagnitude_262 : decode cJ35_divideLongMagnitude 262 = .ok (.iload 15, 2) := dk_21 15 (dk_at dksJ35_divideLongMagnitude_11 7 rfl rfl)
theorem dJ35_divideLongMagnitude_264 : decode cJ35_divideLongMagnitude 264 = .ok (.ldc 88, 2) := dk_18 88 (dk_at dksJ35_divideLongMagnitude_11 9 rfl rfl)
theorem dJ35_divideLongMagnitude_266 : decode cJ35_divideLongMagnitude 266 = .ok (.iadd, 1) := dk_96 (dk_at dksJ35_divideLongMagnitude_11 11 rfl rfl)
theorem dJ35_divideLongMagnitude_267 : decode cJ35_divideLongMagnitude 267 = .ok (.iload 18, 2) := dk_21 18 (dk_at dksJ35_divideLongMagnitude_11 12 rfl rfl)
theorem dJ35_divideLongMagnitude_269 : decode cJ35_divideLongMagnitude 269 = .ok (.if_icmp .ge 7, 3) := dk_162 0 7 (dk_at dksJ35_divideLongMagnitude_11 14 rfl rfl)
theorem dJ35_divideLongMagnitude_272 : decode cJ35_divideLongMagnitude 272 = .ok (.iconst 1, 1) := dk_4 (dk_at dksJ35_divideLongMagnitude_11 17 rfl rfl)
theorem dJ35_divideLongMagnitude_273 : decode cJ35_divideLongMagnitude 273 = .ok (.goto 4, 3) := dk_167 0 4 (dk_at dksJ35_divideLongMagnitude_11 18 rfl rfl)
theorem dJ35_divideLongMagnitude_276 : decode cJ35_divideLongMagnitude 276 = .ok (.iconst 0, 1) := dk_3 (dk_at dksJ35_divideLongMagnitude_11 21 rfl rfl)
theorem dJ35_divideLongMagnitude_277 : decode cJ35_divideLongMagnitude 277 = .ok (.istore 16, 2) := dk_54 16 (dk_at dksJ35_divideLongMagnitude_11 22 rfl rfl)
theorem dJ35_divideLongMagnitude_279 : decode cJ35_divideLongMagnitude 279 = .ok (.goto 75, 3) := dk_167 0 75 (dk_at dksJ35_divideLongMagnitude_12 0 rfl rfl)
theorem dJ35_divideLongMagnitude_282 : decode cJ35_divideLongMagnitude 282 = .ok (.iload 17, 2) := dk_21 17 (dk_at dksJ35_divideLongMagnitude_12 3 rfl rfl)
theorem dJ35_divideLongMagnitude_284 : decode cJ35_divideLongMagnitude 284 = .ok (.i2l, 1) := dk_133 (dk_at dksJ35_divideLongMagnitude_12 5 rfl rfl)
theorem dJ35_divideLongMagnitude_285 : decode cJ35_divideLongMagnitude 285 = .ok (.bipush 32, 2) := dk_16 32 (dk_at dksJ35_divideLongMagnitude_12 6 rfl rfl)
theorem dJ35_divideLongMagnitude_287 : decode cJ35_divideLongMagnitude 287 = .ok (.lshl, 1) := dk_121 (dk_at dksJ35_divideLongMagnitude_12 8 rfl rfl)
theorem dJ35_divideLongMagnitude_288 : decode cJ35_divideLongMagnitude 288 = .ok (.iload 19, 2) := dk_21 19 (dk_at dksJ35_divideLongMagnitude_12 9 rfl rfl)
theorem dJ35_divideLongMagnitude_290 : decode cJ35_divideLongMagnitude 290 = .ok (.i2l, 1) := dk_133 (dk_at dksJ35_divideLongMagnitude_12 11 rfl rfl)
theorem dJ35_divideLongMagnitude_291 : decode cJ35_divideLongMagnitude 291 = .ok (.ldc2_w 52, 3) := dk_20 0 52 (dk_at dksJ35_divideLongMagnitude_12 12 rfl rfl)
theorem dJ35_divideLongMagnitude_294 : decode cJ35_divideLongMagnitude 294 = .ok (.land, 1) := dk_127 (dk_at dksJ35_divideLongMagnitude_12 15 rfl rfl)
theorem dJ35_divideLongMagnitude_295 : decode cJ35_divideLongMagnitude 295 = .ok (.lor, 1) := dk_129 (dk_at dksJ35_divideLongMagnitude_12 16 rfl rfl)
theorem dJ35_divideLongMagnitude_296 : decode cJ35_divideLongMagnitude 296 = .ok (.lstore 20, 2) := dk_55 20 (dk_at dksJ35_divideLongMagnitude_12 17 rfl rfl)
theorem dJ35_divideLongMagnitude_298 : decode cJ35_divideLongMagnitude 298 = .ok (.lload 20, 2) := dk_22 20 (dk_at dksJ35_divideLongMagnitude_12 19 rfl rfl)
theorem dJ35_divideLongMagnitude_300 : decode cJ35_divideLongMagnitude 300 = .ok (.lconst 0, 1) := dk_9 (dk_at dksJ35_divideLongMagnitude_12 21 rfl rfl)
theorem dJ35_divideLongMagnitude_301 : decode cJ35_divideLongMagnitude 301 = .ok (.lcmp, 1) := dk_148 (dk_at dksJ35_divideLongMagnitude_12 22 rfl rfl)
theorem dJ35_divideLongMagnitude_302 : decode cJ35_divideLongMagnitude 302 = .ok (.ifCond .lt 26, 3) := dk_155 0 26 (dk_at dksJ35_divideLongMagnitude_13 0 rfl rfl)
theorem dJ35_divideLongMagnitude_305 : decode cJ35_divideLongMagnitude 305 = .ok (.lload 20, 2) := dk_22 20 (dk_at dksJ35_divideLongMagnitude_13 3 rfl rfl)
theorem dJ35_divideLongMagnitude_307 : decode cJ35_divideLongMagnitude 307 = .ok (.lload 10, 2) := dk_22 10 (dk_at dksJ35_divideLongMagnitude_13 5 rfl rfl)
theorem dJ35_divideLongMagnitude_309 : decode cJ35_divideLongMagnitude 309 = .ok (.ldiv, 1) := dk_109 (dk_at dksJ35_divideLongMagnitude_13 7 rfl rfl)
theorem dJ35_divideLongMagnitude_310 : decode cJ35_divideLongMagnitude 310 = .ok (.l2i, 1) := dk_136 (dk_at dksJ35_divideLongMagnitude_13 8 rfl rfl)
theorem dJ35_divideLongMagnitude_311 : decode cJ35_divideLongMagnitude 311 = .ok (.istore 14, 2) := dk_54 14 (dk_at dksJ35_divideLongMagnitude_13 9 rfl rfl)
theorem dJ35_divideLongMagnitude_313 : decode cJ35_divideLongMagnitude 313 = .ok (.lload 20, 2) := dk_22 20 (dk_at dksJ35_divideLongMagnitude_13 11 rfl rfl)
theorem dJ35_divideLongMagnitude_315 : decode cJ35_divideLongMagnitude 315 = .ok (.iload 14, 2) := dk_21 14 (dk_at dksJ35_divideLongMagnitude_13 13 rfl rfl)
theorem dJ35_divideLongMagnitude_317 : decode cJ35_divideLongMagnitude 317 = .ok (.i2l, 1) := dk_133 (dk_at dksJ35_divideLongMagnitude_13 15 rfl rfl)
theorem dJ35_divideLongMagnitude_318 : decode cJ35_divideLongMagnitude 318 = .ok (.lload 10, 2) := dk_22 10 (dk_at dksJ35_divideLongMagnitude_13 16 rfl rfl)
theorem dJ35_divideLongMagnitude_320 : decode cJ35_divideLongMagnitude 320 = .ok (.lmul, 1) := dk_105 (dk_at dksJ35_divideLongMagnitude_13 18 rfl rfl)
theorem dJ35_divideLongMagnitude_321 : decode cJ35_divideLongMagnitude 321 = .ok (.lsub, 1) := dk_101 (dk_at dksJ35_divideLongMagnitude_13 19 rfl rfl)
theorem dJ35_divideLongMagnitude_322 : decode cJ35_divideLongMagnitude 322 = .ok (.l2i, 1) := dk_136 (dk_at dksJ35_divideLongMagnitude_13 20 rfl rfl)
theorem dJ35_divideLongMagnitude_323 : decode cJ35_divideLongMagnitude 323 = .ok (.istore 15, 2) := dk_54 15 (dk_at dksJ35_divideLongMagnitude_13 21 rfl rfl)
theorem dJ35_divideLongMagnitude_325 : decode cJ35_divideLongMagnitude 325 = .ok (.goto 29, 3) := dk_167 0 29 (dk_at dksJ35_divideLongMagnitude_14 0 rfl rfl)
theorem dJ35_divideLongMagnitude_328 : decode cJ35_divideLongMagnitude 328 = .ok (.lload 20, 2) := dk_22 20 (dk_at dksJ35_divideLongMagnitude_14 3 rfl rfl)
theorem dJ35_divideLongMagnitude_330 : decode cJ35_divideLongMagnitude 330 = .ok (.iload 9, 2) := dk_21 9 (dk_at dksJ35_divideLongMagnitude_14 5 rfl rfl)
theorem dJ35_divideLongMagnitude_332 : decode cJ35_divideLongMagnitude 332 = .ok (.invokestatic 155, 3) := dk_184 0 155 (dk_at dksJ35_divideLongMagnitude_14 7 rfl rfl)
theorem dJ35_divideLongMagnitude_335 : decode cJ35_divideLongMagnitude 335 = .ok (.lstore 22, 2) := dk_55 22 (dk_at dksJ35_divideLongMagnitude_14 10 rfl rfl)
theorem dJ35_divideLongMagnitude_337 : decode cJ35_divideLongMagnitude 337 = .ok (.lload 22, 2) := dk_22 22 (dk_at dksJ35_divideLongMagnitude_14 12 rfl rfl)
theorem dJ35_divideLongMagnitude_339 : decode cJ35_divideLongMagnitude 339 = .ok (.ldc2_w 52, 3) := dk_20 0 52 (dk_at dksJ35_divideLongMagnitude_14 14 rfl rfl)
theorem dJ35_divideLongMagnitude_342 : decode cJ35_divideLongMagnitude 342 = .ok (.land, 1) := dk_127 (dk_at dksJ35_divideLongMagnitude_14 17 rfl rfl)
theorem dJ35_divideLongMagnitude_343 : decode cJ35_divideLongMagnitude 343 = .ok (.l2i, 1) := dk_136 (dk_at dksJ35_divideLongMagnitude_14 18 rfl rfl)
theorem dJ35_divideLongMagnitude_344 : decode cJ35_divideLongMagnitude 344 = .ok (.istore 14, 2) := dk_54 14 (dk_at dksJ35_divideLongMagnitude_14 19 rfl rfl)
theorem dJ35_divideLongMagnitude_346 : decode cJ35_divideLongMagnitude 346 = .ok (.lload 22, 2) := dk_22 22 (dk_at dksJ35_divideLongMagnitude_14 21 rfl rfl)
theorem dJ35_divideLongMagnitude_348 : decode cJ35_divideLongMagnitude 348 = .ok (.bipush 32, 2) := dk_16 32 (dk_at dksJ35_divideLongMagnitude_15 0 rfl rfl)
theorem dJ35_divideLongMagnitude_350 : decode cJ35_divideLongMagnitude 350 = .ok (.lushr, 1) := dk_125 (dk_at dksJ35_divideLongMagnitude_15 2 rfl rfl)
theorem dJ35_divideLongMagnitude_351 : decode cJ35_divideLongMagnitude 351 = .ok (.l2i, 1) := dk_136 (dk_at dksJ35_divideLongMagnitude_15 3 rfl rfl)
theorem dJ35_divideLongMagnitude_352 : decode cJ35_divideLongMagnitude 352 = .ok (.istore 15, 2) := dk_54 15 (dk_at dksJ35_divideLongMagnitude_15 4 rfl rfl)
theorem dJ35_divideLongMagnitude_354 : decode cJ35_divideLongMagnitude 354 = .ok (.iload 14, 2) := dk_21 14 (dk_at dksJ35_divideLongMagnitude_15 6 rfl rfl)
theorem dJ35_divideLongMagnitude_356 : decode cJ35_divideLongMagnitude 356 = .ok (.ifCond .ne 6, 3) := dk_154 0 6 (dk_at dksJ35_divideLongMagnitude_15 8 rfl rfl)
theorem dJ35_divideLongMagnitude_359 : decode cJ35_divideLongMagnitude 359 = .ok (.goto 228, 3) := dk_167 0 228 (dk_at dksJ35_divideLongMagnitude_15 11 rfl rfl)
theorem dJ35_divideLongMagnitude_362 : decode cJ35_divideLongMagnitude 362 = .ok (.iload 16, 2) := dk_21 16 (dk_at dksJ35_divideLongMagnitude_15 14 rfl rfl)
theorem dJ35_divideLongMagnitude_364 : decode cJ35_divideLongMagnitude 364 = .ok (.ifCond .ne 139, 3) := dk_154 0 139 (dk_at dksJ35_divideLongMagnitude_15 16 rfl rfl)
theorem dJ35_divideLongMagnitude_367 : decode cJ35_divideLongMagnitude 367 = .ok (.aload 4, 2) := dk_25 4 (dk_at dksJ35_divideLongMagnitude_15 19 rfl rfl)
theorem dJ35_divideLongMagnitude_369 : decode cJ35_divideLongMagnitude 369 = .ok (.getfield 17, 3) := dk_180 0 17 (dk_at dksJ35_divideLongMagnitude_15 21 rfl rfl)
theorem dJ35_divideLongMagnitude_372 : decode cJ35_divideLongMagnitude 372 = .ok (.iload 13, 2) := dk_21 13 (dk_at dksJ35_divideLongMagnitude_16 0 rfl rfl)
theorem dJ35_divideLongMagnitude_374 : decode cJ35_divideLongMagnitude 374 = .ok (.iconst 2, 1) := dk_5 (dk_at dksJ35_divideLongMagnitude_16 2 rfl rfl)
theorem dJ35_divideLongMagnitude_375 : decode cJ35_divideLongMagnitude 375 = .ok (.iadd, 1) := dk_96 (dk_at dksJ35_divideLongMagnitude_16 3 rfl rfl)
theorem dJ35_divideLongMagnitude_376 : decode cJ35_divideLongMagnitude 376 = .ok (.aload 4, 2) := dk_25 4 (dk_at dksJ35_divideLongMagnitude_16 4 rfl rfl)
theorem dJ35_divideLongMagnitude_378 : decode cJ35_divideLongMagnitude 378 = .ok (.getfield 11, 3) := dk_180 0 11 (dk_at dksJ35_divideLongMagnitude_16 6 rfl rfl)
theorem dJ35_divideLongMagnitude_381 : decode cJ35_divideLongMagnitude 381 = .ok (.iadd, 1) := dk_96 (dk_at dksJ35_divideLongMagnitude_16 9 rfl rfl)
theorem dJ35_divideLongMagnitude_382 : decode cJ35_divideLongMagnitude 382 = .ok (.iaload, 1) := dk_46 (dk_at dksJ35_divideLongMagnitude_16 10 rfl rfl)
theorem dJ35_divideLongMagnitude_383 : decode cJ35_divideLongMagnitude 383 = .ok (.i2l, 1) := dk_133 (dk_at dksJ35_divideLongMagnitude_16 11 rfl rfl)
theorem dJ35_divideLongMagnitude_384 : decode cJ35_divideLongMagnitude 384 = .ok (.ldc2_w 52, 3) := dk_20 0 52 (dk_at dksJ35_divideLongMagnitude_16 12 rfl rfl)
theorem dJ35_divideLongMagnitude_387 : decode cJ35_divideLongMagnitude 387 = .ok (.land, 1) := dk_127 (dk_at dksJ35_divideLongMagnitude_16 15 rfl rfl)
theorem dJ35_divideLongMagnitude_388 : decode cJ35_divideLongMagnitude 388 = .ok (.lstore 20, 2) := dk_55 20 (dk_at dksJ35_divideLongMagnitude_16 16 rfl rfl)
theorem dJ35_divideLongMagnitude_390 : decode cJ35_divideLongMagnitude 390 = .ok (.iload 15, 2) := dk_21 15 (dk_at dksJ35_divideLongMagnitude_16 18 rfl rfl)
theorem dJ35_divideLongMagnitude_392 : decode cJ35_divideLongMagnitude 392 = .ok (.i2l, 1) := dk_133 (dk_at dksJ35_divideLongMagnitude_16 20 rfl rfl)
theorem dJ35_divideLongMagnitude_393 : decode cJ35_divideLongMagnitude 393 = .ok (.ldc2_w 52, 3) := dk_20 0 52 (dk_at dksJ35_divideLongMagnitude_16 21 rfl rfl)
theorem dJ35_divideLongMagnitude_396 : decode cJ35_divideLongMagnitude 396 = .ok (.land, 1) := dk_127 (dk_at dksJ35_divideLongMagnitude_17 0 rfl rfl)
theorem dJ35_divideLongMagnitude_397 : decode cJ35_divideLongMagnitude 397 = .ok (.bipush 32, 2) := dk_16 32 (dk_at dksJ35_divideLongMagnitude_17 1 rfl rfl)
theorem dJ35_divideLongMagnitude_399 : decode cJ35_divideLongMagnitude 399 = .ok (.lshl, 1) := dk_121 (dk_at dksJ35_divideLongMagnitude_17 3 rfl rfl)
theorem dJ35_divideLongMagnitude_400 : decode cJ35_divideLongMagnitude 400 = .ok (.lload 20, 2) := dk_22 20 (dk_at dksJ35_divideLongMagnitude_17 4 rfl rfl)
theorem dJ35_divideLongMagnitude_402 : decode cJ35_divideLongMagnitude 402 = .ok (.lor, 1) := dk_129 (dk_at dksJ35_divideLongMagnitude_17 6 rfl rfl)
theorem dJ35_divideLongMagnitude_403 : decode cJ35_divideLongMagnitude 403 = .ok (.lstore 22, 2) := dk_55 22 (dk_at dksJ35_divideLongMagnitude_17 7 rfl rfl)
theorem dJ35_divideLongMagnitude_405 : decode cJ35_divideLongMagnitude 405 = .ok (.iload 12, 2) := dk_21 12 (dk_at dksJ35_divideLongMagnitude_17 9 rfl rfl)
theorem dJ35_divideLongMagnitude_407 : decode cJ35_divideLongMagnitude 407 = .ok (.i2l, 1) := dk_133 (dk_at dksJ35_divideLongMagnitude_17 11 rfl rfl)
theorem dJ35_divideLongMagnitude_408 : decode cJ35_divideLongMagnitude 408 = .ok (.ldc2_w 52, 3) := dk_20 0 52 (dk_at dksJ35_divideLongMagnitude_17 12 rfl rfl)
theorem dJ35_divideLongMagnitude_411 : decode cJ35_divideLongMagnitude 411 = .ok (.land, 1) := dk_127 (dk_at dksJ35_divideLongMagnitude_17 15 rfl rfl)
theorem dJ35_divideLongMagnitude_412 : decode cJ35_divideLongMagnitude 412 = .ok (.iload 14, 2) := dk_21 14 (dk_at dksJ35_divideLongMagnitude_17 16 rfl rfl)
theorem dJ35_divideLongMagnitude_414 : decode cJ35_divideLongMagnitude 414 = .ok (.i2l, 1) := dk_133 (dk_at dksJ35_divideLongMagnitude_17 18 rfl rfl)
theorem dJ35_divideLongMagnitude_415 : decode cJ35_divideLongMagnitude 415 = .ok (.ldc2_w 52, 3) := dk_20 0 52 (dk_at dksJ35_divideLongMagnitude_17 19 rfl rfl)
theorem dJ35_divideLongMagnitude_418 : decode cJ35_divideLongMagnitude 418 = .ok (.land, 1) := dk_127 (dk_at dksJ35_divideLongMagnitude_17 22 rfl rfl)
theorem dJ35_divideLongMagnitude_419 : decode cJ35_divideLongMagnitude 419 = .ok (.lmul, 1) := dk_105 (dk_at dksJ35_divideLongMagnitude_17 23 rfl rfl)
theorem dJ35_divideLongMagnitude_420 : decode cJ35_divideLongMagnitude 420 = .ok (.lstore 24, 2) := dk_55 24 (dk_at dksJ35_divideLongMagnitude_18 0 rfl rfl)
theorem dJ35_divideLongMagnitude_422 : decode cJ35_divideLongMagnitude 422 = .ok (.aload_n 0, 1) := dk_42 (dk_at dksJ35_divideLongMagnitude_18 2 rfl rfl)
theorem dJ35_divideLongMagnitude_423 : decode cJ35_divideLongMagnitude 423 = .ok (.lload 24, 2) := dk_22 24 (dk_at dksJ35_divideLongMagnitude_18 3 rfl rfl)
theorem dJ35_divideLongMagnitude_425 : decode cJ35_divideLongMagnitude 425 = .ok (.lload 22, 2) := dk_22 22 (dk_at dksJ35_divideLongMagnitude_18 5 rfl rfl)
theorem dJ35_divideLongMagnitude_427 : decode cJ35_divideLongMagnitude 427 = .ok (.invokevirtual 273, 3) := dk_182 1 17 (dk_at dksJ35_divideLongMagnitude_18 7 rfl rfl)
theorem dJ35_divideLongMagnitude_430 : decode cJ35_divideLongMagnitude 430 = .ok (.ifCond .eq 73, 3) := dk_153 0 73 (dk_at dksJ35_divideLongMagnitude_18 10 rfl rfl)
theorem dJ35_divideLongMagnitude_433 : decode cJ35_divideLongMagnitude 433 = .ok (.iinc 14 (-1), 3) := dk_132 14 255 (dk_at dksJ35_divideLongMagnitude_18 13 rfl rfl)
theorem dJ35_divideLongMagnitude_436 : decode cJ35_divideLongMagnitude 436 = .ok (.iload 15, 2) := dk_21 15 (dk_at dksJ35_divideLongMagnitude_18 16 rfl rfl)
theorem dJ35_divideLongMagnitude_438 : decode cJ35_divideLongMagnitude 438 = .ok (.i2l, 1) := dk_133 (dk_at dksJ35_divideLongMagnitude_18 18 rfl rfl)
theorem dJ35_divideLongMagnitude_439 : decode cJ35_divideLongMagnitude 439 = .ok (.ldc2_w 52, 3) := dk_20 0 52 (dk_at dksJ35_divideLongMagnitude_18 19 rfl rfl)
theorem dJ35_divideLongMagnitude_442 : decode cJ35_divideLongMagnitude 442 = .ok (.land, 1) := dk_127 (dk_at dksJ35_divideLongMagnitude_18 22 rfl rfl)
theorem dJ35_divideLongMagnitude_443 : decode cJ35_divideLongMagnitude 443 = .ok (.lload 10, 2) := dk_22 10 (dk_at dksJ35_divideLongMagnitude_19 0 rfl rfl)
theorem dJ35_divideLongMagnitude_445 : decode cJ35_divideLongMagnitude 445 = .ok (.ladd, 1) := dk_97 (dk_at dksJ35_divideLongMagnitude_19 2 rfl rfl)
theorem dJ35_divideLongMagnitude_446 : decode cJ35_divideLongMagnitude 446 = .ok (.l2i, 1) := dk_136 (dk_at dksJ35_divideLongMagnitude_19 3 rfl rfl)
theorem dJ35_divideLongMagnitude_447 : decode cJ35_divideLongMagnitude 447 = .ok (.istore 15, 2) := dk_54 15 (dk_at dksJ35_divideLongMagnitude_19 4 rfl rfl)
theorem dJ35_divideLongMagnitude_449 : decode cJ35_divideLongMagnitude 449 = .ok (.iload 15, 2) := dk_21 15 (dk_at dksJ35_divideLongMagnitude_19 6 rfl rfl)
theorem dJ35_divideLongMagnitude_451 : decode cJ35_divideLongMagnitude 451 = .ok (.i2l, 1) := dk_133 (dk_at dksJ35_divideLongMagnitude_19 8 rfl rfl)
theorem dJ35_divideLongMagnitude_452 : decode cJ35_divideLongMagnitude 452 = .ok (.ldc2_w 52, 3) := dk_20 0 52 (dk_at dksJ35_divideLongMagnitude_19 9 rfl rfl)
theorem dJ35_divideLongMagnitude_455 : decode cJ35_divideLongMagnitude 455 = .ok (.land, 1) := dk_127 (dk_at dksJ35_divideLongMagnitude_19 12 rfl rfl)
theorem dJ35_divideLongMagnitude_456 : decode cJ35_divideLongMagnitude 456 = .ok (.lload 10, 2) := dk_22 10 (dk_at dksJ35_divideLongMagnitude_19 13 rfl rfl)
theorem dJ35_divideLongMagnitude_458 : decode cJ35_divideLongMagnitude 458 = .ok (.lcmp, 1) := dk_148 (dk_at dksJ35_divideLongMagnitude_19 15 rfl rfl)
theorem dJ35_divideLongMagnitude_459 : decode cJ35_divideLongMagnitude 459 = .ok (.ifCond .lt 44, 3) := dk_155 0 44 (dk_at dksJ35_divideLongMagnitude_19 16 rfl rfl)
theorem dJ35_divideLongMagnitude_462 : decode cJ35_divideLongMagnitude 462 = .ok (.lload 24, 2) := dk_22 24 (dk_at dksJ35_divideLongMagnitude_19 19 rfl rfl)
theorem dJ35_divideLongMagnitude_464 : decode cJ35_divideLongMagnitude 464 = .ok (.iload 12, 2) := dk_21 12 (dk_at dksJ35_divideLongMagnitude_19 21 rfl rfl)
theorem dJ35_divideLongMagnitude_466 : decode cJ35_divideLongMagnitude 466 = .ok (.i2l, 1) := dk_133 (dk_at dksJ35_divideLongMagnitude_19 23 rfl rfl)
theorem dJ35_divideLongMagnitude_467 : decode cJ35_divideLongMagnitude 467 = .ok (.ldc2_w 52, 3) := dk_20 0 52 (dk_at dksJ35_divideLongMagnitude_20 0 rfl rfl)
theorem dJ35_divideLongMagnitude_470 : decode cJ35_divideLongMagnitude 470 = .ok (.land, 1) := dk_127 (dk_at dksJ35_divideLongMagnitude_20 3 rfl rfl)
theorem dJ35_divideLongMagnitude_471 : decode cJ35_divideLongMagnitude 471 = .ok (.lsub, 1) := dk_101 (dk_at dksJ35_divideLongMagnitude_20 4 rfl rfl)
theorem dJ35_divideLongMagnitude_472 : decode cJ35_divideLongMagnitude 472 = .ok (.lstore 24, 2) := dk_55 24 (dk_at dksJ35_divideLongMagnitude_20 5 rfl rfl)
theorem dJ35_divideLongMagnitude_474 : decode cJ35_divideLongMagnitude 474 = .ok (.iload 15, 2) := dk_21 15 (dk_at dksJ35_divideLongMagnitude_20 7 rfl rfl)
theorem dJ35_divideLongMagnitude_476 : decode cJ35_divideLongMagnitude 476 = .ok (.i2l, 1) := dk_133 (dk_at dksJ35_divideLongMagnitude_20 9 rfl rfl)
theorem dJ35_divideLongMagnitude_477 : decode cJ35_divideLongMagnitude 477 = .ok (.ldc2_w 52, 3) := dk_20 0 52 (dk_at dksJ35_divideLongMagnitude_20 10 rfl rfl)
theorem dJ35_divideLongMagnitude_480 : decode cJ35_divideLongMagnitude 480 = .ok (.land, 1) := dk_127 (dk_at dksJ35_divideLongMagnitude_20 13 rfl rfl)
theorem dJ35_divideLongMagnitude_481 : decode cJ35_divideLongMagnitude 481 = .ok (.bipush 32, 2) := dk_16 32 (dk_at dksJ35_divideLongMagnitude_20 14 rfl rfl)
theorem dJ35_divideLongMagnitude_483 : decode cJ35_divideLongMagnitude 483 = .ok (.lshl, 1) := dk_121 (dk_at dksJ35_divideLongMagnitude_20 16 rfl rfl)
theorem dJ35_divideLongMagnitude_484 : decode cJ35_divideLongMagnitude 484 = .ok (.lload 20, 2) := dk_22 20 (dk_at dksJ35_divideLongMagnitude_20 17 rfl rfl)
theorem dJ35_divideLongMagnitude_486 : decode cJ35_divideLongMagnitude 486 = .ok (.lor, 1) := dk_129 (dk_at dksJ35_divideLongMagnitude_20 19 rfl rfl)
theorem dJ35_divideLongMagnitude_487 : decode cJ35_divideLongMagnitude 487 = .ok (.lstore 22, 2) := dk_55 22 (dk_at dksJ35_divideLongMagnitude_20 20 rfl rfl)
theorem dJ35_divideLongMagnitude_489 : decode cJ35_divideLongMagnitude 489 = .ok (.aload_n 0, 1) := dk_42 (dk_at dksJ35_divideLongMagnitude_20 22 rfl rfl)
theorem dJ35_divideLongMagnitude_490 : decode cJ35_divideLongMagnitude 490 = .ok (.lload 24, 2) := dk_22 24 (dk_at dksJ35_divideLongMagnitude_21 0 rfl rfl)
theorem dJ35_divideLongMagnitude_492 : decode cJ35_divideLongMagnitude 492 = .ok (.lload 22, 2) := dk_22 22 (dk_at dksJ35_divideLongMagnitude_21 2 rfl rfl)
theorem dJ35_divideLongMagnitude_494 : decode cJ35_divideLongMagnitude 494 = .ok (.invokevirtual 273, 3) := dk_182 1 17 (dk_at dksJ35_divideLongMagnitude_21 4 rfl rfl)
theorem dJ35_divideLongMagnitude_497 : decode cJ35_divideLongMagnitude 497 = .ok (.ifCond .eq 6, 3) := dk_153 0 6 (dk_at dksJ35_divideLongMagnitude_21 7 rfl rfl)
theorem dJ35_divideLongMagnitude_500 : decode cJ35_divideLongMagnitude 500 = .ok (.iinc 14 (-1), 3) := dk_132 14 255 (dk_at dksJ35_divideLongMagnitude_21 10 rfl rfl)
theorem dJ35_divideLongMagnitude_503 : decode cJ35_divideLongMagnitude 503 = .ok (.aload 4, 2) := dk_25 4 (dk_at dksJ35_divideLongMagnitude_21 13 rfl rfl)
theorem dJ35_divideLongMagnitude_505 : decode cJ35_divideLongMagnitude 505 = .ok (.getfield 17, 3) := dk_180 0 17 (dk_at dksJ35_divideLongMagnitude_21 15 rfl rfl)
theorem dJ35_divideLongMagnitude_508 : decode cJ35_divideLongMagnitude 508 = .ok (.iload 13, 2) := dk_21 13 (dk_at dksJ35_divideLongMagnitude_21 18 rfl rfl)
theorem dJ35_divideLongMagnitude_510 : decode cJ35_divideLongMagnitude 510 = .ok (.aload 4, 2) := dk_25 4 (dk_at dksJ35_divideLongMagnitude_21 20 rfl rfl)
theorem dJ35_divideLongMagnitude_512 : decode cJ35_divideLongMagnitude 512 = .ok (.getfield 11, 3) := dk_180 0 11 (dk_at dksJ35_divideLongMagnitude_22 0 rfl rfl)
theorem dJ35_divideLongMagnitude_515 : decode cJ35_divideLongMagnitude 515 = .ok (.iadd, 1) := dk_96 (dk_at dksJ35_divideLongMagnitude_22 3 rfl rfl)
theorem dJ35_divideLongMagnitude_516 : decode cJ35_divideLongMagnitude 516 = .ok (.iconst 0, 1) := dk_3 (dk_at dksJ35_divideLongMagnitude_22 4 rfl rfl)
theorem dJ35_divideLongMagnitude_517 : decode cJ35_divideLongMagnitude 517 = .ok (.iastore, 1) := dk_79 (dk_at dksJ35_divideLongMagnitude_22 5 rfl rfl)
theorem dJ35_divideLongMagnitude_518 : decode cJ35_divideLongMagnitude 518 = .ok (.aload_n 0, 1) := dk_42 (dk_at dksJ35_divideLongMagnitude_22 6 rfl rfl)
theorem dJ35_divideLongMagnitude_519 : decode cJ35_divideLongMagnitude 519 = .ok (.aload 4, 2) := dk_25 4 (dk_at dksJ35_divideLongMagnitude_22 7 rfl rfl)
theorem dJ35_divideLongMagnitude_521 : decode cJ35_divideLongMagnitude 521 = .ok (.getfield 17, 3) := dk_180 0 17 (dk_at dksJ35_divideLongMagnitude_22 9 rfl rfl)
theorem dJ35_divideLongMagnitude_524 : decode cJ35_divideLongMagnitude 524 = .ok (.iload 9, 2) := dk_21 9 (dk_at dksJ35_divideLongMagnitude_22 12 rfl rfl)
theorem dJ35_divideLongMagnitude_526 : decode cJ35_divideLongMagnitude 526 = .ok (.iload 12, 2) := dk_21 12 (dk_at dksJ35_divideLongMagnitude_22 14 rfl rfl)
theorem dJ35_divideLongMagnitude_528 : decode cJ35_divideLongMagnitude 528 = .ok (.iload 14, 2) := dk_21 14 (dk_at dksJ35_divideLongMagnitude_22 16 rfl rfl)
theorem dJ35_divideLongMagnitude_530 : decode cJ35_divideLongMagnitude 530 = .ok (.iload 13, 2) := dk_21 13 (dk_at dksJ35_divideLongMagnitude_22 18 rfl rfl)
theorem dJ35_divideLongMagnitude_532 : decode cJ35_divideLongMagnitude 532 = .ok (.aload 4, 2) := dk_25 4 (dk_at dksJ35_divideLongMagnitude_22 20 rfl rfl)
theorem dJ35_divideLongMagnitude_534 : decode cJ35_divideLongMagnitude 534 = .ok (.getfield 11, 3) := dk_180 0 11 (dk_at dksJ35_divideLongMagnitude_23 0 rfl rfl)
theorem dJ35_divideLongMagnitude_537 : decode cJ35_divideLongMagnitude 537 = .ok (.iadd, 1) := dk_96 (dk_at dksJ35_divideLongMagnitude_23 3 rfl rfl)
theorem dJ35_divideLongMagnitude_538 : decode cJ35_divideLongMagnitude 538 = .ok (.invokevirtual 293, 3) := dk_182 1 37 (dk_at dksJ35_divideLongMagnitude_23 4 rfl rfl)
theorem dJ35_divideLongMagnitude_541 : decode cJ35_divideLongMagnitude 541 = .ok (.istore 20, 2) := dk_54 20 (dk_at dksJ35_divideLongMagnitude_23 7 rfl rfl)
theorem dJ35_divideLongMagnitude_543 : decode cJ35_divideLongMagnitude 543 = .ok (.iload 20, 2) := dk_21 20 (dk_at dksJ35_divideLongMagnitude_23 9 rfl rfl)
theorem dJ35_divideLongMagnitude_545 : decode cJ35_divideLongMagnitude 545 = .ok (.ldc 88, 2) := dk_18 88 (dk_at dksJ35_divideLongMagnitude_23 11 rfl rfl)
theorem dJ35_divideLongMagnitude_547 : decode cJ35_divideLongMagnitude 547 = .ok (.iadd, 1) := dk_96 (dk_at dksJ35_divideLongMagnitude_23 13 rfl rfl)
theorem dJ35_divideLongMagnitude_548 : decode cJ35_divideLongMagnitude 548 = .ok (.iload 18, 2) := dk_21 18 (dk_at dksJ35_divideLongMagnitude_23 14 rfl rfl)
theorem dJ35_divideLongMagnitude_550 : decode cJ35_divideLongMagnitude 550 = .ok (.if_icmp .le 30, 3) := dk_164 0 30 (dk_at dksJ35_divideLongMagnitude_23 16 rfl rfl)
theorem dJ35_divideLongMagnitude_553 : decode cJ35_divideLongMagnitude 553 = .ok (.aload_n 0, 1) := dk_42 (dk_at dksJ35_divideLongMagnitude_23 19 rfl rfl)
theorem dJ35_divideLongMagnitude_554 : decode cJ35_divideLongMagnitude 554 = .ok (.iload 9, 2) := dk_21 9 (dk_at dksJ35_divideLongMagnitude_23 20 rfl rfl)
theorem dJ35_divideLongMagnitude_556 : decode cJ35_divideLongMagnitude 556 = .ok (.iload 12, 2) := dk_21 12 (dk_at dksJ35_divideLongMagnitude_23 22 rfl rfl)
theorem dJ35_divideLongMagnitude_558 : decode cJ35_divideLongMagnitude 558 = .ok (.aload 4, 2) := dk_25 4 (dk_at dksJ35_divideLongMagnitude_24 0 rfl rfl)
theorem dJ35_divideLongMagnitude_560 : decode cJ35_divideLongMagnitude 560 = .ok (.getfield 17, 3) := dk_180 0 17 (dk_at dksJ35_divideLongMagnitude_24 2 rfl rfl)
theorem dJ35_divideLongMagnitude_563 : decode cJ35_divideLongMagnitude 563 = .ok (.iload 13, 2) := dk_21 13 (dk_at dksJ35_divideLongMagnitude_24 5 rfl rfl)
theorem dJ35_divideLongMagnitude_565 : decode cJ35_divideLongMagnitude 565 = .ok (.iconst 1, 1) := dk_4 (dk_at dksJ35_divideLongMagnitude_24 7 rfl rfl)
theorem dJ35_divideLongMagnitude_566 : decode cJ35_divideLongMagnitude 566 = .ok (.iadd, 1) := dk_96 (dk_at dksJ35_divideLongMagnitude_24 8 rfl rfl)
theorem dJ35_divideLongMagnitude_567 : decode cJ35_divideLongMagnitude 567 = .ok (.aload 4, 2) := dk_25 4 (dk_at dksJ35_divideLongMagnitude_24 9 rfl rfl)
theorem dJ35_divideLongMagnitude_569 : decode cJ35_divideLongMagnitude 569 = .ok (.getfield 11, 3) := dk_180 0 11 (dk_at dksJ35_divideLongMagnitude_24 11 rfl rfl)
theorem dJ35_divideLongMagnitude_572 : decode cJ35_divideLongMagnitude 572 = .ok (.iadd, 1) := dk_96 (dk_at dksJ35_divideLongMagnitude_24 14 rfl rfl)
theorem dJ35_divideLongMagnitude_573 : decode cJ35_divideLongMagnitude 573 = .ok (.invokevirtual 297, 3) := dk_182 1 41 (dk_at dksJ35_divideLongMagnitude_24 15 rfl rfl)
theorem dJ35_divideLongMagnitude_576 : decode cJ35_divideLongMagnitude 576 = .ok (.pop, 1) := dk_87 (dk_at dksJ35_divideLongMagnitude_24 18 rfl rfl)
theorem dJ35_divideLongMagnitude_577 : decode cJ35_divideLongMagnitude 577 = .ok (.iinc 14 (-1), 3) := dk_132 14 255 (dk_at dksJ35_divideLongMagnitude_24 19 rfl rfl)
theorem dJ35_divideLongMagnitude_580 : decode cJ35_divideLongMagnitude 580 = .ok (.aload 7, 2) := dk_25 7 (dk_at dksJ35_divideLongMagnitude_24 22 rfl rfl)
theorem dJ35_divideLongMagnitude_582 : decode cJ35_divideLongMagnitude 582 = .ok (.iload 13, 2) := dk_21 13 (dk_at dksJ35_divideLongMagnitude_25 0 rfl rfl)
theorem dJ35_divideLongMagnitude_584 : decode cJ35_divideLongMagnitude 584 = .ok (.iload 14, 2) := dk_21 14 (dk_at dksJ35_divideLongMagnitude_25 2 rfl rfl)
theorem dJ35_divideLongMagnitude_586 : decode cJ35_divideLongMagnitude 586 = .ok (.iastore, 1) := dk_79 (dk_at dksJ35_divideLongMagnitude_25 4 rfl rfl)
theorem dJ35_divideLongMagnitude_587 : decode cJ35_divideLongMagnitude 587 = .ok (.iinc 13 1, 3) := dk_132 13 1 (dk_at dksJ35_divideLongMagnitude_25 5 rfl rfl)
theorem dJ35_divideLongMagnitude_590 : decode cJ35_divideLongMagnitude 590 = .ok (.goto (-402), 3) := dk_167 254 110 (dk_at dksJ35_divideLongMagnitude_25 8 rfl rfl)
theorem dJ35_divideLongMagnitude_593 : decode cJ35_divideLongMagnitude 593 = .ok (.iload 8, 2) := dk_21 8 (dk_at dksJ35_divideLongMagnitude_25 11 rfl rfl)
theorem dJ35_divideLongMagnitude_595 : decode cJ35_divideLongMagnitude 595 = .ok (.ifCond .le 10, 3) := dk_158 0 10 (dk_at dksJ35_divideLongMagnitude_25 13 rfl rfl)
theorem dJ35_divideLongMagnitude_598 : decode cJ35_divideLongMagnitude 598 = .ok (.aload 4, 2) := dk_25 4 (dk_at dksJ35_divideLongMagnitude_25 16 rfl rfl)
theorem dJ35_divideLongMagnitude_600 : decode cJ35_divideLongMagnitude 600 = .ok (.iload 8, 2) := dk_21 8 (dk_at dksJ35_divideLongMagnitude_25 18 rfl rfl)
theorem dJ35_divideLongMagnitude_602 : decode cJ35_divideLongMagnitude 602 = .ok (.invokevirtual 108, 3) := dk_182 0 108 (dk_at dksJ35_divideLongMagnitude_25 20 rfl rfl)
theorem dJ35_divideLongMagnitude_605 : decode cJ35_divideLongMagnitude 605 = .ok (.aload_n 3, 1) := dk_45 (dk_at dksJ35_divideLongMagnitude_25 23 rfl rfl)
theorem dJ35_divideLongMagnitude_606 : decode cJ35_divideLongMagnitude 606 = .ok (.invokevirtual 64, 3) := dk_182 0 64 (dk_at dksJ35_divideLongMagnitude_26 0 rfl rfl)
theorem dJ35_divideLongMagnitude_609 : decode cJ35_divideLongMagnitude 609 = .ok (.aload 4, 2) := dk_25 4 (dk_at dksJ35_divideLongMagnitude_26 3 rfl rfl)
theorem dJ35_divideLongMagnitude_611 : decode cJ35_divideLongMagnitude 611 = .ok (.invokevirtual 64, 3) := dk_182 0 64 (dk_at dksJ35_divideLongMagnitude_26 5 rfl rfl)
theorem dJ35_divideLongMagnitude_614 : decode cJ35_divideLongMagnitude 614 = .ok (.aload 4, 2) := dk_25 4 (dk_at dksJ35_divideLongMagnitude_26 8 rfl rfl)
theorem dJ35_divideLongMagnitude_616 : decode cJ35_divideLongMagnitude 616 = .ok (.areturn, 1) := dk_176 (dk_at dksJ35_divideLongMagnitude_26 10 rfl rfl)
def dkwJ35_add_14 : List UInt8 := [42, 21, 4, 181, 0, 21, 42, 25, 5, 190, 21, 4, 100, 181, 0, 11, 177]
abbrev dktJ35_add_14 : List UInt8 := dkwJ35_add_14 ++ []
def dkwJ35_add_13 : List UInt8 := [4, 79, 25, 11, 58, 5, 167, 0, 12, 25, 5, 21, 6, 132, 6, 255, 4, 79, 42, 25, 5, 181, 0, 17]
abbrev dktJ35_add_13 : List UInt8 := dkwJ35_add_13 ++ dktJ35_add_14
def dkwJ35_add_12 : List UInt8 := [162, 0, 33, 21, 4, 188, 10, 58, 11, 25, 5, 3, 25, 11, 4, 25, 5, 190, 184, 0, 95, 25, 11, 3]
abbrev dktJ35_add_12 : List UInt8 := dkwJ35_add_12 ++ dktJ35_add_13
def dkwJ35_add_11 : List UInt8 := [16, 32, 125, 55, 9, 167, 255, 210, 22, 9, 9, 148, 158, 0, 53, 132, 4, 1, 25, 5, 190, 21, 4]
abbrev dktJ35_add_11 : List UInt8 := dkwJ35_add_11 ++ dktJ35_add_12
def dkwJ35_add_10 : List UInt8 := [133, 20, 0, 52, 127, 22, 9, 97, 55, 7, 25, 5, 21, 6, 132, 6, 255, 22, 7, 136, 79, 22, 7]
abbrev dktJ35_add_10 : List UInt8 := dkwJ35_add_10 ++ dktJ35_add_11
def dkwJ35_add_9 : List UInt8 := [125, 55, 9, 167, 255, 182, 29, 158, 0, 48, 132, 3, 255, 43, 180, 0, 17, 29, 43, 180, 0, 11, 96, 46]
abbrev dktJ35_add_9 : List UInt8 := dkwJ35_add_9 ++ dktJ35_add_10
def dkwJ35_add_8 : List UInt8 := [20, 0, 52, 127, 22, 9, 97, 55, 7, 25, 5, 21, 6, 132, 6, 255, 22, 7, 136, 79, 22, 7, 16, 32]
abbrev dktJ35_add_8 : List UInt8 := dkwJ35_add_8 ++ dktJ35_add_9
def dkwJ35_add_7 : List UInt8 := [21, 6, 28, 42, 180, 0, 11, 96, 160, 0, 4, 177, 42, 180, 0, 17, 28, 42, 180, 0, 11, 96, 46, 133]
abbrev dktJ35_add_7 : List UInt8 := dkwJ35_add_7 ++ dktJ35_add_8
def dkwJ35_add_6 : List UInt8 := [28, 158, 0, 76, 132, 2, 255, 22, 9, 9, 148, 154, 0, 24, 25, 5, 42, 180, 0, 17, 166, 0, 15]
abbrev dktJ35_add_6 : List UInt8 := dkwJ35_add_6 ++ dktJ35_add_7
def dkwJ35_add_5 : List UInt8 := [97, 55, 7, 25, 5, 21, 6, 132, 6, 255, 22, 7, 136, 79, 22, 7, 16, 32, 125, 55, 9, 167, 255, 186]
abbrev dktJ35_add_5 : List UInt8 := dkwJ35_add_5 ++ dktJ35_add_6
def dkwJ35_add_4 : List UInt8 := [133, 20, 0, 52, 127, 43, 180, 0, 17, 29, 43, 180, 0, 11, 96, 46, 133, 20, 0, 52, 127, 97, 22, 9]
abbrev dktJ35_add_4 : List UInt8 := dkwJ35_add_4 ++ dktJ35_add_5
def dkwJ35_add_3 : List UInt8 := [158, 0, 72, 29, 158, 0, 68, 132, 2, 255, 132, 3, 255, 42, 180, 0, 17, 28, 42, 180, 0, 11, 96, 46]
abbrev dktJ35_add_3 : List UInt8 := dkwJ35_add_3 ++ dktJ35_add_4
def dkwJ35_add_2 : List UInt8 := [188, 10, 167, 0, 7, 42, 180, 0, 17, 58, 5, 25, 5, 190, 4, 100, 54, 6, 9, 55, 9, 28]
abbrev dktJ35_add_2 : List UInt8 := dkwJ35_add_2 ++ dktJ35_add_3
def dkwJ35_add_1 : List UInt8 := [180, 0, 21, 167, 0, 7, 43, 180, 0, 21, 54, 4, 42, 180, 0, 17, 190, 21, 4, 162, 0, 10, 21, 4]
abbrev dktJ35_add_1 : List UInt8 := dkwJ35_add_1 ++ dktJ35_add_2
def dkwJ35_add_0 : List UInt8 := [42, 180, 0, 21, 61, 43, 180, 0, 21, 62, 42, 180, 0, 21, 43, 180, 0, 21, 164, 0, 10, 42]
abbrev dktJ35_add_0 : List UInt8 := dkwJ35_add_0 ++ dktJ35_add_1
theorem dksJ35_add_0 : cJ35_add.data.toList.drop 0 = dktJ35_add_0 := by decide +kernel
theorem dksJ35_add_1 : cJ35_add.data.toList.drop 22 = dktJ35_add_1 := dk_seg dksJ35_add_0 22 rfl rfl
theorem dksJ35_add_2 : cJ35_add.data.toList.drop 46 = dktJ35_add_2 := dk_seg dksJ35_add_1 24 rfl rfl
theorem dksJ35_add_3 : cJ35_add.data.toList.drop 68 = dktJ35_add_3 := dk_seg dksJ35_add_2 22 rfl rfl
theorem dksJ35_add_4 : cJ35_add.data.toList.drop 92 = dktJ35_add_4 := dk_seg dksJ35_add_3 24 rfl rfl
theorem dksJ35_add_5 : cJ35_add.data.toList.drop 116 = dktJ35_add_5 := dk_seg dksJ35_add_4 24 rfl rfl
theorem dksJ35_add_6 : cJ35_add.data.toList.drop 140 = dktJ35_add_6 := dk_seg dksJ35_add_5 24 rfl rfl
theorem dksJ35_add_7 : cJ35_add.data.toList.drop 163 = dktJ35_add_7 := dk_seg dksJ35_add_6 23 rfl rfl
theorem dksJ35_add_8 : cJ35_add.data.toList.drop 187 = dktJ35_add_8 := dk_seg dksJ35_add_7 24 rfl rfl
theorem dksJ35_add_9 : cJ35_add.data.toList.drop 211 = dktJ35_add_9 := dk_seg dksJ35_add_8 24 rfl rfl
theorem dksJ35_add_10 : cJ35_add.data.toList.drop 235 = dktJ35_add_10 := dk_seg dksJ35_add_9 24 rfl rfl
theorem dksJ35_add_11 : cJ35_add.data.toList.drop 258 = dktJ35_add_11 := dk_seg dksJ35_add_10 23 rfl rfl
theorem dksJ35_add_12 : cJ35_add.data.toList.drop 281 = dktJ35_add_12 := dk_seg dksJ35_add_11 23 rfl rfl
theorem dksJ35_add_13 : cJ35_add.data.toList.drop 305 = dktJ35_add_13 := dk_seg dksJ35_add_12 24 rfl rfl
theorem dksJ35_add_14 : cJ35_add.data.toList.drop 329 = dktJ35_add_14 := dk_seg dksJ35_add_13 24 rfl rfl
theorem dJ35_add_0 : decode cJ35_add 0 = .ok (.aload_n 0, 1) := dk_42 (dk_at dksJ35_add_0 0 rfl rfl)
theorem dJ35_add_1 : decode cJ35_add 1 = .ok (.getfield 21, 3) := dk_180 0 21 (dk_at dksJ35_add_0 1 rfl rfl)
theorem dJ35_add_4 : decode cJ35_add 4 = .ok (.istore_n 2, 1) := dk_61 (dk_at dksJ35_add_0 4 rfl rfl)
theorem dJ35_add_5 : decode cJ35_add 5 = .ok (.aload_n 1, 1) := dk_43 (dk_at dksJ35_add_0 5 rfl rfl)
theorem dJ35_add_6 : decode cJ35_add 6 = .ok (.getfield 21, 3) := dk_180 0 21 (dk_at dksJ35_add_0 6 rfl rfl)
theorem dJ35_add_9 : decode cJ35_add 9 = .ok (.istore_n 3, 1) := dk_62 (dk_at dksJ35_add_0 9 rfl rfl)
theorem dJ35_add_10 : decode cJ35_add 10 = .ok (.aload_n 0, 1) := dk_42 (dk_at dksJ35_add_0 10 rfl rfl)
theorem dJ35_add_11 : decode cJ35_add 11 = .ok (.getfield 21, 3) := dk_180 0 21 (dk_at dksJ35_add_0 11 rfl rfl)
theorem dJ35_add_14 : decode cJ35_add 14 = .ok (.aload_n 1, 1) := dk_43 (dk_at dksJ35_add_0 14 rfl rfl)
theorem dJ35_add_15 : decode cJ35_add 15 = .ok (.getfield 21, 3) := dk_180 0 21 (dk_at dksJ35_add_0 15 rfl rfl)
theorem dJ35_add_18 : decode cJ35_add 18 = .ok (.if_icmp .le 10, 3) := dk_164 0 10 (dk_at dksJ35_add_0 18 rfl rfl)
theorem dJ35_add_21 : decode cJ35_add 21 = .ok (.aload_n 0, 1) := dk_42 (dk_at dksJ35_add_0 21 rfl rfl)
theorem dJ35_add_22 : decode cJ35_add 22 = .ok (.getfield 21, 3) := dk_180 0 21 (dk_at dksJ35_add_1 0 rfl rfl)
theorem dJ35_add_25 : decode cJ35_add 25 = .ok (.goto 7, 3) := dk_167 0 7 (dk_at dksJ35_add_1 3 rfl rfl)
theorem dJ35_add_28 : decode cJ35_add 28 = .ok (.aload_n 1, 1) := dk_43 (dk_at dksJ35_add_1 6 rfl rfl)
theorem dJ35_add_29 : decode cJ35_add 29 = .ok (.getfield 21, 3) := dk_180 0 21 (dk_at dksJ35_add_1 7 rfl rfl)
theorem dJ35_add_32 : decode cJ35_add 32 = .ok (.istore 4, 2) := dk_54 4 (dk_at dksJ35_add_1 10 rfl rfl)
theorem dJ35_add_34 : decode cJ35_add 34 = .ok (.aload_n 0, 1) := dk_42 (dk_at dksJ35_add_1 12 rfl rfl)
theorem dJ35_add_35 : decode cJ35_add 35 = .ok (.getfield 17, 3) := dk_180 0 17 (dk_at dksJ35_add_1 13 rfl rfl)
theorem dJ35_add_38 : decode cJ35_add 38 = .ok (.arraylength, 1) := dk_190 (dk_at dksJ35_add_1 16 rfl rfl)
theorem dJ35_add_39 : decode cJ35_add 39 = .ok (.iload 4, 2) := dk_21 4 (dk_at dksJ35_add_1 17 rfl rfl)
theorem dJ35_add_41 : decode cJ35_add 41 = .ok (.if_icmp .ge 10, 3) := dk_162 0 10 (dk_at dksJ35_add_1 19 rfl rfl)
theorem dJ35_add_44 : decode cJ35_add 44 = .ok (.iload 4, 2) := dk_21 4 (dk_at dksJ35_add_1 22 rfl rfl)
theorem dJ35_add_46 : decode cJ35_add 46 = .ok (.newarray .int, 2) := dk_188_10 (dk_at dksJ35_add_2 0 rfl rfl)
theorem dJ35_add_48 : decode cJ35_add 48 = .ok (.goto 7, 3) := dk_167 0 7 (dk_at dksJ35_add_2 2 rfl rfl)
theorem dJ35_add_51 : decode cJ35_add 51 = .ok (.aload_n 0, 1) := dk_42 (dk_at dksJ35_add_2 5 rfl rfl)
theorem dJ35_add_52 : decode cJ35_add 52 = .ok (.getfield 17, 3) := dk_180 0 17 (dk_at dksJ35_add_2 6 rfl rfl)
theorem dJ35_add_55 : decode cJ35_add 55 = .ok (.astore 5, 2) := dk_58 5 (dk_at dksJ35_add_2 9 rfl rfl)
theorem dJ35_add_57 : decode cJ35_add 57 = .ok (.aload 5, 2) := dk_25 5 (dk_at dksJ35_add_2 11 rfl rfl)
theorem dJ35_add_59 : decode cJ35_add 59 = .ok (.arraylength, 1) := dk_190 (dk_at dksJ35_add_2 13 rfl rfl)
theorem dJ35_add_60 : decode cJ35_add 60 = .ok (.iconst 1, 1) := dk_4 (dk_at dksJ35_add_2 14 rfl rfl)
theorem dJ35_add_61 : decode cJ35_add 61 = .ok (.isub, 1) := dk_100 (dk_at dksJ35_add_2 15 rfl rfl)
theorem dJ35_add_62 : decode cJ35_add 62 = .ok (.istore 6, 2) := dk_54 6 (dk_at dksJ35_add_2 16 rfl rfl)
theorem dJ35_add_64 : decode cJ35_add 64 = .ok (.lconst 0, 1) := dk_9 (dk_at dksJ35_add_2 18 rfl rfl)
theorem dJ35_add_65 : decode cJ35_add 65 = .ok (.lstore 9, 2) := dk_55 9 (dk_at dksJ35_add_2 19 rfl rfl)
theorem dJ35_add_67 : decode cJ35_add 67 = .ok (.iload_n 2, 1) := dk_28 (dk_at dksJ35_add_2 21 rfl rfl)
theorem dJ35_add_68 : decode cJ35_add 68 = .ok (.ifCond .le 72, 3) := dk_158 0 72 (dk_at dksJ35_add_3 0 rfl rfl)
theorem dJ35_add_71 : decode cJ35_add 71 = .ok (.iload_n 3, 1) := dk_29 (dk_at dksJ35_add_3 3 rfl rfl)
theorem dJ35_add_72 : decode cJ35_add 72 = .ok (.ifCond .le 68, 3) := dk_158 0 68 (dk_at dksJ35_add_3 4 rfl rfl)
theorem dJ35_add_75 : decode cJ35_add 75 = .ok (.iinc 2 (-1), 3) := dk_132 2 255 (dk_at dksJ35_add_3 7 rfl rfl)
theorem dJ35_add_78 : decode cJ35_add 78 = .ok (.iinc 3 (-1), 3) := dk_132 3 255 (dk_at dksJ35_add_3 10 rfl rfl)
theorem dJ35_add_81 : decode cJ35_add 81 = .ok (.aload_n 0, 1) := dk_42 (dk_at dksJ35_add_3 13 rfl rfl)
theorem dJ35_add_82 : decode cJ35_add 82 = .ok (.getfield 17, 3) := dk_180 0 17 (dk_at dksJ35_add_3 14 rfl rfl)
theorem dJ35_add_85 : decode cJ35_add 85 = .ok (.iload_n 2, 1) := dk_28 (dk_at dksJ35_add_3 17 rfl rfl)
theorem dJ35_add_86 : decode cJ35_add 86 = .ok (.aload_n 0, 1) := dk_42 (dk_at dksJ35_add_3 18 rfl rfl)
theorem dJ35_add_87 : decode cJ35_add 87 = .ok (.getfield 11, 3) := dk_180 0 11 (dk_at dksJ35_add_3 19 rfl rfl)
theorem dJ35_add_90 : decode cJ35_add 90 = .ok (.iadd, 1) := dk_96 (dk_at dksJ35_add_3 22 rfl rfl)
theorem dJ35_add_91 : decode cJ35_add 91 = .ok (.iaload, 1) := dk_46 (dk_at dksJ35_add_3 23 rfl rfl)
theorem dJ35_add_92 : decode cJ35_add 92 = .ok (.i2l, 1) := dk_133 (dk_at dksJ35_add_4 0 rfl rfl)
theorem dJ35_add_93 : decode cJ35_add 93 = .ok (.ldc2_w 52, 3) := dk_20 0 52 (dk_at dksJ35_add_4 1 rfl rfl)
theorem dJ35_add_96 : decode cJ35_add 96 = .ok (.land, 1) := dk_127 (dk_at dksJ35_add_4 4 rfl rfl)
theorem dJ35_add_97 : decode cJ35_add 97 = .ok (.aload_n 1, 1) := dk_43 (dk_at dksJ35_add_4 5 rfl rfl)
theorem dJ35_add_98 : decode cJ35_add 98 = .ok (.getfield 17, 3) := dk_180 0 17 (dk_at dksJ35_add_4 6 rfl rfl)
theorem dJ35_add_101 : decode cJ35_add 101 = .ok (.iload_n 3, 1) := dk_29 (dk_at dksJ35_add_4 9 rfl rfl)
theorem dJ35_add_102 : decode cJ35_add 102 = .ok (.aload_n 1, 1) := dk_43 (dk_at dksJ35_add_4 10 rfl rfl)
theorem dJ35_add_103 : decode cJ35_add 103 = .ok (.getfield 11, 3) := dk_180 0 11 (dk_at dksJ35_add_4 11 rfl rfl)
theorem dJ35_add_106 : decode cJ35_add 106 = .ok (.iadd, 1) := dk_96 (dk_at dksJ35_add_4 14 rfl rfl)
theorem dJ35_add_107 : decode cJ35_add 107 = .ok (.iaload, 1) := dk_46 (dk_at dksJ35_add_4 15 rfl rfl)
theorem dJ35_add_108 : decode cJ35_add 108 = .ok (.i2l, 1) := dk_133 (dk_at dksJ35_add_4 16 rfl rfl)
theorem dJ35_add_109 : decode cJ35_add 109 = .ok (.ldc2_w 52, 3) := dk_20 0 52 (dk_at dksJ35_add_4 17 rfl rfl)
theorem dJ35_add_112 : decode cJ35_add 112 = .ok (.land, 1) := dk_127 (dk_at dksJ35_add_4 20 rfl rfl)
theorem dJ35_add_113 : decode cJ35_add 113 = .ok (.ladd, 1) := dk_97 (dk_at dksJ35_add_4 21 rfl rfl)
theorem dJ35_add_114 : decode cJ35_add 114 = .ok (.lload 9, 2) := dk_22 9 (dk_at dksJ35_add_4 22 rfl rfl)
theorem dJ35_add_116 : decode cJ35_add 116 = .ok (.ladd, 1) := dk_97 (dk_at dksJ35_add_5 0 rfl rfl)
theorem dJ35_add_117 : decode cJ35_add 117 = .ok (.lstore 7, 2) := dk_55 7 (dk_at dksJ35_add_5 1 rfl rfl)
theorem dJ35_add_119 : decode cJ35_add 119 = .ok (.aload 5, 2) := dk_25 5 (dk_at dksJ35_add_5 3 rfl rfl)
theorem dJ35_add_121 : decode cJ35_add 121 = .ok (.iload 6, 2) := dk_21 6 (dk_at dksJ35_add_5 5 rfl rfl)
theorem dJ35_add_123 : decode cJ35_add 123 = .ok (.iinc 6 (-1), 3) := dk_132 6 255 (dk_at dksJ35_add_5 7 rfl rfl)
theorem dJ35_add_126 : decode cJ35_add 126 = .ok (.lload 7, 2) := dk_22 7 (dk_at dksJ35_add_5 10 rfl rfl)
theorem dJ35_add_128 : decode cJ35_add 128 = .ok (.l2i, 1) := dk_136 (dk_at dksJ35_add_5 12 rfl rfl)
theorem dJ35_add_129 : decode cJ35_add 129 = .ok (.iastore, 1) := dk_79 (dk_at dksJ35_add_5 13 rfl rfl)
theorem dJ35_add_130 : decode cJ35_add 130 = .ok (.lload 7, 2) := dk_22 7 (dk_at dksJ35_add_5 14 rfl rfl)
theorem dJ35_add_132 : decode cJ35_add 132 = .ok (.bipush 32, 2) := dk_16 32 (dk_at dksJ35_add_5 16 rfl rfl)
theorem dJ35_add_134 : decode cJ35_add 134 = .ok (.lushr, 1) := dk_125 (dk_at dksJ35_add_5 18 rfl rfl)
theorem dJ35_add_135 : decode cJ35_add 135 = .ok (.lstore 9, 2) := dk_55 9 (dk_at dksJ35_add_5 19 rfl rfl)
theorem dJ35_add_137 : decode cJ35_add 137 = .ok (.goto (-70), 3) := dk_167 255 186 (dk_at dksJ35_add_5 21 rfl rfl)
theorem dJ35_add_140 : decode cJ35_add 140 = .ok (.iload_n 2, 1) := dk_28 (dk_at dksJ35_add_6 0 rfl rfl)
theorem dJ35_add_141 : decode cJ35_add 141 = .ok (.ifCond .le 76, 3) := dk_158 0 76 (dk_at dksJ35_add_6 1 rfl rfl)
theorem dJ35_add_144 : decode cJ35_add 144 = .ok (.iinc 2 (-1), 3) := dk_132 2 255 (dk_at dksJ35_add_6 4 rfl rfl)
theorem dJ35_add_147 : decode cJ35_add 147 = .ok (.lload 9, 2) := dk_22 9 (dk_at dksJ35_add_6 7 rfl rfl)
theorem dJ35_add_149 : decode cJ35_add 149 = .ok (.lconst 0, 1) := dk_9 (dk_at dksJ35_add_6 9 rfl rfl)
theorem dJ35_add_150 : decode cJ35_add 150 = .ok (.lcmp, 1) := dk_148 (dk_at dksJ35_add_6 10 rfl rfl)
theorem dJ35_add_151 : decode cJ35_add 151 = .ok (.ifCond .ne 24, 3) := dk_154 0 24 (dk_at dksJ35_add_6 11 rfl rfl)
theorem dJ35_add_154 : decode cJ35_add 154 = .ok (.aload 5, 2) := dk_25 5 (dk_at dksJ35_add_6 14 rfl rfl)
theorem dJ35_add_156 : decode cJ35_add 156 = .ok (.aload_n 0, 1) := dk_42 (dk_at dksJ35_add_6 16 rfl rfl)
theorem dJ35_add_157 : decode cJ35_add 157 = .ok (.getfield 17, 3) := dk_180 0 17 (dk_at dksJ35_add_6 17 rfl rfl)
theorem dJ35_add_160 : decode cJ35_add 160 = .ok (.if_acmp .ne 15, 3) := dk_166 0 15 (dk_at dksJ35_add_6 20 rfl rfl)
theorem dJ35_add_163 : decode cJ35_add 163 = .ok (.iload 6, 2) := dk_21 6 (dk_at dksJ35_add_7 0 rfl rfl)
theorem dJ35_add_165 : decode cJ35_add 165 = .ok (.iload_n 2, 1) := dk_28 (dk_at dksJ35_add_7 2 rfl rfl)
theorem dJ35_add_166 : decode cJ35_add 166 = .ok (.aload_n 0, 1) := dk_42 (dk_at dksJ35_add_7 3 rfl rfl)
theorem dJ35_add_167 : decode cJ35_add 167 = .ok (.getfield 11, 3) := dk_180 0 11 (dk_at dksJ35_add_7 4 rfl rfl)
theorem dJ35_add_170 : decode cJ35_add 170 = .ok (.iadd, 1) := dk_96 (dk_at dksJ35_add_7 7 rfl rfl)
theorem dJ35_add_171 : decode cJ35_add 171 = .ok (.if_icmp .ne 4, 3) := dk_160 0 4 (dk_at dksJ35_add_7 8 rfl rfl)
theorem dJ35_add_174 : decode cJ35_add 174 = .ok (.return_, 1) := dk_177 (dk_at dksJ35_add_7 11 rfl rfl)
theorem dJ35_add_175 : decode cJ35_add 175 = .ok (.aload_n 0, 1) := dk_42 (dk_at dksJ35_add_7 12 rfl rfl)
theorem dJ35_add_176 : decode cJ35_add 176 = .ok (.getfield 17, 3) := dk_180 0 17 (dk_at dksJ35_add_7 13 rfl rfl)
theorem dJ35_add_179 : decode cJ35_add 179 = .ok (.iload_n 2, 1) := dk_28 (dk_at dksJ35_add_7 16 rfl rfl)
theorem dJ35_add_180 : decode cJ35_add 180 = .ok (.aload_n 0, 1) := dk_42 (dk_at dksJ35_add_7 17 rfl rfl)
theorem dJ35_add_181 : decode cJ35_add 181 = .ok (.getfield 11, 3) := dk_180 0 11 (dk_at dksJ35_add_7 18 rfl rfl)
theorem dJ35_add_184 : decode cJ35_add 184 = .ok (.iadd, 1) := dk_96 (dk_at dksJ35_add_7 21 rfl rfl)
theorem dJ35_add_185 : decode cJ35_add 185 = .ok (.iaload, 1) := dk_46 (dk_at dksJ35_add_7 22 rfl rfl)
theorem dJ35_add_186 : decode cJ35_add 186 = .ok (.i2l, 1) := dk_133 (dk_at dksJ35_add_7 23 rfl rfl)
theorem dJ35_add_187 : decode cJ35_add 187 = .ok (.ldc2_w 52, 3) := dk_20 0 52 (dk_at dksJ35_add_8 0 rfl rfl)
theorem dJ35_add_190 : decode cJ35_add 190 = .ok (.land, 1) := dk_127 (dk_at dksJ35_add_8 3 rfl rfl)
theorem dJ35_add_191 : decode cJ35_add 191 = .ok (.lload 9, 2) := dk_22 9 (dk_at dksJ35_add_8 4 rfl rfl)
theorem dJ35_add_193 : decode cJ35_add 193 = .ok (.ladd, 1) := dk_97 (dk_at dksJ35_add_8 6 rfl rfl)
theorem dJ35_add_194 : decode cJ35_add 194 = .ok (.lstore 7, 2) := dk_55 7 (dk_at dksJ35_add_8 7 rfl rfl)
theorem dJ35_add_196 : decode cJ35_add 196 = .ok (.aload 5, 2) := dk_25 5 (dk_at dksJ35_add_8 9 rfl rfl)
theorem dJ35_add_198 : decode cJ35_add 198 = .ok (.iload 6, 2) := dk_21 6 (dk_at dksJ35_add_8 11 rfl rfl)
theorem dJ35_add_200 : decode cJ35_add 200 = .ok (.iinc 6 (-1), 3) := dk_132 6 255 (dk_at dksJ35_add_8 13 rfl rfl)
theorem dJ35_add_203 : decode cJ35_add 203 = .ok (.lload 7, 2) := dk_22 7 (dk_at dksJ35_add_8 16 rfl rfl)
theorem dJ35_add_205 : decode cJ35_add 205 = .ok (.l2i, 1) := dk_136 (dk_at dksJ35_add_8 18 rfl rfl)
theorem dJ35_add_206 : decode cJ35_add 206 = .ok (.iastore, 1) := dk_79 (dk_at dksJ35_add_8 19 rfl rfl)
theorem dJ35_add_207 : decode cJ35_add 207 = .ok (.lload 7, 2) := dk_22 7 (dk_at dksJ35_add_8 20 rfl rfl)
theorem dJ35_add_209 : decode cJ35_add 209 = .ok (.bipush 32, 2) := dk_16 32 (dk_at dksJ35_add_8 22 rfl rfl)
theorem dJ35_add_211 : decode cJ35_add 211 = .ok (.lushr, 1) := dk_125 (dk_at dksJ35_add_9 0 rfl rfl)
theorem dJ35_add_212 : decode cJ35_add 212 = .ok (.lstore 9, 2) := dk_55 9 (dk_at dksJ35_add_9 1 rfl rfl)
theorem dJ35_add_214 : decode cJ35_add 214 = .ok (.goto (-74), 3) := dk_167 255 182 (dk_at dksJ35_add_9 3 rfl rfl)
theorem dJ35_add_217 : decode cJ35_add 217 = .ok (.iload_n 3, 1) := dk_29 (dk_at dksJ35_add_9 6 rfl rfl)
theorem dJ35_add_218 : decode cJ35_add 218 = .ok (.ifCond .le 48, 3) := dk_158 0 48 (dk_at dksJ35_add_9 7 rfl rfl)
theorem dJ35_add_221 : decode cJ35_add 221 = .ok (.iinc 3 (-1), 3) := dk_132 3 255 (dk_at dksJ35_add_9 10 rfl rfl)
theorem dJ35_add_224 : decode cJ35_add 224 = .ok (.aload_n 1, 1) := dk_43 (dk_at dksJ35_add_9 13 rfl rfl)
theorem dJ35_add_225 : decode cJ35_add 225 = .ok (.getfield 17, 3) := dk_180 0 17 (dk_at dksJ35_add_9 14 rfl rfl)
theorem dJ35_add_228 : decode cJ35_add 228 = .ok (.iload_n 3, 1) := dk_29 (dk_at dksJ35_add_9 17 rfl rfl)
theorem dJ35_add_229 : decode cJ35_add 229 = .ok (.aload_n 1, 1) := dk_43 (dk_at dksJ35_add_9 18 rfl rfl)
theorem dJ35_add_230 : decode cJ35_add 230 = .ok (.getfield 11, 3) := dk_180 0 11 (dk_at dksJ35_add_9 19 rfl rfl)
theorem dJ35_add_233 : decode cJ35_add 233 = .ok (.iadd, 1) := dk_96 (dk_at dksJ35_add_9 22 rfl rfl)
theorem dJ35_add_234 : decode cJ35_add 234 = .ok (.iaload, 1) := dk_46 (dk_at dksJ35_add_9 23 rfl rfl)
theorem dJ35_add_235 : decode cJ35_add 235 = .ok (.i2l, 1) := dk_133 (dk_at dksJ35_add_10 0 rfl rfl)
theorem dJ35_add_236 : decode cJ35_add 236 = .ok (.ldc2_w 52, 3) := dk_20 0 52 (dk_at dksJ35_add_10 1 rfl rfl)
theorem dJ35_add_239 : decode cJ35_add 239 = .ok (.land, 1) := dk_127 (dk_at dksJ35_add_10 4 rfl rfl)
theorem dJ35_add_240 : decode cJ35_add 240 = .ok (.lload 9, 2) := dk_22 9 (dk_at dksJ35_add_10 5 rfl rfl)
theorem dJ35_add_242 : decode cJ35_add 242 = .ok (.ladd, 1) := dk_97 (dk_at dksJ35_add_10 7 rfl rfl)
theorem dJ35_add_243 : decode cJ35_add 243 = .ok (.lstore 7, 2) := dk_55 7 (dk_at dksJ35_add_10 8 rfl rfl)
theorem dJ35_add_245 : decode cJ35_add 245 = .ok (.aload 5, 2) := dk_25 5 (dk_at dksJ35_add_10 10 rfl rfl)
theorem dJ35_add_247 : decode cJ35_add 247 = .ok (.iload 6, 2) := dk_21 6 (dk_at dksJ35_add_10 12 rfl rfl)
theorem dJ35_add_249 : decode cJ35_add 249 = .ok (.iinc 6 (-1), 3) := dk_132 6 255 (dk_at dksJ35_add_10 14 rfl rfl)
theorem dJ35_add_252 : decode cJ35_add 252 = .ok (.lload 7, 2) := dk_22 7 (dk_at dksJ35_add_10 17 rfl rfl)
theorem dJ35_add_254 : decode cJ35_add 254 = .ok (.l2i, 1) := dk_136 (dk_at dksJ35_add_10 19 rfl rfl)
theorem dJ35_add_255 : decode cJ35_add 255 = .ok (.iastore, 1) := dk_79 (dk_at dksJ35_add_10 20 rfl rfl)
theorem dJ35_add_256 : decode cJ35_add 256 = .ok (.lload 7, 2) := dk_22 7 (dk_at dksJ35_add_10 21 rfl rfl)
theorem dJ35_add_258 : decode cJ35_add 258 = .ok (.bipush 32, 2) := dk_16 32 (dk_at dksJ35_add_11 0 rfl rfl)
theorem dJ35_add_260 : decode cJ35_add 260 = .ok (.lushr, 1) := dk_125 (dk_at dksJ35_add_11 2 rfl rfl)
theorem dJ35_add_261 : decode cJ35_add 261 = .ok (.lstore 9, 2) := dk_55 9 (dk_at dksJ35_add_11 3 rfl rfl)
theorem dJ35_add_263 : decode cJ35_add 263 = .ok (.goto (-46), 3) := dk_167 255 210 (dk_at dksJ35_add_11 5 rfl rfl)
theorem dJ35_add_266 : decode cJ35_add 266 = .ok (.lload 9, 2) := dk_22 9 (dk_at dksJ35_add_11 8 rfl rfl)
theorem dJ35_add_268 : decode cJ35_add 268 = .ok (.lconst 0, 1) := dk_9 (dk_at dksJ35_add_11 10 rfl rfl)
theorem dJ35_add_269 : decode cJ35_add 269 = .ok (.lcmp, 1) := dk_148 (dk_at dksJ35_add_11 11 rfl rfl)
theorem dJ35_add_270 : decode cJ35_add 270 = .ok (.ifCond .le 53, 3) := dk_158 0 53 (dk_at dksJ35_add_11 12 rfl rfl)
theorem dJ35_add_273 : decode cJ35_add 273 = .ok (.iinc 4 1, 3) := dk_132 4 1 (dk_at dksJ35_add_11 15 rfl rfl)
theorem dJ35_add_276 : decode cJ35_add 276 = .ok (.aload 5, 2) := dk_25 5 (dk_at dksJ35_add_11 18 rfl rfl)
theorem dJ35_add_278 : decode cJ35_add 278 = .ok (.arraylength, 1) := dk_190 (dk_at dksJ35_add_11 20 rfl rfl)
theorem dJ35_add_279 : decode cJ35_add 279 = .ok (.iload 4, 2) := dk_21 4 (dk_at dksJ35_add_11 21 rfl rfl)
theorem dJ35_add_281 : decode cJ35_add 281 = .ok (.if_icmp .ge 33, 3) := dk_162 0 33 (dk_at dksJ35_add_12 0 rfl rfl)
theorem dJ35_add_284 : decode cJ35_add 284 = .ok (.iload 4, 2) := dk_21 4 (dk_at dksJ35_add_12 3 rfl rfl)
theorem dJ35_add_286 : decode cJ35_add 286 = .ok (.newarray .int, 2) := dk_188_10 (dk_at dksJ35_add_12 5 rfl rfl)
theorem dJ35_add_288 : decode cJ35_add 288 = .ok (.astore 11, 2) := dk_58 11 (dk_at dksJ35_add_12 7 rfl rfl)
theorem dJ35_add_290 : decode cJ35_add 290 = .ok (.aload 5, 2) := dk_25 5 (dk_at dksJ35_add_12 9 rfl rfl)
theorem dJ35_add_292 : decode cJ35_add 292 = .ok (.iconst 0, 1) := dk_3 (dk_at dksJ35_add_12 11 rfl rfl)
theorem dJ35_add_293 : decode cJ35_add 293 = .ok (.aload 11, 2) := dk_25 11 (dk_at dksJ35_add_12 12 rfl rfl)
theorem dJ35_add_295 : decode cJ35_add 295 = .ok (.iconst 1, 1) := dk_4 (dk_at dksJ35_add_12 14 rfl rfl)
theorem dJ35_add_296 : decode cJ35_add 296 = .ok (.aload 5, 2) := dk_25 5 (dk_at dksJ35_add_12 15 rfl rfl)
theorem dJ35_add_298 : decode cJ35_add 298 = .ok (.arraylength, 1) := dk_190 (dk_at dksJ35_add_12 17 rfl rfl)
theorem dJ35_add_299 : decode cJ35_add 299 = .ok (.invokestatic 95, 3) := dk_184 0 95 (dk_at dksJ35_add_12 18 rfl rfl)
theorem dJ35_add_302 : decode cJ35_add 302 = .ok (.aload 11, 2) := dk_25 11 (dk_at dksJ35_add_12 21 rfl rfl)
theorem dJ35_add_304 : decode cJ35_add 304 = .ok (.iconst 0, 1) := dk_3 (dk_at dksJ35_add_12 23 rfl rfl)
theorem dJ35_add_305 : decode cJ35_add 305 = .ok (.iconst 1, 1) := dk_4 (dk_at dksJ35_add_13 0 rfl rfl)
theorem dJ35_add_306 : decode cJ35_add 306 = .ok (.iastore, 1) := dk_79 (dk_at dksJ35_add_13 1 rfl rfl)
theorem dJ35_add_307 : decode cJ35_add 307 = .ok (.aload 11, 2) := dk_25 11 (dk_at dksJ35_add_13 2 rfl rfl)
theorem dJ35_add_309 : decode cJ35_add 309 = .ok (.astore 5, 2) := dk_58 5 (dk_at dksJ35_add_13 4 rfl rfl)
theorem dJ35_add_311 : decode cJ35_add 311 = .ok (.goto 12, 3) := dk_167 0 12 (dk_at dksJ35_add_13 6 rfl rfl)
theorem dJ35_add_314 : decode cJ35_add 314 = .ok (.aload 5, 2) := dk_25 5 (dk_at dksJ35_add_13 9 rfl rfl)
theorem dJ35_add_316 : decode cJ35_add 316 = .ok (.iload 6, 2) := dk_21 6 (dk_at dksJ35_add_13 11 rfl rfl)
theorem dJ35_add_318 : decode cJ35_add 318 = .ok (.iinc 6 (-1), 3) := dk_132 6 255 (dk_at dksJ35_add_13 13 rfl rfl)
theorem dJ35_add_321 : decode cJ35_add 321 = .ok (.iconst 1, 1) := dk_4 (dk_at dksJ35_add_13 16 rfl rfl)
theorem dJ35_add_322 : decode cJ35_add 322 = .ok (.iastore, 1) := dk_79 (dk_at dksJ35_add_13 17 rfl rfl)
theorem dJ35_add_323 : decode cJ35_add 323 = .ok (.aload_n 0, 1) := dk_42 (dk_at dksJ35_add_13 18 rfl rfl)
theorem dJ35_add_324 : decode cJ35_add 324 = .ok (.aload 5, 2) := dk_25 5 (dk_at dksJ35_add_13 19 rfl rfl)
theorem dJ35_add_326 : decode cJ35_add 326 = .ok (.putfield 17, 3) := dk_181 0 17 (dk_at dksJ35_add_13 21 rfl rfl)
theorem dJ35_add_329 : decode cJ35_add 329 = .ok (.aload_n 0, 1) := dk_42 (dk_at dksJ35_add_14 0 rfl rfl)
theorem dJ35_add_330 : decode cJ35_add 330 = .ok (.iload 4, 2) := dk_21 4 (dk_at dksJ35_add_14 1 rfl rfl)
theorem dJ35_add_332 : decode cJ35_add 332 = .ok (.putfield 21, 3) := dk_181 0 21 (dk_at dksJ35_add_14 3 rfl rfl)
theorem dJ35_add_335 : decode cJ35_add 335 = .ok (.aload_n 0, 1) := dk_42 (dk_at dksJ35_add_14 6 rfl rfl)
theorem dJ35_add_336 : decode cJ35_add 336 = .ok (.aload 5, 2) := dk_25 5 (dk_at dksJ35_add_14 7 rfl rfl)
theorem dJ35_add_338 : decode cJ35_add 338 = .ok (.arraylength, 1) := dk_190 (dk_at dksJ35_add_14 9 rfl rfl)
theorem dJ35_add_339 : decode cJ35_add 339 = .ok (.iload 4, 2) := dk_21 4 (dk_at dksJ35_add_14 10 rfl rfl)
theorem dJ35_add_341 : decode cJ35_add 341 = .ok (.isub, 1) := dk_100 (dk_at dksJ35_add_14 12 rfl rfl)
theorem dJ35_add_342 : decode cJ35_add 342 = .ok (.putfield 11, 3) := dk_181 0 11 (dk_at dksJ35_add_14 13 rfl rfl)
theorem dJ35_add_345 : decode cJ35_add 345 = .ok (.return_, 1) := dk_177 (dk_at dksJ35_add_14 16 rfl rfl)
theorem wL_c {v : Nat} (h : v < 18446744073709551616) : (v < 9223372036854775808 → wL (v : Int) = v) ∧ (9223372036854775808 ≤ v → wL (v : Int) = v - 18446744073709551616) := by unfold wL; omega
theorem lc_rng (a b : Int) : -2147483648 ≤ (if a < b then (-1 : Int) else if a = b then 0 else 1) ∧ (if a < b then (-1 : Int) else if a = b then 0 else 1) ≤ 2147483647 := by (repeat' split) <;> decide
theorem wl_pos {v : Nat} (h2 : v < 18446744073709551616) (h1 : 0 ≤ wL (v : Int)) : 0 ≤ (v : Int) ∧ (v : Int) ≤ 9223372036854775807 := by have h := wL_c h2; omega
theorem wl_neg {v : Nat} (h2 : v < 18446744073709551616) (h1 : wL (v : Int) < 0) : 9223372036854775808 ≤ v ∧ v < 18446744073709551616 := by have h := wL_c h2; omega
theorem dwl1 {a b : Nat} (hb : b < 4294967296) : ((a : Int) * 4294967296 + (b : Int)) % 4294967296 = (b : Int) := by omega
theorem dwl2 {a b : Nat} (ha : a < 4294967296) (hb : b < 4294967296) : ((a : Int) * 4294967296 + (b : Int)) % 18446744073709551616 / 4294967296 = (a : Int) := by omega
theorem wI_k (z : Int) : ∃ t : Int, wI z = z + 4294967296 * t := ⟨-((z + 2147483648) / 4294967296), by unfold wI; omega⟩
theorem wIshl (z : Int) : (wI z * 4294967296) % 18446744073709551616 = (z * 4294967296) % 18446744073709551616 := by obtain ⟨t, ht⟩ := wI_k z; omega
theorem w2_lt {a b : Nat} (ha : a < 4294967296) (hb : b < 4294967296) : a * 4294967296 + b < 18446744073709551616 := by omega
theorem mu_n {n t N : Nat} (h : n - t < N + 1) (ht : t < n) : n - (t + 1) < N := by omega
theorem ow_rem {E d : Nat} : ((E : Int) - wI ((E / d : Nat) : Int) * (d : Int)) % 4294967296 = ((E % d : Nat) : Int) % 4294967296 := by
  obtain ⟨t, ht⟩ := wI_k ((E / d : Nat) : Int)
  have h1 : (E : Int) = (d : Int) * ((E / d : Nat) : Int) + ((E % d : Nat) : Int) := by rw [← Int.natCast_mul, ← Int.natCast_add, Nat.div_add_mod]
  rw [ht, Int.add_mul, Int.mul_assoc 4294967296, Int.mul_comm ((E / d : Nat) : Int)]
  generalize (d : Int) * ((E / d : Nat) : Int) = p at *
  generalize t * (d : Int) = s
  omega
theorem ow_fit {r w d : Nat} (hr : r < d) (hd : d < 4294967296) (hw : w < 4294967296) : r * 4294967296 + w < 18446744073709551616 ∧ (r * 4294967296 + w) / d < 4294967296 := by
  refine ⟨by omega, Nat.div_lt_of_lt_mul ?_⟩
  have h1 : (r + 1) * 4294967296 ≤ d * 4294967296 := Nat.mul_le_mul_right _ hr
  omega
theorem ow_step {W G r w d E : Nat} (h : W = G * d + r) (hE : E = r * 4294967296 + w) : W * 4294967296 + w = (G * 4294967296 + E / d) * d + E % d := by
  have h1 := Nat.div_add_mod E d
  rw [Nat.mul_comm] at h1
  have h2 : (G * 4294967296 + E / d) * d = G * d * 4294967296 + E / d * d := by rw [Nat.add_mul, Nat.mul_right_comm]
  rw [h, h2, Nat.add_mul, Nat.add_assoc, Nat.add_assoc, h1, hE]
theorem dm_of {X Q d r : Nat} (h : X = Q * d + r) (hr : r < d) : X / d = Q ∧ X % d = r := by
  have hd : 0 < d := by omega
  rw [h, Nat.mul_comm, Nat.mul_add_div hd, Nat.div_eq_of_lt hr, Nat.mul_add_mod, Nat.mod_eq_of_lt hr]
  exact ⟨rfl, rfl⟩
theorem wv_up_end {f : Nat → Nat} {t v : Nat} : wv (va_up f t v) (t + 1) = wv f t * 4294967296 + v := by
  rw [wv_s, vu_eq rfl, wv_cong (f := va_up f t v) (g := f) (fun j hj => vu_ne (by omega))]
theorem nd_J35_divideOneWord : yJ35_divideOneWord.cls ≠ "java/lang/invoke/MethodHandle" ∧ yJ35_divideOneWord.cls ≠ "java/lang/invoke/VarHandle" ∧ (parseMethodDescriptor yJ35_divideOneWord.desc).map (fun d => d.parameters.length) = some 2 := by decide +kernel
set_option maxRecDepth 100000 in
set_option maxHeartbeats 16000000 in
theorem ct_J35_divideOneWord {g : GG} {l : Launch} (M : Nat → Option PV) (q : Nat) (a : Nat) (n : Nat) (f : Nat → Nat) (q2 : Nat) (a2 : Nat) (fz : Nat → Nat) (d : Nat) (hx : at_ g M a (vA n f)) (hw : wOK n f) (hn : 2 ≤ n ∧ n ≤ 6) (hd : 0 < d ∧ d < 4294967296) (hz : fz 0 = 0) : Ct g l yJ35_divideOneWord (ws_ yJ35_divideOneWord cJ35_divideOneWord 15 (Option.some Jvm.ClassFile.FieldType.int)) 2 40 1 6 [.ref q, .int (jI (↑d)), .ref q2] [ob g q 19 [.ref a, .int (jI (↑n)), .int (jI 0)], pl g M, ob g q2 19 [.ref a2, .int (jI 0), .int (jI 0)], aN g 0 a2 1 fz] (fun v9 Ws9 => ∃ a1 : Nat, ∃ N1 : Nat, ∃ f1 : Nat → Nat, ∃ n1 : Nat, ∃ o1 : Nat, v9 = some (.int (jI (↑(wv f n % d)))) ∧ (o1 + n1 ≤ N1 ∧ 0 < N1 ∧ N1 ≤ n) ∧ (∀ k, k < N1 → f1 k < 4294967296) ∧ (wOK n1 (fun j => f1 (o1 + j))) ∧ (mw f1 o1 n1 = wv f n / d) ∧ Ws9 = [ob g q 19 [.ref a, .int (jI (↑n)), .int (jI 0)], pl g M, ob g q2 19 [.ref a1, .int (jI (↑n1)), .int (jI (↑o1))], aN g 0 a1 N1 f1]) (nox) := by
  refine Ct.of (cc := cJ35_divideOneWord) (nL := 15) (ret := (Option.some Jvm.ClassFile.FieldType.int)) (by decide) rfl (Nat.le_of_ble_eq_true rfl) ?_
  intro x hg hl hPo hPx hmc hms F
  subst hg; subst hl
  refine SW.cast (L' := [(0, .ref q), (1, .int (jI (↑d))), (2, .ref q2)]) ?_ rfl rfl rfl
  have hb_0 : f 0 < 4294967296 := hw.1 _ (by omega)
  have hbl := blen_w hd.2
  have hr0 := Nat.mod_lt (f 0) hd.1
  have hq0 : f 0 / d < 4294967296 := Nat.lt_of_le_of_lt (Nat.div_le_self _ _) hb_0
  refine sw_iload_n (n := 1) F 1 rfl rfl dJ35_divideOneWord_0 rfl ?_
  refine sw_i2lr (n := 2) F dJ35_divideOneWord_1 rfl ?_
  refine sw_ldc2 (n := 5) F (4294967295) q1865 (by decide) dJ35_divideOneWord_2 rfl ?_
  refine sw_land (n := 6) F (jL (↑d)) (jI_wordE (by omega)) dJ35_divideOneWord_5 rfl ?_
  refine sw_lstore_n (n := 7) F (L2 := [(3, .long (jL (↑d))), (0, .ref q), (1, .int (jI (↑d))), (2, .ref q2)]) rfl (by decide) rfl dJ35_divideOneWord_6 rfl ?_
  refine sw_aload_n (n := 8) F 1 (some q) rfl rfl rfl dJ35_divideOneWord_7 rfl ?_
  refine sw_get (n := 11) F 0 rfl (k := 1) ⟨(RJ35, TJ35, 3), rfl, by decide, q1837, in_J35, Or.inl rfl⟩ rfl dJ35_divideOneWord_8 rfl ?_
  refine sw_iconst (n := 12) F (1) (by decide) dJ35_divideOneWord_11 rfl ?_
  refine sw_icmp_ne (n := 15) F (by omega) (by decide) (tgt := 79) dJ35_divideOneWord_12 (by decide) rfl (fun c_12 => ?_) (fun c_12 => ?_)
  ·
    refine sw_aload_n (n := 80) F 3 (some q2) rfl rfl rfl dJ35_divideOneWord_79 rfl ?_
    refine sw_get (n := 83) F 2 rfl (k := 0) ⟨(RJ35, TJ35, 3), rfl, by decide, q1836, in_J35, Or.inl rfl⟩ rfl dJ35_divideOneWord_80 rfl ?_
    refine sw_alen (n := 84) F 3 rfl (fun _ => rfl) dJ35_divideOneWord_83 rfl ?_
    show SW x _ _ _ _ _ [.int (jI 1)]
    refine sw_aload_n (n := 85) F 1 (some q) rfl rfl rfl dJ35_divideOneWord_84 rfl ?_
    refine sw_get (n := 88) F 0 rfl (k := 1) ⟨(RJ35, TJ35, 3), rfl, by decide, q1837, in_J35, Or.inl rfl⟩ rfl dJ35_divideOneWord_85 rfl ?_
    refine sw_icmp_ge (n := 91) F (by decide) (by omega) (tgt := 101) dJ35_divideOneWord_88 (by decide) rfl (fun c_88 => ?_) (fun c_88 => ?_)
    · exfalso; omega
    ·
      refine sw_aload_n (n := 92) F 3 (some q2) rfl rfl rfl dJ35_divideOneWord_91 rfl ?_
      refine sw_aload_n (n := 93) F 1 (some q) rfl rfl rfl dJ35_divideOneWord_92 rfl ?_
      refine sw_get (n := 96) F 0 rfl (k := 1) ⟨(RJ35, TJ35, 3), rfl, by decide, q1837, in_J35, Or.inl rfl⟩ rfl dJ35_divideOneWord_93 rfl ?_
      refine sw_newaN (n := 98) F (n) (by first | omega | rfl) (by omega) 0 0 ⟨by omega, by omega⟩ dJ35_divideOneWord_96 rfl (fun q_1 => ?_)
      refine sw_put (n := 101) F 3 rfl (k := 0) ⟨(RJ35, TJ35, 3), rfl, by decide, q1836, in_J35, Or.inl rfl⟩ (tyJ35 0) ⟨(RJ35, TJ35, 3), rfl, rfl, tyJ35_ok 0 (by decide), nmJ35, tyJ35, tyJ35_ok⟩ rfl rfl (Nat.le_of_ble_eq_true rfl) rfl [aN (xg x) 0 q_1 n (fun _ => 0), ob (xg x) q 19 [.ref a, .int (jI (↑n)), .int (jI 0)], pl (xg x) M, ob (xg x) q2 19 [.ref q_1, .int (jI 0), .int (jI 0)], aN (xg x) 0 a2 1 fz] rfl dJ35_divideOneWord_98 rfl ?_
      refine sw_aload_n (n := 102) F 3 (some q2) rfl rfl rfl dJ35_divideOneWord_101 rfl ?_
      refine sw_iconst (n := 103) F (0) (by decide) dJ35_divideOneWord_102 rfl ?_
      refine sw_put (n := 106) F 3 rfl (k := 2) ⟨(RJ35, TJ35, 3), rfl, by decide, q1838, in_J35, Or.inl rfl⟩ .int ⟨(RJ35, TJ35, 3), rfl, rfl, tyJ35_ok 2 (by decide), nmJ35, tyJ35, tyJ35_ok⟩ rfl rfl (Nat.le_of_ble_eq_true rfl) rfl [aN (xg x) 0 q_1 n (fun _ => 0), ob (xg x) q 19 [.ref a, .int (jI (↑n)), .int (jI 0)], pl (xg x) M, ob (xg x) q2 19 [.ref q_1, .int (jI 0), .int (jI 0)], aN (xg x) 0 a2 1 fz] rfl dJ35_divideOneWord_103 rfl ?_
      refine sw_aload_n (n := 107) F 3 (some q2) rfl rfl rfl dJ35_divideOneWord_106 rfl ?_
      refine sw_aload_n (n := 108) F 1 (some q) rfl rfl rfl dJ35_divideOneWord_107 rfl ?_
      refine sw_get (n := 111) F 1 rfl (k := 1) ⟨(RJ35, TJ35, 3), rfl, by decide, q1837, in_J35, Or.inl rfl⟩ rfl dJ35_divideOneWord_108 rfl ?_
      refine sw_put (n := 114) F 3 rfl (k := 1) ⟨(RJ35, TJ35, 3), rfl, by decide, q1837, in_J35, Or.inl rfl⟩ .int ⟨(RJ35, TJ35, 3), rfl, rfl, tyJ35_ok 1 (by decide), nmJ35, tyJ35, tyJ35_ok⟩ rfl rfl (Nat.le_of_ble_eq_true rfl) rfl [aN (xg x) 0 q_1 n (fun _ => 0), ob (xg x) q 19 [.ref a, .int (jI (↑n)), .int (jI 0)], pl (xg x) M, ob (xg x) q2 19 [.ref q_1, .int (jI (↑n)), .int (jI 0)], aN (xg x) 0 a2 1 fz] rfl dJ35_divideOneWord_111 rfl ?_
      refine sw_iload_n (n := 115) F 2 rfl rfl dJ35_divideOneWord_114 rfl ?_
      refine sw_top (topIm (show (↑d : Int) % 4294967296 = (wI ↑(d)) % 4294967296 by exact (wI_s _).2.2.symm)) ?_
      refine sw_callS (n := 118) F (ct_J22_numberOfLeadingZeros (g := xg x) (l := xl x) (wI ↑(d)) (by exact ⟨(wI_s _).1, (wI_s _).2.1⟩)) q1866 q1225 q130 q1226 nd_J22_numberOfLeadingZeros rfl (by decide) [0, 1, 2, 3, 4] (perm_ok _ 5 (by decide +kernel) rfl) [aN (xg x) 0 q_1 n (fun _ => 0), ob (xg x) q 19 [.ref a, .int (jI (↑n)), .int (jI 0)], pl (xg x) M, ob (xg x) q2 19 [.ref q_1, .int (jI (↑n)), .int (jI 0)], aN (xg x) 0 a2 1 fz] rfl 0 0 ⟨by omega, by omega⟩ [] rfl (Nat.le_of_ble_eq_true rfl) dJ35_divideOneWord_115 rfl (fun _ _ h => h.elim) (fun v Ws h => ?_)
      obtain ⟨rfl, rfl⟩ := h
      show SW x [aN (xg x) 0 q_1 n (fun _ => 0), ob (xg x) q 19 [.ref a, .int (jI (↑n)), .int (jI 0)], pl (xg x) M, ob (xg x) q2 19 [.ref q_1, .int (jI (↑n)), .int (jI 0)], aN (xg x) 0 a2 1 fz] _ _ _ _ [.int (jI (nlz (wI ↑(d))))]
      refine sw_top (topI (show (nlz (wI ↑(d)) : Int) = 32 - ↑(blen d) by omega)) ?_
      refine sw_istore (n := 120) F (L2 := [(5, .int (jI (32 - ↑(blen d)))), (3, .long (jL (↑d))), (0, .ref q), (1, .int (jI (↑d))), (2, .ref q2)]) rfl (by decide) dJ35_divideOneWord_118 rfl ?_
      refine sw_aload_n (n := 121) F 2 (some q) rfl rfl rfl dJ35_divideOneWord_120 rfl ?_
      refine sw_get (n := 124) F 1 rfl (k := 0) ⟨(RJ35, TJ35, 3), rfl, by decide, q1836, in_J35, Or.inl rfl⟩ rfl dJ35_divideOneWord_121 rfl ?_
      refine sw_aload_n (n := 125) F 2 (some q) rfl rfl rfl dJ35_divideOneWord_124 rfl ?_
      refine sw_get (n := 128) F 1 rfl (k := 2) ⟨(RJ35, TJ35, 3), rfl, by decide, q1838, in_J35, Or.inl rfl⟩ rfl dJ35_divideOneWord_125 rfl ?_
      refine sw_ialoadK (n := 129) F (plA F 2 rfl hx) 0 rfl (by omega) dJ35_divideOneWord_128 rfl ?_
      show SW x _ _ _ _ _ [.int (jI (↑(f 0)))]
      refine sw_istore (n := 131) F (L2 := [(6, .int (jI (↑(f 0)))), (5, .int (jI (32 - ↑(blen d)))), (3, .long (jL (↑d))), (0, .ref q), (1, .int (jI (↑d))), (2, .ref q2)]) rfl (by decide) dJ35_divideOneWord_129 rfl ?_
      have K192 : ∀ (r : Nat) (gq : Nat → Nat), (r < d) → (∀ k, k < n → gq k < 4294967296) → (wv f 1 = wv gq 1 * d + r) → SW x [aN (xg x) 0 q_1 n gq, ob (xg x) q 19 [.ref a, .int (jI (↑n)), .int (jI 0)], pl (xg x) M, ob (xg x) q2 19 [.ref q_1, .int (jI (↑n)), .int (jI 0)], aN (xg x) 0 a2 1 fz] 0 0 192 [(0, .ref q), (1, .int (jI (↑d))), (2, .ref q2), (3, .long (jL (↑d))), (5, .int (jI (32 - ↑(blen d)))), (6, .int (jI (↑r))), (7, .long (jL (↑r)))] [] := by
        intro r gq hr hgb hI
        refine sw_aload_n (n := 193) F 0 (some q) rfl rfl rfl dJ35_divideOneWord_192 rfl ?_
        have K198 : ∀ N198 : Nat, ∀ (t : Nat) (r : Nat) (gq : Nat → Nat), (1 ≤ t ∧ t ≤ n) → (r < d) → (∀ k, k < n → gq k < 4294967296) → (wv f t = wv gq t * d + r) → ((n - t) < N198) → SW x [aN (xg x) 0 q_1 n gq, ob (xg x) q 19 [.ref a, .int (jI (↑n)), .int (jI 0)], pl (xg x) M, ob (xg x) q2 19 [.ref q_1, .int (jI (↑n)), .int (jI 0)], aN (xg x) 0 a2 1 fz] 0 0 198 [(0, .ref q), (1, .int (jI (↑d))), (2, .ref q2), (3, .long (jL (↑d))), (5, .int (jI (32 - ↑(blen d)))), (6, .int (jI (↑r))), (7, .long (jL (↑r))), (9, .int (jI (↑n - ↑t + 1)))] [] := by
          intro N198; induction N198 with
          | zero => intro t r gq ht hr hgb hI hmu198; omega
          | succ N198 ih198 =>
            intro t r gq ht hr hgb hI hmu198
            refine sw_iinc (n := 201) F 7 (L2 := [(9, .int (jI (↑n - ↑t + 1 + (-1)))), (0, .ref q), (1, .int (jI (↑d))), (2, .ref q2), (3, .long (jL (↑d))), (5, .int (jI (32 - ↑(blen d)))), (6, .int (jI (↑r))), (7, .long (jL (↑r)))]) rfl rfl (by decide) dJ35_divideOneWord_198 rfl ?_
            refine sw_iload (n := 203) F 0 rfl dJ35_divideOneWord_201 rfl ?_
            refine sw_if_le (n := 206) F (by omega) (tgt := 315) dJ35_divideOneWord_203 (by decide) rfl (fun c_203 => ?_) (fun c_203 => ?_)
            ·
              have htn : t = n := by omega
              have hdm := dm_of (X := wv f n) (Q := wv gq n) (by rw [← htn]; exact hI) hr
              refine sw_aload_n (n := 316) F 3 (some q2) rfl rfl rfl dJ35_divideOneWord_315 rfl ?_
              refine sw_callV (n := 319) F (ct_J35_normalize (g := xg x) (l := xl x) q2 q_1 n gq n 0 (by first | omega | assumption) hgb) (rcv_ob F 3 rfl rfl) q1870 q1871 q1872 q144 q1873 nd_J35_normalize rfl (by decide) [3, 0, 1, 2, 4] (perm_ok _ 5 (by decide +kernel) rfl) [ob (xg x) q 19 [.ref a, .int (jI (↑n)), .int (jI 0)], pl (xg x) M, aN (xg x) 0 a2 1 fz] rfl 0 0 ⟨by omega, by omega⟩ [] rfl (Nat.le_of_ble_eq_true rfl) dJ35_divideOneWord_316 rfl (fun _ _ h => h.elim) (fun v Ws h => ?_)
              obtain ⟨n1_2, o1_3, rfl, hw1_4, hv1_5, ho1_6, rfl⟩ := h
              show SW x [ob (xg x) q2 19 [.ref q_1, .int (jI (↑n1_2)), .int (jI (↑o1_3))], aN (xg x) 0 q_1 n gq, ob (xg x) q 19 [.ref a, .int (jI (↑n)), .int (jI 0)], pl (xg x) M, aN (xg x) 0 a2 1 fz] _ _ _ _ []
              refine sw_iload (n := 321) F 5 rfl dJ35_divideOneWord_319 rfl ?_
              refine sw_if_le (n := 324) F (by omega) (tgt := 329) dJ35_divideOneWord_321 (by decide) rfl (fun c_321 => ?_) (fun c_321 => ?_)
              ·
                refine sw_iload (n := 331) F 6 rfl dJ35_divideOneWord_329 rfl ?_
                refine sw_drop [2, 3, 0, 1, 4] 4 (perm_ok _ 5 (by decide +kernel) rfl) [ob (xg x) q 19 [.ref a, .int (jI (↑n)), .int (jI 0)], pl (xg x) M, ob (xg x) q2 19 [.ref q_1, .int (jI (↑n1_2)), .int (jI (↑o1_3))], aN (xg x) 0 q_1 n gq] rfl ?_
                exact sw_iret F _ rfl (by first | rfl | exact jI_nz (by omega) | exact jI_nc (by omega)) dJ35_divideOneWord_331 (by rw [hPo]; exact ⟨q_1, n, gq, n1_2, o1_3, (by rw [hdm.2]), (by first | omega | assumption), hgb, hw1_4, (by rw [hdm.1, ← mw_0 gq n]; assumption), rfl⟩)
              ·
                have hd31 : d < 2147483648 := bl_fit (k := 31) (by omega)
                refine sw_iload (n := 326) F 6 rfl dJ35_divideOneWord_324 rfl ?_
                refine sw_iload_n (n := 327) F 2 rfl rfl dJ35_divideOneWord_326 rfl ?_
                refine sw_iremP (n := 328) F (by omega) (by omega) (by omega) dJ35_divideOneWord_327 rfl ?_
                refine sw_top (topI (show ((↑r) % (↑d) : Int) = ↑r by exact Int.emod_eq_of_lt (by omega) (by omega))) ?_
                refine sw_drop [2, 3, 0, 1, 4] 4 (perm_ok _ 5 (by decide +kernel) rfl) [ob (xg x) q 19 [.ref a, .int (jI (↑n)), .int (jI 0)], pl (xg x) M, ob (xg x) q2 19 [.ref q_1, .int (jI (↑n1_2)), .int (jI (↑o1_3))], aN (xg x) 0 q_1 n gq] rfl ?_
                exact sw_iret F _ rfl (by first | rfl | exact jI_nz (by omega) | exact jI_nc (by omega)) dJ35_divideOneWord_328 (by rw [hPo]; exact ⟨q_1, n, gq, n1_2, o1_3, (by rw [hdm.2]), (by first | omega | assumption), hgb, hw1_4, (by rw [hdm.1, ← mw_0 gq n]; assumption), rfl⟩)
            ·
              have htn9 : t < n := by omega
              refine sw_lload (n := 208) F 7 rfl dJ35_divideOneWord_206 rfl ?_
              refine sw_bipush (n := 210) F (32) (by decide) dJ35_divideOneWord_208 rfl ?_
              refine sw_lshl (n := 211) F (jL ((↑r) * 4294967296)) (by have h7s := jL_shlQ (↑r) (c := 32) (P := 4294967296) (k := 32) (by decide) (by decide) (by decide); exact h7s) dJ35_divideOneWord_210 rfl ?_
              refine sw_aload_n (n := 212) F 1 (some q) rfl rfl rfl dJ35_divideOneWord_211 rfl ?_
              refine sw_get (n := 215) F 1 rfl (k := 0) ⟨(RJ35, TJ35, 3), rfl, by decide, q1836, in_J35, Or.inl rfl⟩ rfl dJ35_divideOneWord_212 rfl ?_
              refine sw_aload_n (n := 216) F 1 (some q) rfl rfl rfl dJ35_divideOneWord_215 rfl ?_
              refine sw_get (n := 219) F 1 rfl (k := 2) ⟨(RJ35, TJ35, 3), rfl, by decide, q1838, in_J35, Or.inl rfl⟩ rfl dJ35_divideOneWord_216 rfl ?_
              refine sw_aload_n (n := 220) F 1 (some q) rfl rfl rfl dJ35_divideOneWord_219 rfl ?_
              refine sw_get (n := 223) F 1 rfl (k := 1) ⟨(RJ35, TJ35, 3), rfl, by decide, q1837, in_J35, Or.inl rfl⟩ rfl dJ35_divideOneWord_220 rfl ?_
              refine sw_iadd (n := 224) F dJ35_divideOneWord_223 rfl ?_
              refine sw_iload (n := 226) F 0 rfl dJ35_divideOneWord_224 rfl ?_
              refine sw_isub (n := 227) F dJ35_divideOneWord_226 rfl ?_
              have hb_x : f t < 4294967296 := hw.1 _ (by omega)
              refine sw_ialoadK (n := 228) F (plA F 2 rfl hx) t (by omega) (by omega) dJ35_divideOneWord_227 rfl ?_
              show SW x _ _ _ _ _ [.int (jI (↑(f t))), .long (jL ((↑r) * 4294967296))]
              have hb_7 : f t < 4294967296 := hw.1 _ (by omega)
              refine sw_i2lr (n := 229) F dJ35_divideOneWord_228 rfl ?_
              refine sw_ldc2 (n := 232) F (4294967295) q1865 (by decide) dJ35_divideOneWord_229 rfl ?_
              refine sw_land (n := 233) F (jL (↑(f t))) (jI_wordE (by omega)) dJ35_divideOneWord_232 rfl ?_
              refine sw_lor (n := 234) F (jL ((↑r) * 4294967296 + ↑(f t))) (by exact jL_or 32 (by decide) (by omega) (by omega)) dJ35_divideOneWord_233 rfl ?_
              obtain ⟨E, hE⟩ : ∃ z : Nat, z = r * 4294967296 + f t := ⟨_, rfl⟩
              refine sw_top (topL (show ((↑r) * 4294967296 + ↑(f t) : Int) = ↑E by omega)) ?_
              have hEf := ow_fit hr hd.2 hb_x
              rw [← hE] at hEf
              have hEr := Nat.mod_lt E hd.1
              refine sw_lstore (n := 236) F (L2 := [(10, .long (jL (↑E))), (9, .int (jI (↑n - ↑t + 1 + (-1)))), (0, .ref q), (1, .int (jI (↑d))), (2, .ref q2), (3, .long (jL (↑d))), (5, .int (jI (32 - ↑(blen d)))), (6, .int (jI (↑r))), (7, .long (jL (↑r)))]) rfl (by decide) dJ35_divideOneWord_234 rfl ?_
              refine sw_lload (n := 238) F 0 rfl dJ35_divideOneWord_236 rfl ?_
              refine sw_top (topLm (show (↑E : Int) % 18446744073709551616 = (wL ↑E) % 18446744073709551616 by exact (wL_s _).2.2.symm)) ?_
              refine sw_lconst (n := 239) F 0 (by decide) dJ35_divideOneWord_238 rfl ?_
              refine sw_lcmp (n := 240) F (by exact ⟨(wL_s _).1, (wL_s _).2.1⟩) (by decide) dJ35_divideOneWord_239 rfl ?_
              refine sw_if_lt (n := 243) F (lc_rng _ _) (tgt := 264) dJ35_divideOneWord_240 (by decide) rfl (fun c_240 => ?_) (fun c_240 => ?_)
              ·
                have c_240 := lc_lt c_240
                have hE63 := wl_neg hEf.1 c_240
                refine sw_lload (n := 266) F 0 rfl dJ35_divideOneWord_264 rfl ?_
                refine sw_iload_n (n := 267) F 3 rfl rfl dJ35_divideOneWord_266 rfl ?_
                refine sw_callS (n := 270) F (ct_J35_divWord (g := xg x) (l := xl x) E d (by first | omega | assumption) hd (by first | omega | assumption)) q1867 q1868 q144 q1869 nd_J35_divWord rfl (by decide) [0, 1, 2, 3, 4] (perm_ok _ 5 (by decide +kernel) rfl) [aN (xg x) 0 q_1 n gq, ob (xg x) q 19 [.ref a, .int (jI (↑n)), .int (jI 0)], pl (xg x) M, ob (xg x) q2 19 [.ref q_1, .int (jI (↑n)), .int (jI 0)], aN (xg x) 0 a2 1 fz] rfl 0 0 ⟨by omega, by omega⟩ [] rfl (Nat.le_of_ble_eq_true rfl) dJ35_divideOneWord_267 rfl (fun _ _ h => h.elim) (fun v Ws h => ?_)
                obtain ⟨rfl, rfl⟩ := h
                show SW x [aN (xg x) 0 q_1 n gq, ob (xg x) q 19 [.ref a, .int (jI (↑n)), .int (jI 0)], pl (xg x) M, ob (xg x) q2 19 [.ref q_1, .int (jI (↑n)), .int (jI 0)], aN (xg x) 0 a2 1 fz] _ _ _ _ [.long (jL (↑(E % d) * 4294967296 + ↑(E / d)))]
                refine sw_lstore (n := 272) F (L2 := [(13, .long (jL (↑(E % d) * 4294967296 + ↑(E / d)))), (10, .long (jL (↑E))), (9, .int (jI (↑n - ↑t + 1 + (-1)))), (0, .ref q), (1, .int (jI (↑d))), (2, .ref q2), (3, .long (jL (↑d))), (5, .int (jI (32 - ↑(blen d)))), (6, .int (jI (↑r))), (7, .long (jL (↑r)))]) rfl (by decide) dJ35_divideOneWord_270 rfl ?_
                refine sw_lload (n := 274) F 0 rfl dJ35_divideOneWord_272 rfl ?_
                refine sw_ldc2 (n := 277) F (4294967295) q1865 (by decide) dJ35_divideOneWord_274 rfl ?_
                refine sw_land (n := 278) F (jL ((↑(E % d) * 4294967296 + ↑(E / d)) % 4294967296)) (jL_and 32 (by decide) (by rfl)) dJ35_divideOneWord_277 rfl ?_
                refine sw_top (topL (show ((↑(E % d) * 4294967296 + ↑(E / d)) % 4294967296 : Int) = ↑(E / d) by exact dwl1 hEf.2)) ?_
                refine sw_l2i (n := 279) F dJ35_divideOneWord_278 rfl ?_
                refine sw_istore (n := 281) F (L2 := [(12, .int (jI (↑(E / d)))), (13, .long (jL (↑(E % d) * 4294967296 + ↑(E / d)))), (10, .long (jL (↑E))), (9, .int (jI (↑n - ↑t + 1 + (-1)))), (0, .ref q), (1, .int (jI (↑d))), (2, .ref q2), (3, .long (jL (↑d))), (5, .int (jI (32 - ↑(blen d)))), (6, .int (jI (↑r))), (7, .long (jL (↑r)))]) rfl (by decide) dJ35_divideOneWord_279 rfl ?_
                refine sw_lload (n := 283) F 1 rfl dJ35_divideOneWord_281 rfl ?_
                refine sw_bipush (n := 285) F (32) (by decide) dJ35_divideOneWord_283 rfl ?_
                refine sw_lushr (n := 286) F _ (jL_ushr32 _) dJ35_divideOneWord_285 rfl ?_
                refine sw_top (topL (show ((↑(E % d) * 4294967296 + ↑(E / d)) % 18446744073709551616 / 4294967296 : Int) = ↑(E % d) by exact dwl2 (Nat.lt_trans hEr hd.2) hEf.2)) ?_
                refine sw_l2i (n := 287) F dJ35_divideOneWord_286 rfl ?_
                refine sw_istore (n := 289) F (L2 := [(6, .int (jI (↑(E % d)))), (12, .int (jI (↑(E / d)))), (13, .long (jL (↑(E % d) * 4294967296 + ↑(E / d)))), (10, .long (jL (↑E))), (9, .int (jI (↑n - ↑t + 1 + (-1)))), (0, .ref q), (1, .int (jI (↑d))), (2, .ref q2), (3, .long (jL (↑d))), (5, .int (jI (32 - ↑(blen d)))), (7, .long (jL (↑r)))]) rfl (by decide) dJ35_divideOneWord_287 rfl ?_
                refine sw_aload_n (n := 290) F 7 (some q2) rfl rfl rfl dJ35_divideOneWord_289 rfl ?_
                refine sw_get (n := 293) F 3 rfl (k := 0) ⟨(RJ35, TJ35, 3), rfl, by decide, q1836, in_J35, Or.inl rfl⟩ rfl dJ35_divideOneWord_290 rfl ?_
                refine sw_aload_n (n := 294) F 5 (some q) rfl rfl rfl dJ35_divideOneWord_293 rfl ?_
                refine sw_get (n := 297) F 1 rfl (k := 1) ⟨(RJ35, TJ35, 3), rfl, by decide, q1837, in_J35, Or.inl rfl⟩ rfl dJ35_divideOneWord_294 rfl ?_
                refine sw_iload (n := 299) F 4 rfl dJ35_divideOneWord_297 rfl ?_
                refine sw_isub (n := 300) F dJ35_divideOneWord_299 rfl ?_
                refine sw_iload (n := 302) F 1 rfl dJ35_divideOneWord_300 rfl ?_
                refine sw_iastoreW (n := 303) F 0 rfl (fun _ => rfl) t (by omega) (by omega) (E / d) (by first | omega | rfl) [aN (xg x) 0 q_1 n (va_up gq t (E / d)), ob (xg x) q 19 [.ref a, .int (jI (↑n)), .int (jI 0)], pl (xg x) M, ob (xg x) q2 19 [.ref q_1, .int (jI (↑n)), .int (jI 0)], aN (xg x) 0 a2 1 fz] (by rfl) dJ35_divideOneWord_302 rfl ?_
                refine sw_iload (n := 305) F 0 rfl dJ35_divideOneWord_303 rfl ?_
                refine sw_i2lr (n := 306) F dJ35_divideOneWord_305 rfl ?_
                refine sw_ldc2 (n := 309) F (4294967295) q1865 (by decide) dJ35_divideOneWord_306 rfl ?_
                refine sw_land (n := 310) F (jL (↑(E % d))) (jI_wordE (by omega)) dJ35_divideOneWord_309 rfl ?_
                refine sw_lstore (n := 312) F (L2 := [(7, .long (jL (↑(E % d)))), (6, .int (jI (↑(E % d)))), (12, .int (jI (↑(E / d)))), (13, .long (jL (↑(E % d) * 4294967296 + ↑(E / d)))), (10, .long (jL (↑E))), (9, .int (jI (↑n - ↑t + 1 + (-1)))), (0, .ref q), (1, .int (jI (↑d))), (2, .ref q2), (3, .long (jL (↑d))), (5, .int (jI (32 - ↑(blen d))))]) rfl (by decide) dJ35_divideOneWord_310 rfl ?_
                refine sw_goto F (n := 198) dJ35_divideOneWord_312 (by decide) ?_
                refine sw_loc [6, 7, 8, 9, 10, 1, 0, 5] (L2 := [(0, .ref q), (1, .int (jI (↑d))), (2, .ref q2), (3, .long (jL (↑d))), (5, .int (jI (32 - ↑(blen d)))), (6, .int (jI (↑(E % d)))), (7, .long (jL (↑(E % d)))), (9, .int (jI (↑n - ↑t + 1 + (-1))))]) rfl ?_
                rw [show (↑n - ↑t + 1 + (-1) : Int) = ↑n - ↑(t + 1) + 1 by omega]
                exact ih198 (t + 1) (E % d) (va_up gq t (E / d)) (by first | omega | assumption) (by first | omega | assumption) (by first | exact up_lt (fun _ _ => by decide) (by omega) | exact up_lt hgb hEf.2 | exact hgb) (by rw [wv_s, wv_up_end]; exact ow_step hI hE) (by exact mu_n hmu198 htn9)
              ·
                have c_240 := lc_ge c_240
                have hE63 := wl_pos hEf.1 c_240
                refine sw_lload (n := 245) F 0 rfl dJ35_divideOneWord_243 rfl ?_
                refine sw_lload_n (n := 246) F 5 rfl rfl dJ35_divideOneWord_245 rfl ?_
                refine sw_ldivP (n := 247) F (by exact hE63) (by omega) (by omega) dJ35_divideOneWord_246 rfl ?_
                refine sw_top (topL (show ((↑E) / (↑d) : Int) = ↑(E / d) by rw [Int.natCast_ediv])) ?_
                refine sw_l2i (n := 248) F dJ35_divideOneWord_247 rfl ?_
                refine sw_istore (n := 250) F (L2 := [(12, .int (jI (↑(E / d)))), (10, .long (jL (↑E))), (9, .int (jI (↑n - ↑t + 1 + (-1)))), (0, .ref q), (1, .int (jI (↑d))), (2, .ref q2), (3, .long (jL (↑d))), (5, .int (jI (32 - ↑(blen d)))), (6, .int (jI (↑r))), (7, .long (jL (↑r)))]) rfl (by decide) dJ35_divideOneWord_248 rfl ?_
                refine sw_lload (n := 252) F 1 rfl dJ35_divideOneWord_250 rfl ?_
                refine sw_iload (n := 254) F 0 rfl dJ35_divideOneWord_252 rfl ?_
                refine sw_top (topIm (show (↑(E / d) : Int) % 4294967296 = (wI ↑(E / d)) % 4294967296 by exact (wI_s _).2.2.symm)) ?_
                refine sw_i2l (n := 255) F (by exact ⟨(wI_s _).1, (wI_s _).2.1⟩) dJ35_divideOneWord_254 rfl ?_
                refine sw_lload_n (n := 256) F 6 rfl rfl dJ35_divideOneWord_255 rfl ?_
                refine sw_lmul (n := 257) F dJ35_divideOneWord_256 rfl ?_
                refine sw_lsub (n := 258) F dJ35_divideOneWord_257 rfl ?_
                refine sw_l2i (n := 259) F dJ35_divideOneWord_258 rfl ?_
                refine sw_top (topIm (show ((↑E) - ((wI ↑(E / d)) * (↑d)) : Int) % 4294967296 = (↑(E % d)) % 4294967296 by exact ow_rem)) ?_
                refine sw_istore (n := 261) F (L2 := [(6, .int (jI (↑(E % d)))), (12, .int (jI (↑(E / d)))), (10, .long (jL (↑E))), (9, .int (jI (↑n - ↑t + 1 + (-1)))), (0, .ref q), (1, .int (jI (↑d))), (2, .ref q2), (3, .long (jL (↑d))), (5, .int (jI (32 - ↑(blen d)))), (7, .long (jL (↑r)))]) rfl (by decide) dJ35_divideOneWord_259 rfl ?_
                refine sw_goto F (n := 289) dJ35_divideOneWord_261 (by decide) ?_
                refine sw_aload_n (n := 290) F 6 (some q2) rfl rfl rfl dJ35_divideOneWord_289 rfl ?_
                refine sw_get (n := 293) F 3 rfl (k := 0) ⟨(RJ35, TJ35, 3), rfl, by decide, q1836, in_J35, Or.inl rfl⟩ rfl dJ35_divideOneWord_290 rfl ?_
                refine sw_aload_n (n := 294) F 4 (some q) rfl rfl rfl dJ35_divideOneWord_293 rfl ?_
                refine sw_get (n := 297) F 1 rfl (k := 1) ⟨(RJ35, TJ35, 3), rfl, by decide, q1837, in_J35, Or.inl rfl⟩ rfl dJ35_divideOneWord_294 rfl ?_
                refine sw_iload (n := 299) F 3 rfl dJ35_divideOneWord_297 rfl ?_
                refine sw_isub (n := 300) F dJ35_divideOneWord_299 rfl ?_
                refine sw_iload (n := 302) F 1 rfl dJ35_divideOneWord_300 rfl ?_
                refine sw_iastoreW (n := 303) F 0 rfl (fun _ => rfl) t (by omega) (by omega) (E / d) (by first | omega | rfl) [aN (xg x) 0 q_1 n (va_up gq t (E / d)), ob (xg x) q 19 [.ref a, .int (jI (↑n)), .int (jI 0)], pl (xg x) M, ob (xg x) q2 19 [.ref q_1, .int (jI (↑n)), .int (jI 0)], aN (xg x) 0 a2 1 fz] (by rfl) dJ35_divideOneWord_302 rfl ?_
                refine sw_iload (n := 305) F 0 rfl dJ35_divideOneWord_303 rfl ?_
                refine sw_i2lr (n := 306) F dJ35_divideOneWord_305 rfl ?_
                refine sw_ldc2 (n := 309) F (4294967295) q1865 (by decide) dJ35_divideOneWord_306 rfl ?_
                refine sw_land (n := 310) F (jL (↑(E % d))) (jI_wordE (by omega)) dJ35_divideOneWord_309 rfl ?_
                refine sw_lstore (n := 312) F (L2 := [(7, .long (jL (↑(E % d)))), (6, .int (jI (↑(E % d)))), (12, .int (jI (↑(E / d)))), (10, .long (jL (↑E))), (9, .int (jI (↑n - ↑t + 1 + (-1)))), (0, .ref q), (1, .int (jI (↑d))), (2, .ref q2), (3, .long (jL (↑d))), (5, .int (jI (32 - ↑(blen d))))]) rfl (by decide) dJ35_divideOneWord_310 rfl ?_
                refine sw_goto F (n := 198) dJ35_divideOneWord_312 (by decide) ?_
                refine sw_loc [5, 6, 7, 8, 9, 1, 0, 4] (L2 := [(0, .ref q), (1, .int (jI (↑d))), (2, .ref q2), (3, .long (jL (↑d))), (5, .int (jI (32 - ↑(blen d)))), (6, .int (jI (↑(E % d)))), (7, .long (jL (↑(E % d)))), (9, .int (jI (↑n - ↑t + 1 + (-1))))]) rfl ?_
                rw [show (↑n - ↑t + 1 + (-1) : Int) = ↑n - ↑(t + 1) + 1 by omega]
                exact ih198 (t + 1) (E % d) (va_up gq t (E / d)) (by first | omega | assumption) (by first | omega | assumption) (by first | exact up_lt (fun _ _ => by decide) (by omega) | exact up_lt hgb hEf.2 | exact hgb) (by rw [wv_s, wv_up_end]; exact ow_step hI hE) (by exact mu_n hmu198 htn9)
        refine sw_get (n := 196) F 1 rfl (k := 1) ⟨(RJ35, TJ35, 3), rfl, by decide, q1837, in_J35, Or.inl rfl⟩ rfl dJ35_divideOneWord_193 rfl ?_
        refine sw_istore (n := 198) F (L2 := [(9, .int (jI (↑n))), (0, .ref q), (1, .int (jI (↑d))), (2, .ref q2), (3, .long (jL (↑d))), (5, .int (jI (32 - ↑(blen d)))), (6, .int (jI (↑r))), (7, .long (jL (↑r)))]) rfl (by decide) dJ35_divideOneWord_196 rfl ?_
        refine SW.cast (L' := [(9, .int (jI (↑n - 1 + 1))), (0, .ref q), (1, .int (jI (↑d))), (2, .ref q2), (3, .long (jL (↑d))), (5, .int (jI (32 - ↑(blen d)))), (6, .int (jI (↑r))), (7, .long (jL (↑r)))]) ?_ rfl (by rw [show Value.int (jI (↑n)) = Value.int (jI (↑n - 1 + 1)) from topI (by omega)]) rfl
        refine sw_loc [1, 2, 3, 4, 5, 6, 7, 0] (L2 := [(0, .ref q), (1, .int (jI (↑d))), (2, .ref q2), (3, .long (jL (↑d))), (5, .int (jI (32 - ↑(blen d)))), (6, .int (jI (↑r))), (7, .long (jL (↑r))), (9, .int (jI (↑n - 1 + 1)))]) rfl ?_
        exact K198 _ 1 r gq (by first | omega | assumption) hr (by first | exact up_lt (fun _ _ => by decide) (by omega) | exact up_lt hgb hEf.2 | exact hgb) (by exact hI) (Nat.lt_succ_self _)
      refine sw_iload (n := 133) F 0 rfl dJ35_divideOneWord_131 rfl ?_
      have hb_8 : f 0 < 4294967296 := hw.1 _ (by omega)
      refine sw_i2lr (n := 134) F dJ35_divideOneWord_133 rfl ?_
      refine sw_ldc2 (n := 137) F (4294967295) q1865 (by decide) dJ35_divideOneWord_134 rfl ?_
      refine sw_land (n := 138) F (jL (↑(f 0))) (jI_wordE (by omega)) dJ35_divideOneWord_137 rfl ?_
      refine sw_lstore (n := 140) F (L2 := [(7, .long (jL (↑(f 0)))), (6, .int (jI (↑(f 0)))), (5, .int (jI (32 - ↑(blen d)))), (3, .long (jL (↑d))), (0, .ref q), (1, .int (jI (↑d))), (2, .ref q2)]) rfl (by decide) dJ35_divideOneWord_138 rfl ?_
      refine sw_lload (n := 142) F 0 rfl dJ35_divideOneWord_140 rfl ?_
      refine sw_lload_n (n := 143) F 3 rfl rfl dJ35_divideOneWord_142 rfl ?_
      refine sw_lcmp (n := 144) F (by omega) (by omega) dJ35_divideOneWord_143 rfl ?_
      refine sw_if_ge (n := 147) F (lc_rng _ _) (tgt := 157) dJ35_divideOneWord_144 (by decide) rfl (fun c_144 => ?_) (fun c_144 => ?_)
      ·
        have c_144 := lc_ge c_144
        refine sw_aload_n (n := 158) F 6 (some q2) rfl rfl rfl dJ35_divideOneWord_157 rfl ?_
        refine sw_get (n := 161) F 3 rfl (k := 0) ⟨(RJ35, TJ35, 3), rfl, by decide, q1836, in_J35, Or.inl rfl⟩ rfl dJ35_divideOneWord_158 rfl ?_
        refine sw_iconst (n := 162) F (0) (by decide) dJ35_divideOneWord_161 rfl ?_
        refine sw_lload (n := 164) F 0 rfl dJ35_divideOneWord_162 rfl ?_
        refine sw_lload_n (n := 165) F 3 rfl rfl dJ35_divideOneWord_164 rfl ?_
        refine sw_ldivP (n := 166) F (by omega) (by omega) (by omega) dJ35_divideOneWord_165 rfl ?_
        refine sw_top (topL (show ((↑(f 0)) / (↑d) : Int) = ↑(f 0 / d) by rw [Int.natCast_ediv])) ?_
        refine sw_l2i (n := 167) F dJ35_divideOneWord_166 rfl ?_
        refine sw_iastoreW (n := 168) F 0 rfl (fun _ => rfl) 0 rfl (by omega) (f 0 / d) (by first | omega | rfl) [aN (xg x) 0 q_1 n (va_up (fun _ => 0) 0 (f 0 / d)), ob (xg x) q 19 [.ref a, .int (jI (↑n)), .int (jI 0)], pl (xg x) M, ob (xg x) q2 19 [.ref q_1, .int (jI (↑n)), .int (jI 0)], aN (xg x) 0 a2 1 fz] (by rfl) dJ35_divideOneWord_167 rfl ?_
        refine sw_lload (n := 170) F 0 rfl dJ35_divideOneWord_168 rfl ?_
        refine sw_aload_n (n := 171) F 6 (some q2) rfl rfl rfl dJ35_divideOneWord_170 rfl ?_
        refine sw_get (n := 174) F 3 rfl (k := 0) ⟨(RJ35, TJ35, 3), rfl, by decide, q1836, in_J35, Or.inl rfl⟩ rfl dJ35_divideOneWord_171 rfl ?_
        refine sw_iconst (n := 175) F (0) (by decide) dJ35_divideOneWord_174 rfl ?_
        refine sw_ialoadN (n := 176) F 0 rfl (fun _ => rfl) 0 rfl (by omega) dJ35_divideOneWord_175 rfl ?_
        refine sw_top (topI (show (↑(va_up (fun _ => 0) 0 (f 0 / d) 0) : Int) = ↑(f 0 / d) by rw [vu_eq rfl])) ?_
        refine sw_top (topIm (show (↑(f 0 / d) : Int) % 4294967296 = (wI ↑(f 0 / d)) % 4294967296 by exact (wI_s _).2.2.symm)) ?_
        refine sw_i2l (n := 177) F (by exact ⟨(wI_s _).1, (wI_s _).2.1⟩) dJ35_divideOneWord_176 rfl ?_
        refine sw_lload_n (n := 178) F 3 rfl rfl dJ35_divideOneWord_177 rfl ?_
        refine sw_lmul (n := 179) F dJ35_divideOneWord_178 rfl ?_
        refine sw_lsub (n := 180) F dJ35_divideOneWord_179 rfl ?_
        refine sw_l2i (n := 181) F dJ35_divideOneWord_180 rfl ?_
        refine sw_top (topIm (show ((↑(f 0)) - ((wI ↑(f 0 / d)) * (↑d)) : Int) % 4294967296 = (↑(f 0 % d)) % 4294967296 by exact ow_rem)) ?_
        refine sw_istore (n := 183) F (L2 := [(6, .int (jI (↑(f 0 % d)))), (7, .long (jL (↑(f 0)))), (5, .int (jI (32 - ↑(blen d)))), (3, .long (jL (↑d))), (0, .ref q), (1, .int (jI (↑d))), (2, .ref q2)]) rfl (by decide) dJ35_divideOneWord_181 rfl ?_
        refine sw_iload (n := 185) F 0 rfl dJ35_divideOneWord_183 rfl ?_
        refine sw_i2lr (n := 186) F dJ35_divideOneWord_185 rfl ?_
        refine sw_ldc2 (n := 189) F (4294967295) q1865 (by decide) dJ35_divideOneWord_186 rfl ?_
        refine sw_land (n := 190) F (jL (↑(f 0 % d))) (jI_wordE (by omega)) dJ35_divideOneWord_189 rfl ?_
        refine sw_lstore (n := 192) F (L2 := [(7, .long (jL (↑(f 0 % d)))), (6, .int (jI (↑(f 0 % d)))), (5, .int (jI (32 - ↑(blen d)))), (3, .long (jL (↑d))), (0, .ref q), (1, .int (jI (↑d))), (2, .ref q2)]) rfl (by decide) dJ35_divideOneWord_190 rfl ?_
        refine sw_loc [4, 5, 6, 3, 2, 1, 0] (L2 := [(0, .ref q), (1, .int (jI (↑d))), (2, .ref q2), (3, .long (jL (↑d))), (5, .int (jI (32 - ↑(blen d)))), (6, .int (jI (↑(f 0 % d)))), (7, .long (jL (↑(f 0 % d))))]) rfl ?_
        exact K192 (f 0 % d) (va_up (fun _ => 0) 0 (f 0 / d)) (by first | omega | assumption) (by first | exact up_lt (fun _ _ => by decide) (by omega) | exact up_lt hgb hEf.2 | exact hgb) (by rw [wv_1, wv_1, vu_eq rfl]; exact (Nat.div_add_mod' _ _).symm)
      ·
        have c_144 := lc_lt c_144
        refine sw_aload_n (n := 148) F 6 (some q2) rfl rfl rfl dJ35_divideOneWord_147 rfl ?_
        refine sw_get (n := 151) F 3 rfl (k := 0) ⟨(RJ35, TJ35, 3), rfl, by decide, q1836, in_J35, Or.inl rfl⟩ rfl dJ35_divideOneWord_148 rfl ?_
        refine sw_iconst (n := 152) F (0) (by decide) dJ35_divideOneWord_151 rfl ?_
        refine sw_iconst (n := 153) F (0) (by decide) dJ35_divideOneWord_152 rfl ?_
        refine sw_iastoreW (n := 154) F 0 rfl (fun _ => rfl) 0 rfl (by omega) 0 (by first | omega | rfl) [aN (xg x) 0 q_1 n (va_up (fun _ => 0) 0 0), ob (xg x) q 19 [.ref a, .int (jI (↑n)), .int (jI 0)], pl (xg x) M, ob (xg x) q2 19 [.ref q_1, .int (jI (↑n)), .int (jI 0)], aN (xg x) 0 a2 1 fz] (by rfl) dJ35_divideOneWord_153 rfl ?_
        refine sw_goto F (n := 192) dJ35_divideOneWord_154 (by decide) ?_
        refine sw_loc [4, 5, 6, 3, 2, 1, 0] (L2 := [(0, .ref q), (1, .int (jI (↑d))), (2, .ref q2), (3, .long (jL (↑d))), (5, .int (jI (32 - ↑(blen d)))), (6, .int (jI (↑(f 0)))), (7, .long (jL (↑(f 0))))]) rfl ?_
        exact K192 (f 0) (va_up (fun _ => 0) 0 0) (by first | omega | assumption) (by first | exact up_lt (fun _ _ => by decide) (by omega) | exact up_lt hgb hEf.2 | exact hgb) (by rw [wv_1, wv_1, vu_eq rfl]; omega)
  · exfalso; omega
theorem kn_hi {V nl dh dl qh qr D T : Nat} (hD : D = dh * 4294967296 + dl) (hT : T = V * 4294967296 + nl) (hnl : nl < 4294967296) (h1 : qh * dh + qr = V) (h2 : qr < dh) : T < (qh + 1) * D := by
  have e1 : (qh + 1) * D = (qh * dh + dh) * 4294967296 + (qh + 1) * dl := by rw [hD, Nat.mul_add, ← Nat.mul_assoc, Nat.add_mul qh 1 dh, Nat.one_mul]
  rw [e1, hT]; omega
theorem kn_hi2 {V nl qh D T : Nat} (hT : T = V * 4294967296 + nl) (hnl : nl < 4294967296) (hV : V < D) (h2 : qh + 1 = 4294967296) : T < (qh + 1) * D := by
  rw [h2, hT]; omega
theorem kn_id {V nl dh dl qh qr D T : Nat} (hD : D = dh * 4294967296 + dl) (hT : T = V * 4294967296 + nl) (h1 : qh * dh + qr = V) : T + dl * qh = qh * D + (qr * 4294967296 + nl) := by
  rw [hD, hT, ← h1, Nat.mul_add, ← Nat.mul_assoc, Nat.mul_comm dl]; omega
theorem kn_d1 {V dh qh qr : Nat} (h1 : qh * dh + qr = V) (hq : 1 ≤ qh) : (qh - 1) * dh + (qr + dh) = V := by
  obtain ⟨k, rfl⟩ : ∃ k, qh = k + 1 := ⟨qh - 1, by omega⟩
  rw [Nat.add_mul, Nat.one_mul] at h1
  rw [Nat.add_sub_cancel]; omega
theorem kn_2 {V nl dh dl qh qr D T : Nat} (hD : D = dh * 4294967296 + dl) (hT : T = V * 4294967296 + nl) (hd : 2147483648 ≤ dh) (hdl : dl < 4294967296) (h1 : qh * dh + qr = V) (hq : 2 ≤ qh) (hq2 : qh < 4294967296) : (qh - 2) * D ≤ T := by
  have h2 := kn_d1 (kn_d1 h1 (by omega)) (by omega)
  rw [show qh - 1 - 1 = qh - 2 by omega] at h2
  have h3 := kn_id hD hT h2
  have h4 : dl * (qh - 2) ≤ 4294967296 * 4294967296 := Nat.mul_le_mul (by omega) (by omega)
  omega
theorem kn_mul {nh nm nl D Q c W T : Nat} (hT : T = (nh * 4294967296 + nm) * 4294967296 + nl) (h1 : Q * D ≤ T) (h2 : T < (Q + 1) * D) (hD : D < 18446744073709551616) (hW : W < 18446744073709551616) (he : nm * 4294967296 + nl + c * 18446744073709551616 = D * Q + W) : c = nh ∧ T = Q * D + W ∧ W < D := by
  rw [Nat.add_mul, Nat.one_mul] at h2
  rw [Nat.mul_comm D] at he
  omega
theorem kn_step {X D Q j m : Nat} {fq fr fq' fr' : Nat → Nat} (h : X = wv fq j * D * bw (m + 1) + mw fr j (m + 3)) (hT : mw fr j 3 = Q * D + mw fr' (j + 1) 2) (hr : ∀ k, j + 3 ≤ k → fr' k = fr k) (hq : wv fq' (j + 1) = wv fq j * 4294967296 + Q) : X = wv fq' (j + 1) * D * bw m + mw fr' (j + 1) (m + 2) := by
  have e1 := mw_app fr j 3 m
  have e2 := mw_app fr' (j + 1) 2 m
  have e3 : mw fr' (j + 1 + 2) m = mw fr (j + 3) m := mw_cong fun k _ => hr _ (by omega)
  rw [Nat.add_comm 3 m] at e1
  rw [Nat.add_comm 2 m, e3] at e2
  rw [h, e1, e2, hT, hq, bw_s, Nat.add_mul (Q * D), Nat.add_mul, Nat.add_mul, ← Nat.mul_assoc (wv fq j * D), Nat.mul_right_comm (wv fq j) 4294967296 D, Nat.mul_right_comm (wv fq j * D) 4294967296]
  omega
theorem kn_m1 {dl qh : Nat} (h : 1 ≤ qh) : dl * qh = dl * (qh - 1) + dl := by
  obtain ⟨k, rfl⟩ : ∃ k, qh = k + 1 := ⟨qh - 1, by omega⟩
  rw [Nat.mul_add, Nat.mul_one, Nat.add_sub_cancel]
theorem kn_end {X d s Q r D : Nat} (hD : D = d * 2 ^ s) (h : X * 2 ^ s = Q * D + r) (hr : r < D) : X / d = Q ∧ r = X % d * 2 ^ s := by
  have h1 := dm_of h hr
  have hp : 0 < 2 ^ s := Nat.pow_pos (by decide)
  rw [hD, Nat.mul_div_mul_right _ _ hp, Nat.mul_mod_mul_right] at h1
  exact ⟨h1.1, h1.2.symm⟩
theorem mw_3 (f : Nat → Nat) (o : Nat) : mw f o 3 = (f o * 4294967296 + f (o + 1)) * 4294967296 + f (o + 2) := by
  show ((0 * 4294967296 + f (o + 0)) * 4294967296 + f (o + 1)) * 4294967296 + f (o + 2) = _
  rw [Nat.zero_mul, Nat.zero_add]; rfl
theorem kn_top {f : Nat → Nat} {n X s : Nat} (h : wv f (n + 1) = X * 2 ^ s) (hX : X < bw n) (hs : s ≤ 31) : f 0 < 2147483648 := by
  have e := mw_app f 0 1 n
  rw [Nat.add_comm 1 n, mw_0, mw_1, h] at e
  have h1 : 2 ^ s ≤ 2 ^ 31 := Nat.pow_le_pow_right (by decide) hs
  have h2 : X * 2 ^ s ≤ X * 2147483648 := Nat.mul_le_mul_left _ h1
  rcases Nat.lt_or_ge (f 0) 2147483648 with c | c
  · exact c
  · have h3 : 2147483648 * bw n ≤ f 0 * bw n := Nat.mul_le_mul_right _ c
    omega
theorem kn_norm {d s : Nat} (h0 : d ≠ 0) (hs : s = 64 - blen d) (hb : blen d ≤ 64) : 9223372036854775808 ≤ d * 2 ^ s ∧ d * 2 ^ s < 18446744073709551616 := by
  have h1 := blen_lt d
  have h2 := blen_le h0
  have h3 := bl_pos h0
  have h4 : 2 ^ (blen d - 1) * 2 ^ s ≤ d * 2 ^ s := Nat.mul_le_mul_right _ h2
  have h5 : d * 2 ^ s < 2 ^ blen d * 2 ^ s := Nat.mul_lt_mul_of_pos_right h1 (Nat.pow_pos (by decide))
  rw [← Nat.pow_add, show blen d - 1 + s = 63 by omega] at h4
  rw [← Nat.pow_add, show blen d + s = 64 by omega] at h5
  exact ⟨h4, h5⟩
theorem bl_ge {d k : Nat} (h : 2 ^ k ≤ d) : k + 1 ≤ blen d := by
  rcases Nat.lt_or_ge k (blen d) with c | c
  · exact c
  · have h1 := bl_fit (v := d) c; omega
theorem cpy_lt {f g : Nat → Nat} {n B : Nat} (hf : ∀ k, k < n → f k < B) (hB : 0 < B) : ∀ k, k < n + 1 → va_cpy f (fun _ => 0) 0 1 n k < B := by
  intro k hk; unfold va_cpy; split
  · exact hf _ (by omega)
  · exact hB
theorem cpy_1 {f : Nat → Nat} {n : Nat} : mw (va_cpy f (fun _ => 0) 0 1 n) 1 n = wv f n := wv_cong fun j hj => by
  unfold va_cpy; rw [if_pos (by omega)]; congr 1; omega
theorem mw_up0 {f : Nat → Nat} {n v : Nat} : wv (va_up f 0 0) (n + 1) = mw f 1 n := by
  have e := mw_app (va_up f 0 0) 0 1 n
  rw [Nat.add_comm 1 n, mw_0, mw_1, vu_eq rfl, Nat.zero_mul, Nat.zero_add, Nat.zero_add] at e
  rw [e]
  exact mw_cong fun j hj => vu_ne (by omega)
theorem nd_J35_divideLongMagnitude : yJ35_divideLongMagnitude.cls ≠ "java/lang/invoke/MethodHandle" ∧ yJ35_divideLongMagnitude.cls ≠ "java/lang/invoke/VarHandle" ∧ (parseMethodDescriptor yJ35_divideLongMagnitude.desc).map (fun d => d.parameters.length) = some 2 := by decide +kernel
set_option maxRecDepth 100000 in
set_option maxHeartbeats 16000000 in
theorem ct_J35_divideLongMagnitude {g : GG} {l : Launch} (M : Nat → Option PV) (q : Nat) (a : Nat) (n : Nat) (f : Nat → Nat) (q2 : Nat) (a2 : Nat) (fz : Nat → Nat) (d : Nat) (hx : at_ g M a (vA n f)) (hw : wOK n f) (hn : 2 ≤ n ∧ n ≤ 6) (hd : 4294967296 ≤ d ∧ d ≤ 9223372036854775807) (hz : fz 0 = 0) : Ct g l yJ35_divideLongMagnitude (ws_ yJ35_divideLongMagnitude cJ35_divideLongMagnitude 26 (Option.some (Jvm.ClassFile.FieldType.object "java/math/MutableBigInteger"))) 4 80 4 26 [.ref q, .long (jL (↑d)), .ref q2] [ob g q 19 [.ref a, .int (jI (↑n)), .int (jI 0)], pl g M, ob g q2 19 [.ref a2, .int (jI 0), .int (jI 0)], aN g 0 a2 1 fz] (fun v9 Ws9 => ∃ a1 : Nat, ∃ N1 : Nat, ∃ f1 : Nat → Nat, ∃ n1 : Nat, ∃ o1 : Nat, ∃ r1 : Nat, ∃ a3 : Nat, ∃ f3 : Nat → Nat, ∃ n3 : Nat, ∃ o3 : Nat, v9 = some (.ref r1) ∧ (o1 + n1 ≤ N1 ∧ 0 < N1 ∧ N1 ≤ n) ∧ (∀ k, k < N1 → f1 k < 4294967296) ∧ (wOK n1 (fun j => f1 (o1 + j))) ∧ (mw f1 o1 n1 = wv f n / d) ∧ (o3 + n3 ≤ n + 1) ∧ (∀ k, k < n + 1 → f3 k < 4294967296) ∧ (wOK n3 (fun j => f3 (o3 + j))) ∧ (mw f3 o3 n3 = wv f n % d) ∧ Ws9 = [ob g q 19 [.ref a, .int (jI (↑n)), .int (jI 0)], pl g M, ob g q2 19 [.ref a1, .int (jI (↑n1)), .int (jI (↑o1))], aN g 0 a1 N1 f1, ob g r1 19 [.ref a3, .int (jI (↑n3)), .int (jI (↑o3))], aN g 0 a3 (n + 1) f3]) (nox) := by
  refine Ct.of (cc := cJ35_divideLongMagnitude) (nL := 26) (ret := (Option.some (Jvm.ClassFile.FieldType.object "java/math/MutableBigInteger"))) (by decide) rfl (Nat.le_of_ble_eq_true rfl) ?_
  intro x hg hl hPo hPx hmc hms F
  subst hg; subst hl
  refine SW.cast (L' := [(0, .ref q), (1, .long (jL (↑d))), (3, .ref q2)]) ?_ rfl rfl rfl
  have hXb : wv f n < bw n := wv_lt hw.1
  have hf0 : f 0 ≠ 0 := hw.2 (by omega)
  have hb1 := bl_ge (d := d) (k := 32) (by omega)
  have hb2 : blen d ≤ 63 := blen_lm (by omega)
  obtain ⟨s, hs⟩ : ∃ z : Nat, z = 64 - blen d := ⟨_, rfl⟩
  obtain ⟨D, hD⟩ : ∃ z : Nat, z = d * 2 ^ s := ⟨_, rfl⟩
  have hDn := kn_norm (d := d) (s := s) (by omega) hs (by omega)
  rw [← hD] at hDn
  refine sw_new (n := 3) F (ci := 19) (N := 3) RJ35 TJ35 tyJ35 rfl q1878 q1831 q144 in_J35 tyJ35_ok (fs := [.null, .int (jI 0), .int (jI 0)]) rfl 3 23 ⟨by omega, by omega⟩ dJ35_divideLongMagnitude_0 rfl (fun q_1 => ?_)
  refine sw_dup (n := 4) F rfl dJ35_divideLongMagnitude_3 rfl ?_
  refine sw_aload_n (n := 5) F 0 (some q) rfl rfl rfl dJ35_divideLongMagnitude_4 rfl ?_
  refine sw_get (n := 8) F 1 rfl (k := 1) ⟨(RJ35, TJ35, 3), rfl, by decide, q1837, in_J35, Or.inl rfl⟩ rfl dJ35_divideLongMagnitude_5 rfl ?_
  refine sw_iconst (n := 9) F (1) (by decide) dJ35_divideLongMagnitude_8 rfl ?_
  refine sw_iadd (n := 10) F dJ35_divideLongMagnitude_9 rfl ?_
  refine sw_newaN (n := 12) F ((n) + 1) (by first | omega | rfl) (by omega) 2 16 ⟨by omega, by omega⟩ dJ35_divideLongMagnitude_10 rfl (fun q_2 => ?_)
  refine sw_callI (n := 15) F (ct_J35_init_o (g := xg x) (l := xl x) q_1 q_2 ((n) + 1) (fun _ => 0) ) q1879 q1833 q144 q1834 rfl nd_J35_init rfl (by decide) [1, 0, 2, 3, 4, 5] (perm_ok _ 6 (by decide +kernel) rfl) [ob (xg x) q 19 [.ref a, .int (jI (↑n)), .int (jI 0)], pl (xg x) M, ob (xg x) q2 19 [.ref a2, .int (jI 0), .int (jI 0)], aN (xg x) 0 a2 1 fz] rfl 2 16 ⟨by omega, by omega⟩ [.ref q_1] rfl (Nat.le_of_ble_eq_true rfl) dJ35_divideLongMagnitude_12 rfl (fun _ _ h => h.elim) (fun v Ws h => ?_)
  obtain ⟨rfl, rfl⟩ := h
  show SW x [ob (xg x) q_1 19 [.ref q_2, .int (jI (↑((n) + 1))), .int (jI 0)], aN (xg x) 0 q_2 ((n) + 1) (fun _ => 0), ob (xg x) q 19 [.ref a, .int (jI (↑n)), .int (jI 0)], pl (xg x) M, ob (xg x) q2 19 [.ref a2, .int (jI 0), .int (jI 0)], aN (xg x) 0 a2 1 fz] _ _ _ _ [.ref q_1]
  refine sw_astore (n := 17) F (some q_1) (L2 := [(4, .ref q_1), (0, .ref q), (1, .long (jL (↑d))), (3, .ref q2)]) rfl rfl (by decide) dJ35_divideLongMagnitude_15 rfl ?_
  refine sw_aload_n (n := 18) F 1 (some q) rfl rfl rfl dJ35_divideLongMagnitude_17 rfl ?_
  refine sw_get (n := 21) F 2 rfl (k := 0) ⟨(RJ35, TJ35, 3), rfl, by decide, q1836, in_J35, Or.inl rfl⟩ rfl dJ35_divideLongMagnitude_18 rfl ?_
  refine sw_aload_n (n := 22) F 1 (some q) rfl rfl rfl dJ35_divideLongMagnitude_21 rfl ?_
  refine sw_get (n := 25) F 2 rfl (k := 2) ⟨(RJ35, TJ35, 3), rfl, by decide, q1838, in_J35, Or.inl rfl⟩ rfl dJ35_divideLongMagnitude_22 rfl ?_
  refine sw_aload (n := 27) F 0 (some q_1) rfl rfl dJ35_divideLongMagnitude_25 rfl ?_
  refine sw_get (n := 30) F 0 rfl (k := 0) ⟨(RJ35, TJ35, 3), rfl, by decide, q1836, in_J35, Or.inl rfl⟩ rfl dJ35_divideLongMagnitude_27 rfl ?_
  refine sw_iconst (n := 31) F (1) (by decide) dJ35_divideLongMagnitude_30 rfl ?_
  refine sw_aload_n (n := 32) F 1 (some q) rfl rfl rfl dJ35_divideLongMagnitude_31 rfl ?_
  refine sw_get (n := 35) F 2 rfl (k := 1) ⟨(RJ35, TJ35, 3), rfl, by decide, q1837, in_J35, Or.inl rfl⟩ rfl dJ35_divideLongMagnitude_32 rfl ?_
  refine sw_copyN (n := 38) F 1 (plA F 3 rfl hx) rfl 0 1 n (by first | rfl | omega) (by first | rfl | omega) (by first | rfl | omega) (by omega) (by omega) (by omega) q1880 q530 q529 q133 (by decide) [ob (xg x) q_1 19 [.ref q_2, .int (jI (↑((n) + 1))), .int (jI 0)], aN (xg x) 0 q_2 ((n) + 1) (va_cpy f (fun _ => 0) 0 1 n), ob (xg x) q 19 [.ref a, .int (jI (↑n)), .int (jI 0)], pl (xg x) M, ob (xg x) q2 19 [.ref a2, .int (jI 0), .int (jI 0)], aN (xg x) 0 a2 1 fz] rfl dJ35_divideLongMagnitude_35 rfl ?_
  refine sw_aload (n := 40) F 0 (some q_1) rfl rfl dJ35_divideLongMagnitude_38 rfl ?_
  refine sw_aload_n (n := 41) F 1 (some q) rfl rfl rfl dJ35_divideLongMagnitude_40 rfl ?_
  refine sw_get (n := 44) F 2 rfl (k := 1) ⟨(RJ35, TJ35, 3), rfl, by decide, q1837, in_J35, Or.inl rfl⟩ rfl dJ35_divideLongMagnitude_41 rfl ?_
  refine sw_put (n := 47) F 0 rfl (k := 1) ⟨(RJ35, TJ35, 3), rfl, by decide, q1837, in_J35, Or.inl rfl⟩ .int ⟨(RJ35, TJ35, 3), rfl, rfl, tyJ35_ok 1 (by decide), nmJ35, tyJ35, tyJ35_ok⟩ rfl rfl (Nat.le_of_ble_eq_true rfl) rfl [ob (xg x) q_1 19 [.ref q_2, .int (jI (↑n)), .int (jI 0)], aN (xg x) 0 q_2 ((n) + 1) (va_cpy f (fun _ => 0) 0 1 n), ob (xg x) q 19 [.ref a, .int (jI (↑n)), .int (jI 0)], pl (xg x) M, ob (xg x) q2 19 [.ref a2, .int (jI 0), .int (jI 0)], aN (xg x) 0 a2 1 fz] rfl dJ35_divideLongMagnitude_44 rfl ?_
  refine sw_aload (n := 49) F 0 (some q_1) rfl rfl dJ35_divideLongMagnitude_47 rfl ?_
  refine sw_iconst (n := 50) F (1) (by decide) dJ35_divideLongMagnitude_49 rfl ?_
  refine sw_put (n := 53) F 0 rfl (k := 2) ⟨(RJ35, TJ35, 3), rfl, by decide, q1838, in_J35, Or.inl rfl⟩ .int ⟨(RJ35, TJ35, 3), rfl, rfl, tyJ35_ok 2 (by decide), nmJ35, tyJ35, tyJ35_ok⟩ rfl rfl (Nat.le_of_ble_eq_true rfl) rfl [ob (xg x) q_1 19 [.ref q_2, .int (jI (↑n)), .int (jI 1)], aN (xg x) 0 q_2 ((n) + 1) (va_cpy f (fun _ => 0) 0 1 n), ob (xg x) q 19 [.ref a, .int (jI (↑n)), .int (jI 0)], pl (xg x) M, ob (xg x) q2 19 [.ref a2, .int (jI 0), .int (jI 0)], aN (xg x) 0 a2 1 fz] rfl dJ35_divideLongMagnitude_50 rfl ?_
  refine sw_aload (n := 55) F 0 (some q_1) rfl rfl dJ35_divideLongMagnitude_53 rfl ?_
  refine sw_get (n := 58) F 0 rfl (k := 1) ⟨(RJ35, TJ35, 3), rfl, by decide, q1837, in_J35, Or.inl rfl⟩ rfl dJ35_divideLongMagnitude_55 rfl ?_
  refine sw_istore (n := 60) F (L2 := [(5, .int (jI (↑n))), (4, .ref q_1), (0, .ref q), (1, .long (jL (↑d))), (3, .ref q2)]) rfl (by decide) dJ35_divideLongMagnitude_58 rfl ?_
  refine sw_iload (n := 62) F 0 rfl dJ35_divideLongMagnitude_60 rfl ?_
  refine sw_iconst (n := 63) F (2) (by decide) dJ35_divideLongMagnitude_62 rfl ?_
  refine sw_isub (n := 64) F dJ35_divideLongMagnitude_63 rfl ?_
  refine sw_iconst (n := 65) F (1) (by decide) dJ35_divideLongMagnitude_64 rfl ?_
  refine sw_iadd (n := 66) F dJ35_divideLongMagnitude_65 rfl ?_
  refine sw_istore (n := 68) F (L2 := [(6, .int (jI (((↑n) - 2) + 1))), (5, .int (jI (↑n))), (4, .ref q_1), (0, .ref q), (1, .long (jL (↑d))), (3, .ref q2)]) rfl (by decide) dJ35_divideLongMagnitude_66 rfl ?_
  refine SW.cast (L' := [(6, .int (jI (↑(n - 1)))), (5, .int (jI (↑n))), (4, .ref q_1), (0, .ref q), (1, .long (jL (↑d))), (3, .ref q2)]) ?_ rfl (by rw [show Value.int (jI (((↑n) - 2) + 1)) = Value.int (jI (↑(n - 1))) from topI (by omega)]) rfl
  refine sw_aload_n (n := 69) F 5 (some q2) rfl rfl rfl dJ35_divideLongMagnitude_68 rfl ?_
  refine sw_get (n := 72) F 4 rfl (k := 0) ⟨(RJ35, TJ35, 3), rfl, by decide, q1836, in_J35, Or.inl rfl⟩ rfl dJ35_divideLongMagnitude_69 rfl ?_
  refine sw_alen (n := 73) F 5 rfl (fun _ => rfl) dJ35_divideLongMagnitude_72 rfl ?_
  show SW x _ _ _ _ _ [.int (jI 1)]
  refine sw_iload (n := 75) F 0 rfl dJ35_divideLongMagnitude_73 rfl ?_
  have K91 : ∀ (aq : Nat) (fq0 : Nat → Nat), (∀ k, k < n - 1 → fq0 k = 0) → SW x [ob (xg x) q_1 19 [.ref q_2, .int (jI (↑n)), .int (jI 1)], aN (xg x) 0 q_2 ((n) + 1) (va_cpy f (fun _ => 0) 0 1 n), ob (xg x) q 19 [.ref a, .int (jI (↑n)), .int (jI 0)], pl (xg x) M, ob (xg x) q2 19 [.ref aq, .int (jI 0), .int (jI 0)], aN (xg x) 0 aq (n - 1) fq0] 1 11 91 [(0, .ref q), (1, .long (jL (↑d))), (3, .ref q2), (4, .ref q_1), (5, .int (jI (↑n))), (6, .int (jI (↑(n - 1))))] [] := by
    intro aq fq0 hq0
    refine sw_aload_n (n := 92) F 2 (some q2) rfl rfl rfl dJ35_divideLongMagnitude_91 rfl ?_
    refine sw_iload (n := 94) F 5 rfl dJ35_divideLongMagnitude_92 rfl ?_
    refine sw_put (n := 97) F 4 rfl (k := 1) ⟨(RJ35, TJ35, 3), rfl, by decide, q1837, in_J35, Or.inl rfl⟩ .int ⟨(RJ35, TJ35, 3), rfl, rfl, tyJ35_ok 1 (by decide), nmJ35, tyJ35, tyJ35_ok⟩ rfl rfl (Nat.le_of_ble_eq_true rfl) rfl [ob (xg x) q_1 19 [.ref q_2, .int (jI (↑n)), .int (jI 1)], aN (xg x) 0 q_2 ((n) + 1) (va_cpy f (fun _ => 0) 0 1 n), ob (xg x) q 19 [.ref a, .int (jI (↑n)), .int (jI 0)], pl (xg x) M, ob (xg x) q2 19 [.ref aq, .int (jI (↑(n - 1))), .int (jI 0)], aN (xg x) 0 aq (n - 1) fq0] rfl dJ35_divideLongMagnitude_94 rfl ?_
    refine sw_aload_n (n := 98) F 2 (some q2) rfl rfl rfl dJ35_divideLongMagnitude_97 rfl ?_
    refine sw_get (n := 101) F 4 rfl (k := 0) ⟨(RJ35, TJ35, 3), rfl, by decide, q1836, in_J35, Or.inl rfl⟩ rfl dJ35_divideLongMagnitude_98 rfl ?_
    refine sw_astore (n := 103) F (some aq) (L2 := [(7, .ref aq), (0, .ref q), (1, .long (jL (↑d))), (3, .ref q2), (4, .ref q_1), (5, .int (jI (↑n))), (6, .int (jI (↑(n - 1))))]) rfl rfl (by decide) dJ35_divideLongMagnitude_101 rfl ?_
    refine sw_lload_n (n := 104) F 2 rfl rfl dJ35_divideLongMagnitude_103 rfl ?_
    obtain ⟨dz, hdz⟩ : ∃ z : Int, z = ↑d := ⟨_, rfl⟩
    refine sw_top (topL (show (↑d : Int) = dz by exact hdz.symm)) ?_
    refine sw_callS (n := 107) F (ct_J21_numberOfLeadingZeros (g := xg x) (l := xl x) dz (by first | omega | assumption)) q1881 q1531 q129 q1532 nd_J21_numberOfLeadingZeros rfl (by decide) [0, 1, 2, 3, 4, 5] (perm_ok _ 6 (by decide +kernel) rfl) [ob (xg x) q_1 19 [.ref q_2, .int (jI (↑n)), .int (jI 1)], aN (xg x) 0 q_2 ((n) + 1) (va_cpy f (fun _ => 0) 0 1 n), ob (xg x) q 19 [.ref a, .int (jI (↑n)), .int (jI 0)], pl (xg x) M, ob (xg x) q2 19 [.ref aq, .int (jI (↑(n - 1))), .int (jI 0)], aN (xg x) 0 aq (n - 1) fq0] rfl 1 11 ⟨by omega, by omega⟩ [] rfl (Nat.le_of_ble_eq_true rfl) dJ35_divideLongMagnitude_104 rfl (fun _ _ h => h.elim) (fun v Ws h => ?_)
    obtain ⟨rfl, rfl⟩ := h
    show SW x [ob (xg x) q_1 19 [.ref q_2, .int (jI (↑n)), .int (jI 1)], aN (xg x) 0 q_2 ((n) + 1) (va_cpy f (fun _ => 0) 0 1 n), ob (xg x) q 19 [.ref a, .int (jI (↑n)), .int (jI 0)], pl (xg x) M, ob (xg x) q2 19 [.ref aq, .int (jI (↑(n - 1))), .int (jI 0)], aN (xg x) 0 aq (n - 1) fq0] _ _ _ _ [.int (jI (64 - ↑(blen dz.toNat)))]
    refine sw_top (topI (show (64 - ↑(blen dz.toNat) : Int) = ↑s by rw [hdz, Int.toNat_natCast]; omega)) ?_
    refine sw_istore (n := 109) F (L2 := [(8, .int (jI (↑s))), (7, .ref aq), (0, .ref q), (1, .long (jL (↑d))), (3, .ref q2), (4, .ref q_1), (5, .int (jI (↑n))), (6, .int (jI (↑(n - 1))))]) rfl (by decide) dJ35_divideLongMagnitude_107 rfl ?_
    refine sw_iload (n := 111) F 0 rfl dJ35_divideLongMagnitude_109 rfl ?_
    have K126 : ∀ (a3 : Nat) (f3 : Nat → Nat) (m3 : Nat) (o3 : Nat), ((m3 = n ∧ o3 = 1) ∨ (m3 = n + 1 ∧ o3 = 0)) → (∀ k, k < n + 1 → f3 k < 4294967296) → (mw f3 o3 m3 = wv f n * 2 ^ s) → SW x [ob (xg x) q_1 19 [.ref a3, .int (jI (↑m3)), .int (jI (↑o3))], aN (xg x) 0 a3 (n + 1) f3, ob (xg x) q 19 [.ref a, .int (jI (↑n)), .int (jI 0)], pl (xg x) M, ob (xg x) q2 19 [.ref aq, .int (jI (↑(n - 1))), .int (jI 0)], aN (xg x) 0 aq (n - 1) fq0] 0 0 126 [(0, .ref q), (1, .long (jL (↑D))), (3, .ref q2), (4, .ref q_1), (5, .int (jI (↑n))), (6, .int (jI (↑(n - 1)))), (7, .ref aq), (8, .int (jI (↑s)))] [] := by
      intro a3 f3 m3 o3 hm3 hf3 hv3
      refine sw_aload (n := 128) F 3 (some q_1) rfl rfl dJ35_divideLongMagnitude_126 rfl ?_
      refine sw_get (n := 131) F 0 rfl (k := 1) ⟨(RJ35, TJ35, 3), rfl, by decide, q1837, in_J35, Or.inl rfl⟩ rfl dJ35_divideLongMagnitude_128 rfl ?_
      refine sw_iload (n := 133) F 4 rfl dJ35_divideLongMagnitude_131 rfl ?_
      have K161 : ∀ (a4 : Nat) (f4 : Nat → Nat), (∀ k, k < n + 1 → f4 k < 4294967296) → (wv f4 (n + 1) = wv f n * 2 ^ s) → SW x [ob (xg x) q_1 19 [.ref a4, .int (jI (↑(n + 1))), .int (jI 0)], aN (xg x) 0 a4 (n + 1) f4, ob (xg x) q 19 [.ref a, .int (jI (↑n)), .int (jI 0)], pl (xg x) M, ob (xg x) q2 19 [.ref aq, .int (jI (↑(n - 1))), .int (jI 0)], aN (xg x) 0 aq (n - 1) fq0] 0 0 161 [(0, .ref q), (1, .long (jL (↑D))), (3, .ref q2), (4, .ref q_1), (5, .int (jI (↑n))), (6, .int (jI (↑(n - 1)))), (7, .ref aq), (8, .int (jI (↑s)))] [] := by
        intro a4 f4 hf4 hv4
        have hft := kn_top hv4 hXb (by omega)
        refine sw_lload_n (n := 162) F 1 rfl rfl dJ35_divideLongMagnitude_161 rfl ?_
        refine sw_bipush (n := 164) F (32) (by decide) dJ35_divideLongMagnitude_162 rfl ?_
        refine sw_lushr (n := 165) F _ (jL_ushr32 _) dJ35_divideLongMagnitude_164 rfl ?_
        obtain ⟨dh, hdh⟩ : ∃ z : Nat, z = D / 4294967296 := ⟨_, rfl⟩
        refine sw_top (topL (show ((↑D) % 18446744073709551616 / 4294967296 : Int) = ↑dh by omega)) ?_
        refine sw_l2i (n := 166) F dJ35_divideLongMagnitude_165 rfl ?_
        refine sw_istore (n := 168) F (L2 := [(9, .int (jI (↑dh))), (0, .ref q), (1, .long (jL (↑D))), (3, .ref q2), (4, .ref q_1), (5, .int (jI (↑n))), (6, .int (jI (↑(n - 1)))), (7, .ref aq), (8, .int (jI (↑s)))]) rfl (by decide) dJ35_divideLongMagnitude_166 rfl ?_
        refine sw_iload (n := 170) F 0 rfl dJ35_divideLongMagnitude_168 rfl ?_
        refine sw_i2lr (n := 171) F dJ35_divideLongMagnitude_170 rfl ?_
        refine sw_ldc2 (n := 174) F (4294967295) q1865 (by decide) dJ35_divideLongMagnitude_171 rfl ?_
        refine sw_land (n := 175) F (jL (↑dh)) (jI_wordE (by omega)) dJ35_divideLongMagnitude_174 rfl ?_
        refine sw_lstore (n := 177) F (L2 := [(10, .long (jL (↑dh))), (9, .int (jI (↑dh))), (0, .ref q), (1, .long (jL (↑D))), (3, .ref q2), (4, .ref q_1), (5, .int (jI (↑n))), (6, .int (jI (↑(n - 1)))), (7, .ref aq), (8, .int (jI (↑s)))]) rfl (by decide) dJ35_divideLongMagnitude_175 rfl ?_
        refine sw_lload_n (n := 178) F 3 rfl rfl dJ35_divideLongMagnitude_177 rfl ?_
        refine sw_ldc2 (n := 181) F (4294967295) q1865 (by decide) dJ35_divideLongMagnitude_178 rfl ?_
        refine sw_land (n := 182) F (jL ((↑D) % 4294967296)) (jL_and 32 (by decide) (by rfl)) dJ35_divideLongMagnitude_181 rfl ?_
        obtain ⟨dl, hdl⟩ : ∃ z : Nat, z = D % 4294967296 := ⟨_, rfl⟩
        refine sw_top (topL (show ((↑D) % 4294967296 : Int) = ↑dl by omega)) ?_
        have hD2 : D = dh * 4294967296 + dl := by omega
        refine sw_l2i (n := 183) F dJ35_divideLongMagnitude_182 rfl ?_
        refine sw_istore (n := 185) F (L2 := [(12, .int (jI (↑dl))), (10, .long (jL (↑dh))), (9, .int (jI (↑dh))), (0, .ref q), (1, .long (jL (↑D))), (3, .ref q2), (4, .ref q_1), (5, .int (jI (↑n))), (6, .int (jI (↑(n - 1)))), (7, .ref aq), (8, .int (jI (↑s)))]) rfl (by decide) dJ35_divideLongMagnitude_183 rfl ?_
        refine sw_iconst (n := 186) F (0) (by decide) dJ35_divideLongMagnitude_185 rfl ?_
        have K188 : ∀ N188 : Nat, ∀ (j : Nat) (fr : Nat → Nat) (fq : Nat → Nat), (j ≤ n - 1) → (∀ k, k < n + 1 → fr k < 4294967296) → (∀ k, k < n - 1 → fq k < 4294967296) → (∀ k, j ≤ k → k < n - 1 → fq k = 0) → (fr j * 4294967296 + fr (j + 1) < D) → (wv f n * 2 ^ s = wv fq j * D * bw (n - 1 - j) + mw fr j (n + 1 - j)) → (∀ k, k < j → fr k = 0) → ((n - j) < N188) → SW x [ob (xg x) q_1 19 [.ref a4, .int (jI (↑(n + 1))), .int (jI 0)], aN (xg x) 0 a4 (n + 1) fr, ob (xg x) q 19 [.ref a, .int (jI (↑n)), .int (jI 0)], pl (xg x) M, ob (xg x) q2 19 [.ref aq, .int (jI (↑(n - 1))), .int (jI 0)], aN (xg x) 0 aq (n - 1) fq] 0 0 188 [(0, .ref q), (3, .ref q2), (4, .ref q_1), (6, .int (jI (↑(n - 1)))), (7, .ref aq), (8, .int (jI (↑s))), (9, .int (jI (↑dh))), (10, .long (jL (↑dh))), (12, .int (jI (↑dl))), (13, .int (jI (↑j)))] [] := by
          intro N188; induction N188 with
          | zero => intro j fr fq hj hfb hqb hq0 hVD hI hzr hmu188; omega
          | succ N188 ih188 =>
            intro j fr fq hj hfb hqb hq0 hVD hI hzr hmu188
            refine sw_iload (n := 190) F 9 rfl dJ35_divideLongMagnitude_188 rfl ?_
            refine sw_iload (n := 192) F 3 rfl dJ35_divideLongMagnitude_190 rfl ?_
            refine sw_icmp_ge (n := 195) F (by omega) (by omega) (tgt := 593) dJ35_divideLongMagnitude_192 (by decide) rfl (fun c_192 => ?_) (fun c_192 => ?_)
            ·
              have hjn : j = n - 1 := by omega
              have hI2 : wv f n * 2 ^ s = wv fq (n - 1) * D + mw fr (n - 1) 2 := by have e9 := hI; rw [hjn, show n - 1 - (n - 1) = 0 by omega, bw_0, Nat.mul_one, show n + 1 - (n - 1) = 2 by omega] at e9; exact e9
              have hmE := kn_end hD hI2 (by rw [mw_2, ← hjn]; exact hVD)
              have hz2 : mw fr 0 (n + 1) = mw fr (n - 1) 2 := by have e9 := mw_drop (f := fr) (o := 0) (n := n + 1) (k := n - 1) (fun i hi => by rw [Nat.zero_add]; exact hzr i (by omega)) (by omega); rw [Nat.zero_add, show n + 1 - (n - 1) = 2 by omega] at e9; exact e9.symm
              refine sw_iload (n := 595) F 5 rfl dJ35_divideLongMagnitude_593 rfl ?_
              have K605 : ∀ (rl : Nat) (f5 : Nat → Nat), (rl ≤ n + 1) → (∀ k, k < n + 1 → f5 k < 4294967296) → (mw f5 0 rl = wv f n % d) → SW x [ob (xg x) q_1 19 [.ref a4, .int (jI (↑rl)), .int (jI 0)], aN (xg x) 0 a4 (n + 1) f5, ob (xg x) q 19 [.ref a, .int (jI (↑n)), .int (jI 0)], pl (xg x) M, ob (xg x) q2 19 [.ref aq, .int (jI (↑(n - 1))), .int (jI 0)], aN (xg x) 0 aq (n - 1) fq] 0 0 605 [(3, .ref q2), (4, .ref q_1)] [] := by
                intro rl f5 hrl hf5 hv5
                refine sw_aload_n (n := 606) F 0 (some q2) rfl rfl rfl dJ35_divideLongMagnitude_605 rfl ?_
                refine sw_callV (n := 609) F (ct_J35_normalize (g := xg x) (l := xl x) q2 aq (n - 1) fq (n - 1) 0 (by first | omega | assumption) hqb) (rcv_ob F 4 rfl rfl) q1870 q1871 q1872 q144 q1873 nd_J35_normalize rfl (by decide) [4, 5, 0, 1, 2, 3] (perm_ok _ 6 (by decide +kernel) rfl) [ob (xg x) q_1 19 [.ref a4, .int (jI (↑rl)), .int (jI 0)], aN (xg x) 0 a4 (n + 1) f5, ob (xg x) q 19 [.ref a, .int (jI (↑n)), .int (jI 0)], pl (xg x) M] rfl 0 0 ⟨by omega, by omega⟩ [] rfl (Nat.le_of_ble_eq_true rfl) dJ35_divideLongMagnitude_606 rfl (fun _ _ h => h.elim) (fun v Ws h => ?_)
                obtain ⟨n1_3, o1_4, rfl, hw1_5, hv1_6, ho1_7, rfl⟩ := h
                show SW x [ob (xg x) q2 19 [.ref aq, .int (jI (↑n1_3)), .int (jI (↑o1_4))], aN (xg x) 0 aq (n - 1) fq, ob (xg x) q_1 19 [.ref a4, .int (jI (↑rl)), .int (jI 0)], aN (xg x) 0 a4 (n + 1) f5, ob (xg x) q 19 [.ref a, .int (jI (↑n)), .int (jI 0)], pl (xg x) M] _ _ _ _ []
                refine sw_aload (n := 611) F 1 (some q_1) rfl rfl dJ35_divideLongMagnitude_609 rfl ?_
                refine sw_callV (n := 614) F (ct_J35_normalize (g := xg x) (l := xl x) q_1 a4 (n + 1) f5 rl 0 (by first | omega | assumption) hf5) (rcv_ob F 2 rfl rfl) q1870 q1871 q1872 q144 q1873 nd_J35_normalize rfl (by decide) [2, 3, 0, 1, 4, 5] (perm_ok _ 6 (by decide +kernel) rfl) [ob (xg x) q2 19 [.ref aq, .int (jI (↑n1_3)), .int (jI (↑o1_4))], aN (xg x) 0 aq (n - 1) fq, ob (xg x) q 19 [.ref a, .int (jI (↑n)), .int (jI 0)], pl (xg x) M] rfl 0 0 ⟨by omega, by omega⟩ [] rfl (Nat.le_of_ble_eq_true rfl) dJ35_divideLongMagnitude_611 rfl (fun _ _ h => h.elim) (fun v Ws h => ?_)
                obtain ⟨n1_8, o1_9, rfl, hw1_10, hv1_11, ho1_12, rfl⟩ := h
                show SW x [ob (xg x) q_1 19 [.ref a4, .int (jI (↑n1_8)), .int (jI (↑o1_9))], aN (xg x) 0 a4 (n + 1) f5, ob (xg x) q2 19 [.ref aq, .int (jI (↑n1_3)), .int (jI (↑o1_4))], aN (xg x) 0 aq (n - 1) fq, ob (xg x) q 19 [.ref a, .int (jI (↑n)), .int (jI 0)], pl (xg x) M] _ _ _ _ []
                refine sw_aload (n := 616) F 1 (some q_1) rfl rfl dJ35_divideLongMagnitude_614 rfl ?_
                refine sw_perm [4, 5, 2, 3, 0, 1] (perm_ok _ 6 (by decide +kernel) rfl) [ob (xg x) q 19 [.ref a, .int (jI (↑n)), .int (jI 0)], pl (xg x) M, ob (xg x) q2 19 [.ref aq, .int (jI (↑n1_3)), .int (jI (↑o1_4))], aN (xg x) 0 aq (n - 1) fq, ob (xg x) q_1 19 [.ref a4, .int (jI (↑n1_8)), .int (jI (↑o1_9))], aN (xg x) 0 a4 (n + 1) f5] rfl ?_
                exact sw_aret F (some q_1) _ rfl rfl (by first | exact Or.inl ⟨_, rfl⟩ | exact Or.inr ⟨_, rfl⟩) dJ35_divideLongMagnitude_616 (by rw [hPo]; exact ⟨aq, n - 1, fq, n1_3, o1_4, q_1, a4, f5, n1_8, o1_9, rfl, (by first | omega | assumption), hqb, hw1_5, (by rw [hmE.1, ← mw_0 fq (n - 1)]; assumption), (by first | omega | assumption), (by first | exact hE2 | exact hf5), hw1_10, (by first | exact hE3 | (rw [← hv5]; assumption)), rfl⟩)
              refine sw_if_le (n := 598) F (by omega) (tgt := 605) dJ35_divideLongMagnitude_595 (by decide) rfl (fun c_595 => ?_) (fun c_595 => ?_)
              ·
                refine sw_loc [1, 2] (L2 := [(3, .ref q2), (4, .ref q_1)]) rfl ?_
                exact K605 (n + 1) fr (by first | omega | assumption) (by first | assumption) (by rw [hz2, hmE.2, show s = 0 by omega, Nat.pow_zero, Nat.mul_one])
              ·
                refine sw_aload (n := 600) F 2 (some q_1) rfl rfl dJ35_divideLongMagnitude_598 rfl ?_
                refine sw_iload (n := 602) F 5 rfl dJ35_divideLongMagnitude_600 rfl ?_
                refine sw_callV (n := 605) F (ct_J35_rightShift (g := xg x) (l := xl x) q_1 a4 (n + 1) fr (n + 1) 0 s (by first | omega | assumption) hfb (by first | omega | assumption) (by first | omega | assumption)) (rcv_ob F 0 rfl rfl) q1913 q1914 q1915 q144 q1916 nd_J35_rightShift rfl (by decide) [0, 1, 2, 3, 4, 5] (perm_ok _ 6 (by decide +kernel) rfl) [ob (xg x) q 19 [.ref a, .int (jI (↑n)), .int (jI 0)], pl (xg x) M, ob (xg x) q2 19 [.ref aq, .int (jI (↑(n - 1))), .int (jI 0)], aN (xg x) 0 aq (n - 1) fq] rfl 0 0 ⟨by omega, by omega⟩ [] rfl (Nat.le_of_ble_eq_true rfl) dJ35_divideLongMagnitude_602 rfl (fun _ _ h => h.elim) (fun v Ws h => ?_)
                obtain ⟨f1_13, m1_14, rfl, hm1_15, hf1_16, hv1_17, hw1_18, rfl⟩ := h
                show SW x [ob (xg x) q_1 19 [.ref a4, .int (jI (↑m1_14)), .int (jI 0)], aN (xg x) 0 a4 (n + 1) f1_13, ob (xg x) q 19 [.ref a, .int (jI (↑n)), .int (jI 0)], pl (xg x) M, ob (xg x) q2 19 [.ref aq, .int (jI (↑(n - 1))), .int (jI 0)], aN (xg x) 0 aq (n - 1) fq] _ _ _ _ []
                have hvX := hv1_17
                refine sw_loc [1, 2] (L2 := [(3, .ref q2), (4, .ref q_1)]) rfl ?_
                exact K605 m1_14 f1_13 (by first | omega | assumption) (by first | assumption) (by (rw [hvX, hz2, hmE.2, Nat.mul_div_cancel _ (Nat.pow_pos (by decide))]))
            ·
              have hbj : fr j < 4294967296 := hfb _ (by omega)
              have hbj1 : fr (j + 1) < 4294967296 := hfb _ (by omega)
              have hbj2 : fr (j + 2) < 4294967296 := hfb _ (by omega)
              obtain ⟨V, hV⟩ : ∃ z : Nat, z = fr j * 4294967296 + fr (j + 1) := ⟨_, rfl⟩
              obtain ⟨T, hT⟩ : ∃ z : Nat, z = V * 4294967296 + fr (j + 2) := ⟨_, rfl⟩
              refine sw_iconst (n := 196) F (0) (by decide) dJ35_divideLongMagnitude_195 rfl ?_
              refine sw_istore (n := 198) F (L2 := [(14, .int (jI 0)), (0, .ref q), (3, .ref q2), (4, .ref q_1), (6, .int (jI (↑(n - 1)))), (7, .ref aq), (8, .int (jI (↑s))), (9, .int (jI (↑dh))), (10, .long (jL (↑dh))), (12, .int (jI (↑dl))), (13, .int (jI (↑j)))]) rfl (by decide) dJ35_divideLongMagnitude_196 rfl ?_
              refine sw_iconst (n := 199) F (0) (by decide) dJ35_divideLongMagnitude_198 rfl ?_
              refine sw_istore (n := 201) F (L2 := [(15, .int (jI 0)), (14, .int (jI 0)), (0, .ref q), (3, .ref q2), (4, .ref q_1), (6, .int (jI (↑(n - 1)))), (7, .ref aq), (8, .int (jI (↑s))), (9, .int (jI (↑dh))), (10, .long (jL (↑dh))), (12, .int (jI (↑dl))), (13, .int (jI (↑j)))]) rfl (by decide) dJ35_divideLongMagnitude_199 rfl ?_
              refine sw_iconst (n := 202) F (0) (by decide) dJ35_divideLongMagnitude_201 rfl ?_
              refine sw_istore (n := 204) F (L2 := [(16, .int (jI 0)), (15, .int (jI 0)), (14, .int (jI 0)), (0, .ref q), (3, .ref q2), (4, .ref q_1), (6, .int (jI (↑(n - 1)))), (7, .ref aq), (8, .int (jI (↑s))), (9, .int (jI (↑dh))), (10, .long (jL (↑dh))), (12, .int (jI (↑dl))), (13, .int (jI (↑j)))]) rfl (by decide) dJ35_divideLongMagnitude_202 rfl ?_
              refine sw_aload (n := 206) F 5 (some q_1) rfl rfl dJ35_divideLongMagnitude_204 rfl ?_
              refine sw_get (n := 209) F 0 rfl (k := 0) ⟨(RJ35, TJ35, 3), rfl, by decide, q1836, in_J35, Or.inl rfl⟩ rfl dJ35_divideLongMagnitude_206 rfl ?_
              refine sw_iload (n := 211) F 12 rfl dJ35_divideLongMagnitude_209 rfl ?_
              refine sw_aload (n := 213) F 5 (some q_1) rfl rfl dJ35_divideLongMagnitude_211 rfl ?_
              refine sw_get (n := 216) F 0 rfl (k := 2) ⟨(RJ35, TJ35, 3), rfl, by decide, q1838, in_J35, Or.inl rfl⟩ rfl dJ35_divideLongMagnitude_213 rfl ?_
              refine sw_iadd (n := 217) F dJ35_divideLongMagnitude_216 rfl ?_
              refine sw_ialoadN (n := 218) F 1 rfl (fun _ => rfl) j (by omega) (by omega) dJ35_divideLongMagnitude_217 rfl ?_
              refine sw_istore (n := 220) F (L2 := [(17, .int (jI (↑(fr j)))), (16, .int (jI 0)), (15, .int (jI 0)), (14, .int (jI 0)), (0, .ref q), (3, .ref q2), (4, .ref q_1), (6, .int (jI (↑(n - 1)))), (7, .ref aq), (8, .int (jI (↑s))), (9, .int (jI (↑dh))), (10, .long (jL (↑dh))), (12, .int (jI (↑dl))), (13, .int (jI (↑j)))]) rfl (by decide) dJ35_divideLongMagnitude_218 rfl ?_
              refine sw_iload (n := 222) F 0 rfl dJ35_divideLongMagnitude_220 rfl ?_
              refine sw_ldc (n := 224) F (-2147483648) q1899 (by decide) dJ35_divideLongMagnitude_222 rfl ?_
              refine sw_iadd (n := 225) F dJ35_divideLongMagnitude_224 rfl ?_
              refine sw_istore (n := 227) F (L2 := [(18, .int (jI ((↑(fr j)) + (-2147483648)))), (17, .int (jI (↑(fr j)))), (16, .int (jI 0)), (15, .int (jI 0)), (14, .int (jI 0)), (0, .ref q), (3, .ref q2), (4, .ref q_1), (6, .int (jI (↑(n - 1)))), (7, .ref aq), (8, .int (jI (↑s))), (9, .int (jI (↑dh))), (10, .long (jL (↑dh))), (12, .int (jI (↑dl))), (13, .int (jI (↑j)))]) rfl (by decide) dJ35_divideLongMagnitude_225 rfl ?_
              refine sw_aload (n := 229) F 7 (some q_1) rfl rfl dJ35_divideLongMagnitude_227 rfl ?_
              refine sw_get (n := 232) F 0 rfl (k := 0) ⟨(RJ35, TJ35, 3), rfl, by decide, q1836, in_J35, Or.inl rfl⟩ rfl dJ35_divideLongMagnitude_229 rfl ?_
              refine sw_iload (n := 234) F 14 rfl dJ35_divideLongMagnitude_232 rfl ?_
              refine sw_iconst (n := 235) F (1) (by decide) dJ35_divideLongMagnitude_234 rfl ?_
              refine sw_iadd (n := 236) F dJ35_divideLongMagnitude_235 rfl ?_
              refine sw_aload (n := 238) F 7 (some q_1) rfl rfl dJ35_divideLongMagnitude_236 rfl ?_
              refine sw_get (n := 241) F 0 rfl (k := 2) ⟨(RJ35, TJ35, 3), rfl, by decide, q1838, in_J35, Or.inl rfl⟩ rfl dJ35_divideLongMagnitude_238 rfl ?_
              refine sw_iadd (n := 242) F dJ35_divideLongMagnitude_241 rfl ?_
              refine sw_ialoadN (n := 243) F 1 rfl (fun _ => rfl) (j + 1) (by omega) (by omega) dJ35_divideLongMagnitude_242 rfl ?_
              refine sw_istore (n := 245) F (L2 := [(19, .int (jI (↑(fr (j + 1))))), (18, .int (jI ((↑(fr j)) + (-2147483648)))), (17, .int (jI (↑(fr j)))), (16, .int (jI 0)), (15, .int (jI 0)), (14, .int (jI 0)), (0, .ref q), (3, .ref q2), (4, .ref q_1), (6, .int (jI (↑(n - 1)))), (7, .ref aq), (8, .int (jI (↑s))), (9, .int (jI (↑dh))), (10, .long (jL (↑dh))), (12, .int (jI (↑dl))), (13, .int (jI (↑j)))]) rfl (by decide) dJ35_divideLongMagnitude_243 rfl ?_
              refine sw_iload (n := 247) F 2 rfl dJ35_divideLongMagnitude_245 rfl ?_
              refine sw_iload (n := 249) F 12 rfl dJ35_divideLongMagnitude_247 rfl ?_
              have K354 : ∀ (qh : Nat) (qr : Nat) (sk : Int), (qh * dh + qr = V) → (T < (qh + 1) * D) → ((sk = 0 ∧ qr < 4294967296) ∨ (sk = 1 ∧ 4294967296 ≤ qr)) → (qh < 4294967296) → SW x [ob (xg x) q_1 19 [.ref a4, .int (jI (↑(n + 1))), .int (jI 0)], aN (xg x) 0 a4 (n + 1) fr, ob (xg x) q 19 [.ref a, .int (jI (↑n)), .int (jI 0)], pl (xg x) M, ob (xg x) q2 19 [.ref aq, .int (jI (↑(n - 1))), .int (jI 0)], aN (xg x) 0 aq (n - 1) fq] 0 0 354 [(0, .ref q), (3, .ref q2), (4, .ref q_1), (6, .int (jI (↑(n - 1)))), (7, .ref aq), (8, .int (jI (↑s))), (9, .int (jI (↑dh))), (10, .long (jL (↑dh))), (12, .int (jI (↑dl))), (13, .int (jI (↑j))), (14, .int (jI (↑qh))), (15, .int (jI (↑qr))), (16, .int (jI sk)), (18, .int (jI ((↑(fr j)) + (-2147483648))))] [] := by
                intro qh qr sk hE1 hE2 hE3 hqh
                refine sw_iload (n := 356) F 10 rfl dJ35_divideLongMagnitude_354 rfl ?_
                refine sw_if_neU (n := 359) F (by omega) (tgt := 362) dJ35_divideLongMagnitude_356 (by decide) rfl (fun c_356 => ?_) (fun c_356 => ?_)
                ·
                  have hid := kn_id hD2 hT hE1
                  have hmq := ms_p (show dl < 4294967296 by omega) hqh
                  refine sw_iload (n := 364) F 12 rfl dJ35_divideLongMagnitude_362 rfl ?_
                  have K503 : ∀ (Q : Nat), (Q * D ≤ T ∧ T < (Q + 1) * D) → (Q < 4294967296) → SW x [ob (xg x) q_1 19 [.ref a4, .int (jI (↑(n + 1))), .int (jI 0)], aN (xg x) 0 a4 (n + 1) fr, ob (xg x) q 19 [.ref a, .int (jI (↑n)), .int (jI 0)], pl (xg x) M, ob (xg x) q2 19 [.ref aq, .int (jI (↑(n - 1))), .int (jI 0)], aN (xg x) 0 aq (n - 1) fq] 0 0 503 [(0, .ref q), (3, .ref q2), (4, .ref q_1), (6, .int (jI (↑(n - 1)))), (7, .ref aq), (8, .int (jI (↑s))), (9, .int (jI (↑dh))), (10, .long (jL (↑dh))), (12, .int (jI (↑dl))), (13, .int (jI (↑j))), (14, .int (jI (↑Q))), (18, .int (jI ((↑(fr j)) + (-2147483648))))] [] := by
                    intro Q hQ hQb
                    refine sw_aload (n := 505) F 2 (some q_1) rfl rfl dJ35_divideLongMagnitude_503 rfl ?_
                    refine sw_get (n := 508) F 0 rfl (k := 0) ⟨(RJ35, TJ35, 3), rfl, by decide, q1836, in_J35, Or.inl rfl⟩ rfl dJ35_divideLongMagnitude_505 rfl ?_
                    refine sw_iload (n := 510) F 9 rfl dJ35_divideLongMagnitude_508 rfl ?_
                    refine sw_aload (n := 512) F 2 (some q_1) rfl rfl dJ35_divideLongMagnitude_510 rfl ?_
                    refine sw_get (n := 515) F 0 rfl (k := 2) ⟨(RJ35, TJ35, 3), rfl, by decide, q1838, in_J35, Or.inl rfl⟩ rfl dJ35_divideLongMagnitude_512 rfl ?_
                    refine sw_iadd (n := 516) F dJ35_divideLongMagnitude_515 rfl ?_
                    refine sw_iconst (n := 517) F (0) (by decide) dJ35_divideLongMagnitude_516 rfl ?_
                    refine sw_iastoreW (n := 518) F 1 rfl (fun _ => rfl) j (by omega) (by omega) 0 (by first | omega | rfl) [ob (xg x) q_1 19 [.ref a4, .int (jI (↑(n + 1))), .int (jI 0)], aN (xg x) 0 a4 (n + 1) (va_up fr j 0), ob (xg x) q 19 [.ref a, .int (jI (↑n)), .int (jI 0)], pl (xg x) M, ob (xg x) q2 19 [.ref aq, .int (jI (↑(n - 1))), .int (jI 0)], aN (xg x) 0 aq (n - 1) fq] (by rfl) dJ35_divideLongMagnitude_517 rfl ?_
                    refine sw_aload_n (n := 519) F 0 (some q) rfl rfl rfl dJ35_divideLongMagnitude_518 rfl ?_
                    refine sw_aload (n := 521) F 2 (some q_1) rfl rfl dJ35_divideLongMagnitude_519 rfl ?_
                    refine sw_get (n := 524) F 0 rfl (k := 0) ⟨(RJ35, TJ35, 3), rfl, by decide, q1836, in_J35, Or.inl rfl⟩ rfl dJ35_divideLongMagnitude_521 rfl ?_
                    refine sw_iload (n := 526) F 6 rfl dJ35_divideLongMagnitude_524 rfl ?_
                    refine sw_iload (n := 528) F 8 rfl dJ35_divideLongMagnitude_526 rfl ?_
                    refine sw_iload (n := 530) F 10 rfl dJ35_divideLongMagnitude_528 rfl ?_
                    refine sw_iload (n := 532) F 9 rfl dJ35_divideLongMagnitude_530 rfl ?_
                    refine sw_aload (n := 534) F 2 (some q_1) rfl rfl dJ35_divideLongMagnitude_532 rfl ?_
                    refine sw_get (n := 537) F 0 rfl (k := 2) ⟨(RJ35, TJ35, 3), rfl, by decide, q1838, in_J35, Or.inl rfl⟩ rfl dJ35_divideLongMagnitude_534 rfl ?_
                    refine sw_iadd (n := 538) F dJ35_divideLongMagnitude_537 rfl ?_
                    refine sw_top (topI (show ((↑j) + 0 : Int) = ↑j by omega)) ?_
                    refine sw_callV (n := 541) F (ct_J35_mulsubLong (g := xg x) (l := xl x) q a4 (n + 1) (va_up fr j 0) dh dl Q j (by first | omega | assumption) (by exact up_lt hfb (by decide)) (by first | omega | assumption) hQb) (rcv_ob F 2 rfl rfl) q1905 q1907 qs21 q144 q1908 nd_J35_mulsubLong rfl (by decide) [1, 0, 2, 3, 4, 5] (perm_ok _ 6 (by decide +kernel) rfl) [ob (xg x) q_1 19 [.ref a4, .int (jI (↑(n + 1))), .int (jI 0)], ob (xg x) q 19 [.ref a, .int (jI (↑n)), .int (jI 0)], pl (xg x) M, ob (xg x) q2 19 [.ref aq, .int (jI (↑(n - 1))), .int (jI 0)], aN (xg x) 0 aq (n - 1) fq] rfl 0 0 ⟨by omega, by omega⟩ [] rfl (Nat.le_of_ble_eq_true rfl) dJ35_divideLongMagnitude_538 rfl (fun _ _ h => h.elim) (fun v Ws h => ?_)
                    obtain ⟨w1_19, w2_20, c2_21, rfl, hw_22, hc_23, he_24, rfl⟩ := h
                    show SW x [aN (xg x) 0 a4 (n + 1) (va_up (va_up (va_up fr j 0) (j + 2) w2_20) (j + 1) w1_19), ob (xg x) q_1 19 [.ref a4, .int (jI (↑(n + 1))), .int (jI 0)], ob (xg x) q 19 [.ref a, .int (jI (↑n)), .int (jI 0)], pl (xg x) M, ob (xg x) q2 19 [.ref aq, .int (jI (↑(n - 1))), .int (jI 0)], aN (xg x) 0 aq (n - 1) fq] _ _ _ _ [.int (jI (↑c2_21))]
                    have hwb := hw_22
                    have hkm := kn_mul (nh := fr j) (nm := fr (j + 1)) (nl := fr (j + 2)) (D := D) (Q := Q) (c := c2_21) (W := w1_19 * 4294967296 + w2_20) (T := T) (by rw [hT, hV]) hQ.1 hQ.2 hDn.2 (w2_lt hwb.1 hwb.2) (by have e9 := he_24; rw [vu_ne (by omega), vu_ne (by omega)] at e9; rw [hD2]; exact e9)
                    have hu1 : (va_up (va_up (va_up fr j 0) (j + 2) w2_20) (j + 1) w1_19) (j + 1) = w1_19 := vu_eq rfl
                    have hu2 : (va_up (va_up (va_up fr j 0) (j + 2) w2_20) (j + 1) w1_19) (j + 2) = w2_20 := by rw [vu_ne (by omega)]; exact vu_eq rfl
                    refine sw_istore (n := 543) F (L2 := [(20, .int (jI (↑c2_21))), (0, .ref q), (3, .ref q2), (4, .ref q_1), (6, .int (jI (↑(n - 1)))), (7, .ref aq), (8, .int (jI (↑s))), (9, .int (jI (↑dh))), (10, .long (jL (↑dh))), (12, .int (jI (↑dl))), (13, .int (jI (↑j))), (14, .int (jI (↑Q))), (18, .int (jI ((↑(fr j)) + (-2147483648))))]) rfl (by decide) dJ35_divideLongMagnitude_541 rfl ?_
                    refine sw_iload (n := 545) F 0 rfl dJ35_divideLongMagnitude_543 rfl ?_
                    refine sw_ldc (n := 547) F (-2147483648) q1899 (by decide) dJ35_divideLongMagnitude_545 rfl ?_
                    refine sw_iadd (n := 548) F dJ35_divideLongMagnitude_547 rfl ?_
                    refine sw_iload (n := 550) F 12 rfl dJ35_divideLongMagnitude_548 rfl ?_
                    refine sw_icmp_le (n := 553) F (by omega) (by omega) (tgt := 580) dJ35_divideLongMagnitude_550 (by decide) rfl (fun c_550 => ?_) (fun c_550 => ?_)
                    ·
                      refine sw_aload (n := 582) F 5 (some aq) rfl rfl dJ35_divideLongMagnitude_580 rfl ?_
                      refine sw_iload (n := 584) F 10 rfl dJ35_divideLongMagnitude_582 rfl ?_
                      refine sw_iload (n := 586) F 11 rfl dJ35_divideLongMagnitude_584 rfl ?_
                      refine sw_iastoreW (n := 587) F 5 rfl (fun _ => rfl) j rfl (by omega) Q (by first | omega | rfl) [aN (xg x) 0 a4 (n + 1) (va_up (va_up (va_up fr j 0) (j + 2) w2_20) (j + 1) w1_19), ob (xg x) q_1 19 [.ref a4, .int (jI (↑(n + 1))), .int (jI 0)], ob (xg x) q 19 [.ref a, .int (jI (↑n)), .int (jI 0)], pl (xg x) M, ob (xg x) q2 19 [.ref aq, .int (jI (↑(n - 1))), .int (jI 0)], aN (xg x) 0 aq (n - 1) (va_up fq j Q)] (by rfl) dJ35_divideLongMagnitude_586 rfl ?_
                      have hw3 : mw fr j 3 = Q * D + mw (va_up (va_up (va_up fr j 0) (j + 2) w2_20) (j + 1) w1_19) (j + 1) 2 := by rw [mw_3, mw_2, hu1, show j + 1 + 1 = j + 2 from rfl, hu2, ← hV, ← hT]; exact hkm.2.1
                      have hqq : wv (va_up fq j Q) (j + 1) = wv fq j * 4294967296 + Q := wv_up_end
                      have hvd9 : (va_up (va_up (va_up fr j 0) (j + 2) w2_20) (j + 1) w1_19) (j + 1) * 4294967296 + (va_up (va_up (va_up fr j 0) (j + 2) w2_20) (j + 1) w1_19) (j + 1 + 1) < D := by rw [hu1, show j + 1 + 1 = j + 2 from rfl, hu2]; exact hkm.2.2
                      have hrr : ∀ k, j + 3 ≤ k → (va_up (va_up (va_up fr j 0) (j + 2) w2_20) (j + 1) w1_19) k = fr k := fun k hk => by rw [vu_ne (by omega), vu_ne (by omega), vu_ne (by omega)]
                      have hz9 : ∀ k, k < j + 1 → (va_up (va_up (va_up fr j 0) (j + 2) w2_20) (j + 1) w1_19) k = 0 := fun k hk => by rw [vu_ne (by omega), vu_ne (by omega)]; rcases Nat.lt_or_ge k j with c | c; rw [vu_ne (by omega)]; exact hzr k c; exact vu_eq (by omega)
                      have hb9 := up_lt (j := j + 1) (up_lt (j := j + 2) (up_lt (j := j) hfb (show 0 < 4294967296 by decide)) hwb.2) hwb.1
                      have hqb9 := up_lt (j := j) hqb hQb
                      have hq09 : ∀ k, j + 1 ≤ k → k < n - 1 → (va_up fq j Q) k = 0 := fun k h1 h2 => by rw [vu_ne (by omega)]; exact hq0 k (by omega) h2
                      have hst := kn_step (X := wv f n * 2 ^ s) (D := D) (Q := Q) (j := j) (m := n - 2 - j) (fq := fq) (fr := fr) (fq' := va_up fq j Q) (fr' := va_up (va_up (va_up fr j 0) (j + 2) w2_20) (j + 1) w1_19) (by rw [show n - 2 - j + 1 = n - 1 - j by omega, show n - 2 - j + 3 = n + 1 - j by omega]; exact hI) hw3 hrr hqq
                      have hI9 : wv f n * 2 ^ s = wv (va_up fq j Q) (j + 1) * D * bw (n - 1 - (j + 1)) + mw (va_up (va_up (va_up fr j 0) (j + 2) w2_20) (j + 1) w1_19) (j + 1) (n + 1 - (j + 1)) := by rw [show n - 1 - (j + 1) = n - 2 - j by omega, show n + 1 - (j + 1) = n - 2 - j + 2 by omega]; exact hst
                      refine sw_iinc (n := 590) F 10 (L2 := [(13, .int (jI (↑j + 1))), (20, .int (jI (↑c2_21))), (0, .ref q), (3, .ref q2), (4, .ref q_1), (6, .int (jI (↑(n - 1)))), (7, .ref aq), (8, .int (jI (↑s))), (9, .int (jI (↑dh))), (10, .long (jL (↑dh))), (12, .int (jI (↑dl))), (14, .int (jI (↑Q))), (18, .int (jI ((↑(fr j)) + (-2147483648))))]) rfl rfl (by decide) dJ35_divideLongMagnitude_587 rfl ?_
                      refine sw_goto F (n := 188) dJ35_divideLongMagnitude_590 (by decide) ?_
                      refine sw_perm [1, 0, 2, 3, 4, 5] (perm_ok _ 6 (by decide +kernel) rfl) [ob (xg x) q_1 19 [.ref a4, .int (jI (↑(n + 1))), .int (jI 0)], aN (xg x) 0 a4 (n + 1) (va_up (va_up (va_up fr j 0) (j + 2) w2_20) (j + 1) w1_19), ob (xg x) q 19 [.ref a, .int (jI (↑n)), .int (jI 0)], pl (xg x) M, ob (xg x) q2 19 [.ref aq, .int (jI (↑(n - 1))), .int (jI 0)], aN (xg x) 0 aq (n - 1) (va_up fq j Q)] rfl ?_
                      refine sw_loc [2, 3, 4, 5, 6, 7, 8, 9, 10, 0] (L2 := [(0, .ref q), (3, .ref q2), (4, .ref q_1), (6, .int (jI (↑(n - 1)))), (7, .ref aq), (8, .int (jI (↑s))), (9, .int (jI (↑dh))), (10, .long (jL (↑dh))), (12, .int (jI (↑dl))), (13, .int (jI (↑j + 1)))]) rfl ?_
                      rw [show (↑j + 1 : Int) = ↑(j + 1) by omega]
                      exact ih188 (j + 1) (va_up (va_up (va_up fr j 0) (j + 2) w2_20) (j + 1) w1_19) (va_up fq j Q) (by first | omega | assumption) (by exact hb9) (by exact hqb9) (by exact hq09) (by exact hvd9) (by exact hI9) (by exact hz9) (by omega)
                    · exfalso; omega
                  refine sw_if_ne (n := 367) F (by omega) (tgt := 503) dJ35_divideLongMagnitude_364 (by decide) rfl (fun c_364 => ?_) (fun c_364 => ?_)
                  ·
                    refine sw_loc [0, 1, 2, 3, 4, 5, 6, 7, 8, 9, 10, 13] (L2 := [(0, .ref q), (3, .ref q2), (4, .ref q_1), (6, .int (jI (↑(n - 1)))), (7, .ref aq), (8, .int (jI (↑s))), (9, .int (jI (↑dh))), (10, .long (jL (↑dh))), (12, .int (jI (↑dl))), (13, .int (jI (↑j))), (14, .int (jI (↑qh))), (18, .int (jI ((↑(fr j)) + (-2147483648))))]) rfl ?_
                    exact K503 qh (by first | (refine ⟨?_, ?_⟩ <;> omega) | (have h9 : est ≤ rs := by rcases Nat.lt_or_ge rs est with k | k; rw [if_pos k] at c_430; omega; exact k; refine ⟨?_, ?_⟩ <;> omega) | (rw [show qh - 1 + 1 = qh by omega]; refine ⟨?_, ?_⟩ <;> omega) | (have h9 : est2 ≤ rs2 := by rcases Nat.lt_or_ge rs2 est2 with k | k; rw [if_pos k] at c_497; omega; exact k; rw [show qh - 1 + 1 = qh by omega]; refine ⟨?_, ?_⟩ <;> omega)) hqh
                  ·
                    refine sw_aload (n := 369) F 2 (some q_1) rfl rfl dJ35_divideLongMagnitude_367 rfl ?_
                    refine sw_get (n := 372) F 0 rfl (k := 0) ⟨(RJ35, TJ35, 3), rfl, by decide, q1836, in_J35, Or.inl rfl⟩ rfl dJ35_divideLongMagnitude_369 rfl ?_
                    refine sw_iload (n := 374) F 9 rfl dJ35_divideLongMagnitude_372 rfl ?_
                    refine sw_iconst (n := 375) F (2) (by decide) dJ35_divideLongMagnitude_374 rfl ?_
                    refine sw_iadd (n := 376) F dJ35_divideLongMagnitude_375 rfl ?_
                    refine sw_aload (n := 378) F 2 (some q_1) rfl rfl dJ35_divideLongMagnitude_376 rfl ?_
                    refine sw_get (n := 381) F 0 rfl (k := 2) ⟨(RJ35, TJ35, 3), rfl, by decide, q1838, in_J35, Or.inl rfl⟩ rfl dJ35_divideLongMagnitude_378 rfl ?_
                    refine sw_iadd (n := 382) F dJ35_divideLongMagnitude_381 rfl ?_
                    refine sw_ialoadN (n := 383) F 1 rfl (fun _ => rfl) (j + 2) (by omega) (by omega) dJ35_divideLongMagnitude_382 rfl ?_
                    have hb_25 : fr (j + 2) < 4294967296 := hfb _ (by omega)
                    refine sw_i2lr (n := 384) F dJ35_divideLongMagnitude_383 rfl ?_
                    refine sw_ldc2 (n := 387) F (4294967295) q1865 (by decide) dJ35_divideLongMagnitude_384 rfl ?_
                    refine sw_land (n := 388) F (jL (↑(fr (j + 2)))) (jI_wordE (by omega)) dJ35_divideLongMagnitude_387 rfl ?_
                    refine sw_lstore (n := 390) F (L2 := [(20, .long (jL (↑(fr (j + 2))))), (0, .ref q), (3, .ref q2), (4, .ref q_1), (6, .int (jI (↑(n - 1)))), (7, .ref aq), (8, .int (jI (↑s))), (9, .int (jI (↑dh))), (10, .long (jL (↑dh))), (12, .int (jI (↑dl))), (13, .int (jI (↑j))), (14, .int (jI (↑qh))), (15, .int (jI (↑qr))), (16, .int (jI sk)), (18, .int (jI ((↑(fr j)) + (-2147483648))))]) rfl (by decide) dJ35_divideLongMagnitude_388 rfl ?_
                    refine sw_iload (n := 392) F 12 rfl dJ35_divideLongMagnitude_390 rfl ?_
                    refine sw_i2lr (n := 393) F dJ35_divideLongMagnitude_392 rfl ?_
                    refine sw_ldc2 (n := 396) F (4294967295) q1865 (by decide) dJ35_divideLongMagnitude_393 rfl ?_
                    refine sw_land (n := 397) F (jL (↑qr)) (jI_wordE (by omega)) dJ35_divideLongMagnitude_396 rfl ?_
                    refine sw_bipush (n := 399) F (32) (by decide) dJ35_divideLongMagnitude_397 rfl ?_
                    refine sw_lshl (n := 400) F (jL ((↑qr) * 4294967296)) (by have h7s := jL_shlQ (↑qr) (c := 32) (P := 4294967296) (k := 32) (by decide) (by decide) (by decide); exact h7s) dJ35_divideLongMagnitude_399 rfl ?_
                    refine sw_lload (n := 402) F 0 rfl dJ35_divideLongMagnitude_400 rfl ?_
                    refine sw_lor (n := 403) F (jL ((↑qr) * 4294967296 + ↑(fr (j + 2)))) (by exact jL_or 32 (by decide) (by omega) (by omega)) dJ35_divideLongMagnitude_402 rfl ?_
                    obtain ⟨rs, hrs⟩ : ∃ z : Nat, z = qr * 4294967296 + fr (j + 2) := ⟨_, rfl⟩
                    refine sw_top (topL (show ((↑qr) * 4294967296 + ↑(fr (j + 2)) : Int) = ↑rs by omega)) ?_
                    refine sw_lstore (n := 405) F (L2 := [(22, .long (jL (↑rs))), (20, .long (jL (↑(fr (j + 2))))), (0, .ref q), (3, .ref q2), (4, .ref q_1), (6, .int (jI (↑(n - 1)))), (7, .ref aq), (8, .int (jI (↑s))), (9, .int (jI (↑dh))), (10, .long (jL (↑dh))), (12, .int (jI (↑dl))), (13, .int (jI (↑j))), (14, .int (jI (↑qh))), (15, .int (jI (↑qr))), (16, .int (jI sk)), (18, .int (jI ((↑(fr j)) + (-2147483648))))]) rfl (by decide) dJ35_divideLongMagnitude_403 rfl ?_
                    refine sw_iload (n := 407) F 10 rfl dJ35_divideLongMagnitude_405 rfl ?_
                    refine sw_i2lr (n := 408) F dJ35_divideLongMagnitude_407 rfl ?_
                    refine sw_ldc2 (n := 411) F (4294967295) q1865 (by decide) dJ35_divideLongMagnitude_408 rfl ?_
                    refine sw_land (n := 412) F (jL (↑dl)) (jI_wordE (by omega)) dJ35_divideLongMagnitude_411 rfl ?_
                    refine sw_iload (n := 414) F 12 rfl dJ35_divideLongMagnitude_412 rfl ?_
                    refine sw_i2lr (n := 415) F dJ35_divideLongMagnitude_414 rfl ?_
                    refine sw_ldc2 (n := 418) F (4294967295) q1865 (by decide) dJ35_divideLongMagnitude_415 rfl ?_
                    refine sw_land (n := 419) F (jL (↑qh)) (jI_wordE (by omega)) dJ35_divideLongMagnitude_418 rfl ?_
                    refine sw_lmul (n := 420) F dJ35_divideLongMagnitude_419 rfl ?_
                    obtain ⟨est, hest⟩ : ∃ z : Nat, z = dl * qh := ⟨_, rfl⟩
                    refine sw_top (topL (show ((↑dl) * (↑qh) : Int) = ↑est by rw [hest, Int.natCast_mul])) ?_
                    refine sw_lstore (n := 422) F (L2 := [(24, .long (jL (↑est))), (22, .long (jL (↑rs))), (20, .long (jL (↑(fr (j + 2))))), (0, .ref q), (3, .ref q2), (4, .ref q_1), (6, .int (jI (↑(n - 1)))), (7, .ref aq), (8, .int (jI (↑s))), (9, .int (jI (↑dh))), (10, .long (jL (↑dh))), (12, .int (jI (↑dl))), (13, .int (jI (↑j))), (14, .int (jI (↑qh))), (15, .int (jI (↑qr))), (16, .int (jI sk)), (18, .int (jI ((↑(fr j)) + (-2147483648))))]) rfl (by decide) dJ35_divideLongMagnitude_420 rfl ?_
                    refine sw_aload_n (n := 423) F 3 (some q) rfl rfl rfl dJ35_divideLongMagnitude_422 rfl ?_
                    refine sw_lload (n := 425) F 0 rfl dJ35_divideLongMagnitude_423 rfl ?_
                    refine sw_lload (n := 427) F 1 rfl dJ35_divideLongMagnitude_425 rfl ?_
                    refine sw_callV (n := 430) F (ct_J35_unsignedLongCompare (g := xg x) (l := xl x) q est rs (by first | omega | assumption) (by first | omega | assumption)) (rcv_ob F 2 rfl rfl) q1900 q1902 qs20 q144 q1903 nd_J35_unsignedLongCompare rfl (by decide) [0, 1, 2, 3, 4, 5] (perm_ok _ 6 (by decide +kernel) rfl) [ob (xg x) q_1 19 [.ref a4, .int (jI (↑(n + 1))), .int (jI 0)], aN (xg x) 0 a4 (n + 1) fr, ob (xg x) q 19 [.ref a, .int (jI (↑n)), .int (jI 0)], pl (xg x) M, ob (xg x) q2 19 [.ref aq, .int (jI (↑(n - 1))), .int (jI 0)], aN (xg x) 0 aq (n - 1) fq] rfl 0 0 ⟨by omega, by omega⟩ [] rfl (Nat.le_of_ble_eq_true rfl) dJ35_divideLongMagnitude_427 rfl (fun _ _ h => h.elim) (fun v Ws h => ?_)
                    obtain ⟨rfl, rfl⟩ := h
                    show SW x [ob (xg x) q_1 19 [.ref a4, .int (jI (↑(n + 1))), .int (jI 0)], aN (xg x) 0 a4 (n + 1) fr, ob (xg x) q 19 [.ref a, .int (jI (↑n)), .int (jI 0)], pl (xg x) M, ob (xg x) q2 19 [.ref aq, .int (jI (↑(n - 1))), .int (jI 0)], aN (xg x) 0 aq (n - 1) fq] _ _ _ _ [.int (jI (if rs < est then 1 else 0))]
                    refine sw_if_eq (n := 433) F (by split <;> omega) (tgt := 503) dJ35_divideLongMagnitude_430 (by decide) rfl (fun c_430 => ?_) (fun c_430 => ?_)
                    ·
                      refine sw_loc [3, 4, 5, 6, 7, 8, 9, 10, 11, 12, 13, 16] (L2 := [(0, .ref q), (3, .ref q2), (4, .ref q_1), (6, .int (jI (↑(n - 1)))), (7, .ref aq), (8, .int (jI (↑s))), (9, .int (jI (↑dh))), (10, .long (jL (↑dh))), (12, .int (jI (↑dl))), (13, .int (jI (↑j))), (14, .int (jI (↑qh))), (18, .int (jI ((↑(fr j)) + (-2147483648))))]) rfl ?_
                      exact K503 qh (by first | (refine ⟨?_, ?_⟩ <;> omega) | (have h9 : est ≤ rs := by rcases Nat.lt_or_ge rs est with k | k; rw [if_pos k] at c_430; omega; exact k; refine ⟨?_, ?_⟩ <;> omega) | (rw [show qh - 1 + 1 = qh by omega]; refine ⟨?_, ?_⟩ <;> omega) | (have h9 : est2 ≤ rs2 := by rcases Nat.lt_or_ge rs2 est2 with k | k; rw [if_pos k] at c_497; omega; exact k; rw [show qh - 1 + 1 = qh by omega]; refine ⟨?_, ?_⟩ <;> omega)) hqh
                    ·
                      have hg1 : rs < est := by rcases Nat.lt_or_ge rs est with k | k; exact k; rw [if_neg (by omega)] at c_430; omega
                      have hq1 : 1 ≤ qh := by rcases Nat.eq_zero_or_pos qh with k | k; rw [k, Nat.mul_zero] at hest; omega; exact k
                      have hid2 := kn_id hD2 hT (kn_d1 hE1 hq1)
                      have hm1 := kn_m1 (dl := dl) hq1
                      refine sw_iinc (n := 436) F 13 (L2 := [(14, .int (jI (↑qh + (-1)))), (24, .long (jL (↑est))), (22, .long (jL (↑rs))), (20, .long (jL (↑(fr (j + 2))))), (0, .ref q), (3, .ref q2), (4, .ref q_1), (6, .int (jI (↑(n - 1)))), (7, .ref aq), (8, .int (jI (↑s))), (9, .int (jI (↑dh))), (10, .long (jL (↑dh))), (12, .int (jI (↑dl))), (13, .int (jI (↑j))), (15, .int (jI (↑qr))), (16, .int (jI sk)), (18, .int (jI ((↑(fr j)) + (-2147483648))))]) rfl rfl (by decide) dJ35_divideLongMagnitude_433 rfl ?_
                      refine SW.cast (L' := [(14, .int (jI (↑(qh - 1)))), (24, .long (jL (↑est))), (22, .long (jL (↑rs))), (20, .long (jL (↑(fr (j + 2))))), (0, .ref q), (3, .ref q2), (4, .ref q_1), (6, .int (jI (↑(n - 1)))), (7, .ref aq), (8, .int (jI (↑s))), (9, .int (jI (↑dh))), (10, .long (jL (↑dh))), (12, .int (jI (↑dl))), (13, .int (jI (↑j))), (15, .int (jI (↑qr))), (16, .int (jI sk)), (18, .int (jI ((↑(fr j)) + (-2147483648))))]) ?_ rfl (by rw [show Value.int (jI (↑qh + (-1))) = Value.int (jI (↑(qh - 1))) from topI (by omega)]) rfl
                      refine sw_iload (n := 438) F 14 rfl dJ35_divideLongMagnitude_436 rfl ?_
                      refine sw_i2lr (n := 439) F dJ35_divideLongMagnitude_438 rfl ?_
                      refine sw_ldc2 (n := 442) F (4294967295) q1865 (by decide) dJ35_divideLongMagnitude_439 rfl ?_
                      refine sw_land (n := 443) F (jL (↑qr)) (jI_wordE (by omega)) dJ35_divideLongMagnitude_442 rfl ?_
                      refine sw_lload (n := 445) F 11 rfl dJ35_divideLongMagnitude_443 rfl ?_
                      refine sw_ladd (n := 446) F dJ35_divideLongMagnitude_445 rfl ?_
                      refine sw_l2i (n := 447) F dJ35_divideLongMagnitude_446 rfl ?_
                      refine sw_istore (n := 449) F (L2 := [(15, .int (jI ((↑qr) + (↑dh)))), (14, .int (jI (↑(qh - 1)))), (24, .long (jL (↑est))), (22, .long (jL (↑rs))), (20, .long (jL (↑(fr (j + 2))))), (0, .ref q), (3, .ref q2), (4, .ref q_1), (6, .int (jI (↑(n - 1)))), (7, .ref aq), (8, .int (jI (↑s))), (9, .int (jI (↑dh))), (10, .long (jL (↑dh))), (12, .int (jI (↑dl))), (13, .int (jI (↑j))), (16, .int (jI sk)), (18, .int (jI ((↑(fr j)) + (-2147483648))))]) rfl (by decide) dJ35_divideLongMagnitude_447 rfl ?_
                      refine sw_iload (n := 451) F 0 rfl dJ35_divideLongMagnitude_449 rfl ?_
                      refine sw_i2lr (n := 452) F dJ35_divideLongMagnitude_451 rfl ?_
                      refine sw_ldc2 (n := 455) F (4294967295) q1865 (by decide) dJ35_divideLongMagnitude_452 rfl ?_
                      refine sw_land (n := 456) F (jL ((↑qr + ↑dh) % 4294967296)) (jI_wordE (by rfl)) dJ35_divideLongMagnitude_455 rfl ?_
                      refine sw_lload (n := 458) F 12 rfl dJ35_divideLongMagnitude_456 rfl ?_
                      refine sw_lcmp (n := 459) F (by omega) (by omega) dJ35_divideLongMagnitude_458 rfl ?_
                      refine sw_if_lt (n := 462) F (lc_rng _ _) (tgt := 503) dJ35_divideLongMagnitude_459 (by decide) rfl (fun c_459 => ?_) (fun c_459 => ?_)
                      ·
                        have c_459 := lc_lt c_459
                        refine sw_loc [5, 6, 7, 8, 9, 10, 11, 12, 13, 14, 1, 16] (L2 := [(0, .ref q), (3, .ref q2), (4, .ref q_1), (6, .int (jI (↑(n - 1)))), (7, .ref aq), (8, .int (jI (↑s))), (9, .int (jI (↑dh))), (10, .long (jL (↑dh))), (12, .int (jI (↑dl))), (13, .int (jI (↑j))), (14, .int (jI (↑(qh - 1)))), (18, .int (jI ((↑(fr j)) + (-2147483648))))]) rfl ?_
                        exact K503 (qh - 1) (by first | (refine ⟨?_, ?_⟩ <;> omega) | (have h9 : est ≤ rs := by rcases Nat.lt_or_ge rs est with k | k; rw [if_pos k] at c_430; omega; exact k; refine ⟨?_, ?_⟩ <;> omega) | (rw [show qh - 1 + 1 = qh by omega]; refine ⟨?_, ?_⟩ <;> omega) | (have h9 : est2 ≤ rs2 := by rcases Nat.lt_or_ge rs2 est2 with k | k; rw [if_pos k] at c_497; omega; exact k; rw [show qh - 1 + 1 = qh by omega]; refine ⟨?_, ?_⟩ <;> omega)) (by first | omega | assumption)
                      ·
                        have c_459 := lc_ge c_459
                        refine sw_lload (n := 464) F 2 rfl dJ35_divideLongMagnitude_462 rfl ?_
                        refine sw_iload (n := 466) F 13 rfl dJ35_divideLongMagnitude_464 rfl ?_
                        refine sw_i2lr (n := 467) F dJ35_divideLongMagnitude_466 rfl ?_
                        refine sw_ldc2 (n := 470) F (4294967295) q1865 (by decide) dJ35_divideLongMagnitude_467 rfl ?_
                        refine sw_land (n := 471) F (jL (↑dl)) (jI_wordE (by omega)) dJ35_divideLongMagnitude_470 rfl ?_
                        refine sw_lsub (n := 472) F dJ35_divideLongMagnitude_471 rfl ?_
                        obtain ⟨est2, hest2⟩ : ∃ z : Nat, z = dl * (qh - 1) := ⟨_, rfl⟩
                        refine sw_top (topL (show ((↑est) - (↑dl) : Int) = ↑est2 by omega)) ?_
                        refine sw_lstore (n := 474) F (L2 := [(24, .long (jL (↑est2))), (15, .int (jI ((↑qr) + (↑dh)))), (14, .int (jI (↑(qh - 1)))), (22, .long (jL (↑rs))), (20, .long (jL (↑(fr (j + 2))))), (0, .ref q), (3, .ref q2), (4, .ref q_1), (6, .int (jI (↑(n - 1)))), (7, .ref aq), (8, .int (jI (↑s))), (9, .int (jI (↑dh))), (10, .long (jL (↑dh))), (12, .int (jI (↑dl))), (13, .int (jI (↑j))), (16, .int (jI sk)), (18, .int (jI ((↑(fr j)) + (-2147483648))))]) rfl (by decide) dJ35_divideLongMagnitude_472 rfl ?_
                        refine sw_iload (n := 476) F 1 rfl dJ35_divideLongMagnitude_474 rfl ?_
                        refine sw_i2lr (n := 477) F dJ35_divideLongMagnitude_476 rfl ?_
                        refine sw_ldc2 (n := 480) F (4294967295) q1865 (by decide) dJ35_divideLongMagnitude_477 rfl ?_
                        refine sw_land (n := 481) F (jL ((↑qr + ↑dh) % 4294967296)) (jI_wordE (by rfl)) dJ35_divideLongMagnitude_480 rfl ?_
                        refine sw_top (topL (show ((↑qr + ↑dh) % 4294967296 : Int) = ↑(qr + dh) by omega)) ?_
                        refine sw_bipush (n := 483) F (32) (by decide) dJ35_divideLongMagnitude_481 rfl ?_
                        refine sw_lshl (n := 484) F (jL ((↑(qr + dh)) * 4294967296)) (by have h7s := jL_shlQ (↑(qr + dh)) (c := 32) (P := 4294967296) (k := 32) (by decide) (by decide) (by decide); exact h7s) dJ35_divideLongMagnitude_483 rfl ?_
                        refine sw_lload (n := 486) F 4 rfl dJ35_divideLongMagnitude_484 rfl ?_
                        refine sw_lor (n := 487) F (jL ((↑(qr + dh)) * 4294967296 + ↑(fr (j + 2)))) (by exact jL_or 32 (by decide) (by omega) (by omega)) dJ35_divideLongMagnitude_486 rfl ?_
                        obtain ⟨rs2, hrs2⟩ : ∃ z : Nat, z = (qr + dh) * 4294967296 + fr (j + 2) := ⟨_, rfl⟩
                        refine sw_top (topL (show ((↑(qr + dh)) * 4294967296 + ↑(fr (j + 2)) : Int) = ↑rs2 by omega)) ?_
                        refine sw_lstore (n := 489) F (L2 := [(22, .long (jL (↑rs2))), (24, .long (jL (↑est2))), (15, .int (jI ((↑qr) + (↑dh)))), (14, .int (jI (↑(qh - 1)))), (20, .long (jL (↑(fr (j + 2))))), (0, .ref q), (3, .ref q2), (4, .ref q_1), (6, .int (jI (↑(n - 1)))), (7, .ref aq), (8, .int (jI (↑s))), (9, .int (jI (↑dh))), (10, .long (jL (↑dh))), (12, .int (jI (↑dl))), (13, .int (jI (↑j))), (16, .int (jI sk)), (18, .int (jI ((↑(fr j)) + (-2147483648))))]) rfl (by decide) dJ35_divideLongMagnitude_487 rfl ?_
                        refine sw_aload_n (n := 490) F 5 (some q) rfl rfl rfl dJ35_divideLongMagnitude_489 rfl ?_
                        refine sw_lload (n := 492) F 1 rfl dJ35_divideLongMagnitude_490 rfl ?_
                        refine sw_lload (n := 494) F 0 rfl dJ35_divideLongMagnitude_492 rfl ?_
                        refine sw_callV (n := 497) F (ct_J35_unsignedLongCompare (g := xg x) (l := xl x) q est2 rs2 (by first | omega | assumption) (by first | omega | assumption)) (rcv_ob F 2 rfl rfl) q1900 q1902 qs20 q144 q1903 nd_J35_unsignedLongCompare rfl (by decide) [0, 1, 2, 3, 4, 5] (perm_ok _ 6 (by decide +kernel) rfl) [ob (xg x) q_1 19 [.ref a4, .int (jI (↑(n + 1))), .int (jI 0)], aN (xg x) 0 a4 (n + 1) fr, ob (xg x) q 19 [.ref a, .int (jI (↑n)), .int (jI 0)], pl (xg x) M, ob (xg x) q2 19 [.ref aq, .int (jI (↑(n - 1))), .int (jI 0)], aN (xg x) 0 aq (n - 1) fq] rfl 0 0 ⟨by omega, by omega⟩ [] rfl (Nat.le_of_ble_eq_true rfl) dJ35_divideLongMagnitude_494 rfl (fun _ _ h => h.elim) (fun v Ws h => ?_)
                        obtain ⟨rfl, rfl⟩ := h
                        show SW x [ob (xg x) q_1 19 [.ref a4, .int (jI (↑(n + 1))), .int (jI 0)], aN (xg x) 0 a4 (n + 1) fr, ob (xg x) q 19 [.ref a, .int (jI (↑n)), .int (jI 0)], pl (xg x) M, ob (xg x) q2 19 [.ref aq, .int (jI (↑(n - 1))), .int (jI 0)], aN (xg x) 0 aq (n - 1) fq] _ _ _ _ [.int (jI (if rs2 < est2 then 1 else 0))]
                        refine sw_if_eq (n := 500) F (by split <;> omega) (tgt := 503) dJ35_divideLongMagnitude_497 (by decide) rfl (fun c_497 => ?_) (fun c_497 => ?_)
                        ·
                          refine sw_loc [5, 6, 7, 8, 9, 10, 11, 12, 13, 14, 3, 16] (L2 := [(0, .ref q), (3, .ref q2), (4, .ref q_1), (6, .int (jI (↑(n - 1)))), (7, .ref aq), (8, .int (jI (↑s))), (9, .int (jI (↑dh))), (10, .long (jL (↑dh))), (12, .int (jI (↑dl))), (13, .int (jI (↑j))), (14, .int (jI (↑(qh - 1)))), (18, .int (jI ((↑(fr j)) + (-2147483648))))]) rfl ?_
                          exact K503 (qh - 1) (by first | (refine ⟨?_, ?_⟩ <;> omega) | (have h9 : est ≤ rs := by rcases Nat.lt_or_ge rs est with k | k; rw [if_pos k] at c_430; omega; exact k; refine ⟨?_, ?_⟩ <;> omega) | (rw [show qh - 1 + 1 = qh by omega]; refine ⟨?_, ?_⟩ <;> omega) | (have h9 : est2 ≤ rs2 := by rcases Nat.lt_or_ge rs2 est2 with k | k; rw [if_pos k] at c_497; omega; exact k; rw [show qh - 1 + 1 = qh by omega]; refine ⟨?_, ?_⟩ <;> omega)) (by first | omega | assumption)
                        ·
                          have hg2 : rs2 < est2 := by rcases Nat.lt_or_ge rs2 est2 with k | k; exact k; rw [if_neg (by omega)] at c_497; omega
                          have hq2 : 2 ≤ qh := by rcases Nat.lt_or_ge 1 qh with k | k; exact k; rw [show qh - 1 = 0 by omega, Nat.mul_zero] at hest2; omega
                          have hk2 := kn_2 hD2 hT (by omega) (by omega) hE1 hq2 hqh
                          refine sw_iinc (n := 503) F 3 (L2 := [(14, .int (jI (↑(qh - 1) + (-1)))), (22, .long (jL (↑rs2))), (24, .long (jL (↑est2))), (15, .int (jI ((↑qr) + (↑dh)))), (20, .long (jL (↑(fr (j + 2))))), (0, .ref q), (3, .ref q2), (4, .ref q_1), (6, .int (jI (↑(n - 1)))), (7, .ref aq), (8, .int (jI (↑s))), (9, .int (jI (↑dh))), (10, .long (jL (↑dh))), (12, .int (jI (↑dl))), (13, .int (jI (↑j))), (16, .int (jI sk)), (18, .int (jI ((↑(fr j)) + (-2147483648))))]) rfl rfl (by decide) dJ35_divideLongMagnitude_500 rfl ?_
                          refine SW.cast (L' := [(14, .int (jI (↑(qh - 2)))), (22, .long (jL (↑rs2))), (24, .long (jL (↑est2))), (15, .int (jI ((↑qr) + (↑dh)))), (20, .long (jL (↑(fr (j + 2))))), (0, .ref q), (3, .ref q2), (4, .ref q_1), (6, .int (jI (↑(n - 1)))), (7, .ref aq), (8, .int (jI (↑s))), (9, .int (jI (↑dh))), (10, .long (jL (↑dh))), (12, .int (jI (↑dl))), (13, .int (jI (↑j))), (16, .int (jI sk)), (18, .int (jI ((↑(fr j)) + (-2147483648))))]) ?_ rfl (by rw [show Value.int (jI (↑(qh - 1) + (-1))) = Value.int (jI (↑(qh - 2))) from topI (by omega)]) rfl
                          refine sw_loc [5, 6, 7, 8, 9, 10, 11, 12, 13, 14, 0, 16] (L2 := [(0, .ref q), (3, .ref q2), (4, .ref q_1), (6, .int (jI (↑(n - 1)))), (7, .ref aq), (8, .int (jI (↑s))), (9, .int (jI (↑dh))), (10, .long (jL (↑dh))), (12, .int (jI (↑dl))), (13, .int (jI (↑j))), (14, .int (jI (↑(qh - 2)))), (18, .int (jI ((↑(fr j)) + (-2147483648))))]) rfl ?_
                          exact K503 (qh - 2) (by rw [show qh - 2 + 1 = qh - 1 by omega]; exact ⟨hk2, by omega⟩) (by first | omega | assumption)
                ·
                  refine sw_goto F (n := 587) dJ35_divideLongMagnitude_359 (by decide) ?_
                  have hTD : T < D := by have e9 := hE2; rw [show qh = 0 by omega, Nat.zero_add, Nat.one_mul] at e9; exact e9
                  have hfj : fr j = 0 := by omega
                  have hw3 : mw fr j 3 = 0 * D + mw fr (j + 1) 2 := by rw [mw_3, mw_2, hfj, Nat.zero_mul, Nat.zero_mul, Nat.zero_add, Nat.zero_add]
                  have hqq : wv fq (j + 1) = wv fq j * 4294967296 + 0 := by rw [wv_s, hq0 j (by omega) (by omega)]
                  have hvd9 : fr (j + 1) * 4294967296 + fr (j + 1 + 1) < D := by have hV2 : V = fr (j + 1) := (by rw [hV, hfj, Nat.zero_mul, Nat.zero_add]); show fr (j + 1) * 4294967296 + fr (j + 2) < D; rw [← hV2, ← hT]; exact hTD
                  have hrr : ∀ k, j + 3 ≤ k → fr k = fr k := fun k _ => rfl
                  have hz9 : ∀ k, k < j + 1 → fr k = 0 := fun k hk => by rcases Nat.lt_or_ge k j with c | c; exact hzr k c; rw [show k = j by omega]; exact hfj
                  have hb9 := hfb
                  have hqb9 := hqb
                  have hq09 : ∀ k, j + 1 ≤ k → k < n - 1 → fq k = 0 := fun k h1 h2 => hq0 k (by omega) h2
                  have hst := kn_step (X := wv f n * 2 ^ s) (D := D) (Q := 0) (j := j) (m := n - 2 - j) (fq := fq) (fr := fr) (fq' := fq) (fr' := fr) (by rw [show n - 2 - j + 1 = n - 1 - j by omega, show n - 2 - j + 3 = n + 1 - j by omega]; exact hI) hw3 hrr hqq
                  have hI9 : wv f n * 2 ^ s = wv (fq) (j + 1) * D * bw (n - 1 - (j + 1)) + mw (fr) (j + 1) (n + 1 - (j + 1)) := by rw [show n - 1 - (j + 1) = n - 2 - j by omega, show n + 1 - (j + 1) = n - 2 - j + 2 by omega]; exact hst
                  refine sw_iinc (n := 590) F 9 (L2 := [(13, .int (jI (↑j + 1))), (0, .ref q), (3, .ref q2), (4, .ref q_1), (6, .int (jI (↑(n - 1)))), (7, .ref aq), (8, .int (jI (↑s))), (9, .int (jI (↑dh))), (10, .long (jL (↑dh))), (12, .int (jI (↑dl))), (14, .int (jI (↑qh))), (15, .int (jI (↑qr))), (16, .int (jI sk)), (18, .int (jI ((↑(fr j)) + (-2147483648))))]) rfl rfl (by decide) dJ35_divideLongMagnitude_587 rfl ?_
                  refine sw_goto F (n := 188) dJ35_divideLongMagnitude_590 (by decide) ?_
                  refine sw_loc [1, 2, 3, 4, 5, 6, 7, 8, 9, 0] (L2 := [(0, .ref q), (3, .ref q2), (4, .ref q_1), (6, .int (jI (↑(n - 1)))), (7, .ref aq), (8, .int (jI (↑s))), (9, .int (jI (↑dh))), (10, .long (jL (↑dh))), (12, .int (jI (↑dl))), (13, .int (jI (↑j + 1)))]) rfl ?_
                  rw [show (↑j + 1 : Int) = ↑(j + 1) by omega]
                  exact ih188 (j + 1) fr fq (by first | omega | assumption) (by exact hb9) (by exact hqb9) (by exact hq09) (by exact hvd9) (by exact hI9) (by exact hz9) (by omega)
              refine sw_icmp_neU (n := 252) F (by omega) (by omega) (tgt := 282) dJ35_divideLongMagnitude_249 (by decide) rfl (fun c_249 => ?_) (fun c_249 => ?_)
              ·
                refine sw_iload (n := 284) F 2 rfl dJ35_divideLongMagnitude_282 rfl ?_
                have hnd : fr j < dh := by omega
                have hof := ow_fit hnd (show dh < 4294967296 by omega) hbj1
                rw [← hV] at hof
                have hVr := Nat.mod_lt V (show 0 < dh by omega)
                refine sw_top (topIm (show (↑(fr j) : Int) % 4294967296 = (wI ↑(fr j)) % 4294967296 by exact (wI_s _).2.2.symm)) ?_
                refine sw_i2l (n := 285) F (by exact ⟨(wI_s _).1, (wI_s _).2.1⟩) dJ35_divideLongMagnitude_284 rfl ?_
                refine sw_bipush (n := 287) F (32) (by decide) dJ35_divideLongMagnitude_285 rfl ?_
                refine sw_lshl (n := 288) F (jL ((wI ↑(fr j)) * 4294967296)) (by have h7s := jL_shlQ (wI ↑(fr j)) (c := 32) (P := 4294967296) (k := 32) (by decide) (by decide) (by decide); exact h7s) dJ35_divideLongMagnitude_287 rfl ?_
                refine sw_top (topLm (show ((wI ↑(fr j)) * 4294967296 : Int) % 18446744073709551616 = (↑(fr j) * 4294967296) % 18446744073709551616 by exact wIshl _)) ?_
                refine sw_iload (n := 290) F 0 rfl dJ35_divideLongMagnitude_288 rfl ?_
                have hb_26 : fr (j + 1) < 4294967296 := hfb _ (by omega)
                refine sw_i2lr (n := 291) F dJ35_divideLongMagnitude_290 rfl ?_
                refine sw_ldc2 (n := 294) F (4294967295) q1865 (by decide) dJ35_divideLongMagnitude_291 rfl ?_
                refine sw_land (n := 295) F (jL (↑(fr (j + 1)))) (jI_wordE (by omega)) dJ35_divideLongMagnitude_294 rfl ?_
                refine sw_lor (n := 296) F (jL (↑(fr j) * 4294967296 + ↑(fr (j + 1)))) (by exact jL_or 32 (by decide) (by omega) (by omega)) dJ35_divideLongMagnitude_295 rfl ?_
                refine sw_top (topL (show (↑(fr j) * 4294967296 + ↑(fr (j + 1)) : Int) = ↑V by omega)) ?_
                refine sw_lstore (n := 298) F (L2 := [(20, .long (jL (↑V))), (19, .int (jI (↑(fr (j + 1))))), (18, .int (jI ((↑(fr j)) + (-2147483648)))), (17, .int (jI (↑(fr j)))), (16, .int (jI 0)), (15, .int (jI 0)), (14, .int (jI 0)), (0, .ref q), (3, .ref q2), (4, .ref q_1), (6, .int (jI (↑(n - 1)))), (7, .ref aq), (8, .int (jI (↑s))), (9, .int (jI (↑dh))), (10, .long (jL (↑dh))), (12, .int (jI (↑dl))), (13, .int (jI (↑j)))]) rfl (by decide) dJ35_divideLongMagnitude_296 rfl ?_
                refine sw_lload (n := 300) F 0 rfl dJ35_divideLongMagnitude_298 rfl ?_
                refine sw_top (topLm (show (↑V : Int) % 18446744073709551616 = (wL ↑V) % 18446744073709551616 by exact (wL_s _).2.2.symm)) ?_
                refine sw_lconst (n := 301) F 0 (by decide) dJ35_divideLongMagnitude_300 rfl ?_
                refine sw_lcmp (n := 302) F (by exact ⟨(wL_s _).1, (wL_s _).2.1⟩) (by decide) dJ35_divideLongMagnitude_301 rfl ?_
                refine sw_if_lt (n := 305) F (lc_rng _ _) (tgt := 328) dJ35_divideLongMagnitude_302 (by decide) rfl (fun c_302 => ?_) (fun c_302 => ?_)
                ·
                  have c_302 := lc_lt c_302
                  have hV63 := wl_neg (v := V) (by omega) c_302
                  refine sw_lload (n := 330) F 0 rfl dJ35_divideLongMagnitude_328 rfl ?_
                  refine sw_iload (n := 332) F 13 rfl dJ35_divideLongMagnitude_330 rfl ?_
                  refine sw_callS (n := 335) F (ct_J35_divWord (g := xg x) (l := xl x) V dh (by exact hV63) (by first | omega | assumption) (by first | omega | assumption)) q1867 q1868 q144 q1869 nd_J35_divWord rfl (by decide) [0, 1, 2, 3, 4, 5] (perm_ok _ 6 (by decide +kernel) rfl) [ob (xg x) q_1 19 [.ref a4, .int (jI (↑(n + 1))), .int (jI 0)], aN (xg x) 0 a4 (n + 1) fr, ob (xg x) q 19 [.ref a, .int (jI (↑n)), .int (jI 0)], pl (xg x) M, ob (xg x) q2 19 [.ref aq, .int (jI (↑(n - 1))), .int (jI 0)], aN (xg x) 0 aq (n - 1) fq] rfl 0 0 ⟨by omega, by omega⟩ [] rfl (Nat.le_of_ble_eq_true rfl) dJ35_divideLongMagnitude_332 rfl (fun _ _ h => h.elim) (fun v Ws h => ?_)
                  obtain ⟨rfl, rfl⟩ := h
                  show SW x [ob (xg x) q_1 19 [.ref a4, .int (jI (↑(n + 1))), .int (jI 0)], aN (xg x) 0 a4 (n + 1) fr, ob (xg x) q 19 [.ref a, .int (jI (↑n)), .int (jI 0)], pl (xg x) M, ob (xg x) q2 19 [.ref aq, .int (jI (↑(n - 1))), .int (jI 0)], aN (xg x) 0 aq (n - 1) fq] _ _ _ _ [.long (jL (↑(V % dh) * 4294967296 + ↑(V / dh)))]
                  refine sw_lstore (n := 337) F (L2 := [(22, .long (jL (↑(V % dh) * 4294967296 + ↑(V / dh)))), (20, .long (jL (↑V))), (19, .int (jI (↑(fr (j + 1))))), (18, .int (jI ((↑(fr j)) + (-2147483648)))), (17, .int (jI (↑(fr j)))), (16, .int (jI 0)), (15, .int (jI 0)), (14, .int (jI 0)), (0, .ref q), (3, .ref q2), (4, .ref q_1), (6, .int (jI (↑(n - 1)))), (7, .ref aq), (8, .int (jI (↑s))), (9, .int (jI (↑dh))), (10, .long (jL (↑dh))), (12, .int (jI (↑dl))), (13, .int (jI (↑j)))]) rfl (by decide) dJ35_divideLongMagnitude_335 rfl ?_
                  refine sw_lload (n := 339) F 0 rfl dJ35_divideLongMagnitude_337 rfl ?_
                  refine sw_ldc2 (n := 342) F (4294967295) q1865 (by decide) dJ35_divideLongMagnitude_339 rfl ?_
                  refine sw_land (n := 343) F (jL ((↑(V % dh) * 4294967296 + ↑(V / dh)) % 4294967296)) (jL_and 32 (by decide) (by rfl)) dJ35_divideLongMagnitude_342 rfl ?_
                  refine sw_top (topL (show ((↑(V % dh) * 4294967296 + ↑(V / dh)) % 4294967296 : Int) = ↑(V / dh) by exact dwl1 hof.2)) ?_
                  refine sw_l2i (n := 344) F dJ35_divideLongMagnitude_343 rfl ?_
                  refine sw_istore (n := 346) F (L2 := [(14, .int (jI (↑(V / dh)))), (22, .long (jL (↑(V % dh) * 4294967296 + ↑(V / dh)))), (20, .long (jL (↑V))), (19, .int (jI (↑(fr (j + 1))))), (18, .int (jI ((↑(fr j)) + (-2147483648)))), (17, .int (jI (↑(fr j)))), (16, .int (jI 0)), (15, .int (jI 0)), (0, .ref q), (3, .ref q2), (4, .ref q_1), (6, .int (jI (↑(n - 1)))), (7, .ref aq), (8, .int (jI (↑s))), (9, .int (jI (↑dh))), (10, .long (jL (↑dh))), (12, .int (jI (↑dl))), (13, .int (jI (↑j)))]) rfl (by decide) dJ35_divideLongMagnitude_344 rfl ?_
                  refine sw_lload (n := 348) F 1 rfl dJ35_divideLongMagnitude_346 rfl ?_
                  refine sw_bipush (n := 350) F (32) (by decide) dJ35_divideLongMagnitude_348 rfl ?_
                  refine sw_lushr (n := 351) F _ (jL_ushr32 _) dJ35_divideLongMagnitude_350 rfl ?_
                  refine sw_top (topL (show ((↑(V % dh) * 4294967296 + ↑(V / dh)) % 18446744073709551616 / 4294967296 : Int) = ↑(V % dh) by exact dwl2 (Nat.lt_trans hVr (by omega)) hof.2)) ?_
                  refine sw_l2i (n := 352) F dJ35_divideLongMagnitude_351 rfl ?_
                  refine sw_istore (n := 354) F (L2 := [(15, .int (jI (↑(V % dh)))), (14, .int (jI (↑(V / dh)))), (22, .long (jL (↑(V % dh) * 4294967296 + ↑(V / dh)))), (20, .long (jL (↑V))), (19, .int (jI (↑(fr (j + 1))))), (18, .int (jI ((↑(fr j)) + (-2147483648)))), (17, .int (jI (↑(fr j)))), (16, .int (jI 0)), (0, .ref q), (3, .ref q2), (4, .ref q_1), (6, .int (jI (↑(n - 1)))), (7, .ref aq), (8, .int (jI (↑s))), (9, .int (jI (↑dh))), (10, .long (jL (↑dh))), (12, .int (jI (↑dl))), (13, .int (jI (↑j)))]) rfl (by decide) dJ35_divideLongMagnitude_352 rfl ?_
                  refine sw_loc [8, 9, 10, 11, 12, 13, 14, 15, 16, 17, 1, 0, 7, 5] (L2 := [(0, .ref q), (3, .ref q2), (4, .ref q_1), (6, .int (jI (↑(n - 1)))), (7, .ref aq), (8, .int (jI (↑s))), (9, .int (jI (↑dh))), (10, .long (jL (↑dh))), (12, .int (jI (↑dl))), (13, .int (jI (↑j))), (14, .int (jI (↑(V / dh)))), (15, .int (jI (↑(V % dh)))), (16, .int (jI 0)), (18, .int (jI ((↑(fr j)) + (-2147483648))))]) rfl ?_
                  exact K354 (V / dh) (V % dh) 0 (by first | exact Nat.div_add_mod' V dh | (rw [hV, show fr j = dh by omega]; omega)) (by first | exact kn_hi hD2 hT hbj2 (Nat.div_add_mod' V dh) hVr | exact kn_hi2 hT hbj2 (by omega) (by decide)) (by omega) (by omega)
                ·
                  have c_302 := lc_ge c_302
                  have hV63 := wl_pos (v := V) (by omega) c_302
                  refine sw_lload (n := 307) F 0 rfl dJ35_divideLongMagnitude_305 rfl ?_
                  refine sw_lload (n := 309) F 14 rfl dJ35_divideLongMagnitude_307 rfl ?_
                  refine sw_ldivP (n := 310) F (by exact hV63) (by omega) (by omega) dJ35_divideLongMagnitude_309 rfl ?_
                  refine sw_top (topL (show ((↑V) / (↑dh) : Int) = ↑(V / dh) by rw [Int.natCast_ediv])) ?_
                  refine sw_l2i (n := 311) F dJ35_divideLongMagnitude_310 rfl ?_
                  refine sw_istore (n := 313) F (L2 := [(14, .int (jI (↑(V / dh)))), (20, .long (jL (↑V))), (19, .int (jI (↑(fr (j + 1))))), (18, .int (jI ((↑(fr j)) + (-2147483648)))), (17, .int (jI (↑(fr j)))), (16, .int (jI 0)), (15, .int (jI 0)), (0, .ref q), (3, .ref q2), (4, .ref q_1), (6, .int (jI (↑(n - 1)))), (7, .ref aq), (8, .int (jI (↑s))), (9, .int (jI (↑dh))), (10, .long (jL (↑dh))), (12, .int (jI (↑dl))), (13, .int (jI (↑j)))]) rfl (by decide) dJ35_divideLongMagnitude_311 rfl ?_
                  refine sw_lload (n := 315) F 1 rfl dJ35_divideLongMagnitude_313 rfl ?_
                  refine sw_iload (n := 317) F 0 rfl dJ35_divideLongMagnitude_315 rfl ?_
                  refine sw_top (topIm (show (↑(V / dh) : Int) % 4294967296 = (wI ↑(V / dh)) % 4294967296 by exact (wI_s _).2.2.symm)) ?_
                  refine sw_i2l (n := 318) F (by exact ⟨(wI_s _).1, (wI_s _).2.1⟩) dJ35_divideLongMagnitude_317 rfl ?_
                  refine sw_lload (n := 320) F 14 rfl dJ35_divideLongMagnitude_318 rfl ?_
                  refine sw_lmul (n := 321) F dJ35_divideLongMagnitude_320 rfl ?_
                  refine sw_lsub (n := 322) F dJ35_divideLongMagnitude_321 rfl ?_
                  refine sw_l2i (n := 323) F dJ35_divideLongMagnitude_322 rfl ?_
                  refine sw_top (topIm (show ((↑V) - ((wI ↑(V / dh)) * (↑dh)) : Int) % 4294967296 = (↑(V % dh)) % 4294967296 by exact ow_rem)) ?_
                  refine sw_istore (n := 325) F (L2 := [(15, .int (jI (↑(V % dh)))), (14, .int (jI (↑(V / dh)))), (20, .long (jL (↑V))), (19, .int (jI (↑(fr (j + 1))))), (18, .int (jI ((↑(fr j)) + (-2147483648)))), (17, .int (jI (↑(fr j)))), (16, .int (jI 0)), (0, .ref q), (3, .ref q2), (4, .ref q_1), (6, .int (jI (↑(n - 1)))), (7, .ref aq), (8, .int (jI (↑s))), (9, .int (jI (↑dh))), (10, .long (jL (↑dh))), (12, .int (jI (↑dl))), (13, .int (jI (↑j)))]) rfl (by decide) dJ35_divideLongMagnitude_323 rfl ?_
                  refine sw_goto F (n := 354) dJ35_divideLongMagnitude_325 (by decide) ?_
                  refine sw_loc [7, 8, 9, 10, 11, 12, 13, 14, 15, 16, 1, 0, 6, 4] (L2 := [(0, .ref q), (3, .ref q2), (4, .ref q_1), (6, .int (jI (↑(n - 1)))), (7, .ref aq), (8, .int (jI (↑s))), (9, .int (jI (↑dh))), (10, .long (jL (↑dh))), (12, .int (jI (↑dl))), (13, .int (jI (↑j))), (14, .int (jI (↑(V / dh)))), (15, .int (jI (↑(V % dh)))), (16, .int (jI 0)), (18, .int (jI ((↑(fr j)) + (-2147483648))))]) rfl ?_
                  exact K354 (V / dh) (V % dh) 0 (by first | exact Nat.div_add_mod' V dh | (rw [hV, show fr j = dh by omega]; omega)) (by first | exact kn_hi hD2 hT hbj2 (Nat.div_add_mod' V dh) hVr | exact kn_hi2 hT hbj2 (by omega) (by decide)) (by omega) (by omega)
              ·
                refine sw_iconst (n := 253) F (-1) (by decide) dJ35_divideLongMagnitude_252 rfl ?_
                refine sw_istore (n := 255) F (L2 := [(14, .int (jI (-1))), (19, .int (jI (↑(fr (j + 1))))), (18, .int (jI ((↑(fr j)) + (-2147483648)))), (17, .int (jI (↑(fr j)))), (16, .int (jI 0)), (15, .int (jI 0)), (0, .ref q), (3, .ref q2), (4, .ref q_1), (6, .int (jI (↑(n - 1)))), (7, .ref aq), (8, .int (jI (↑s))), (9, .int (jI (↑dh))), (10, .long (jL (↑dh))), (12, .int (jI (↑dl))), (13, .int (jI (↑j)))]) rfl (by decide) dJ35_divideLongMagnitude_253 rfl ?_
                refine sw_iload (n := 257) F 3 rfl dJ35_divideLongMagnitude_255 rfl ?_
                refine sw_iload (n := 259) F 1 rfl dJ35_divideLongMagnitude_257 rfl ?_
                refine sw_iadd (n := 260) F dJ35_divideLongMagnitude_259 rfl ?_
                refine sw_istore (n := 262) F (L2 := [(15, .int (jI ((↑(fr j)) + (↑(fr (j + 1)))))), (14, .int (jI (-1))), (19, .int (jI (↑(fr (j + 1))))), (18, .int (jI ((↑(fr j)) + (-2147483648)))), (17, .int (jI (↑(fr j)))), (16, .int (jI 0)), (0, .ref q), (3, .ref q2), (4, .ref q_1), (6, .int (jI (↑(n - 1)))), (7, .ref aq), (8, .int (jI (↑s))), (9, .int (jI (↑dh))), (10, .long (jL (↑dh))), (12, .int (jI (↑dl))), (13, .int (jI (↑j)))]) rfl (by decide) dJ35_divideLongMagnitude_260 rfl ?_
                refine sw_iload (n := 264) F 0 rfl dJ35_divideLongMagnitude_262 rfl ?_
                refine sw_ldc (n := 266) F (-2147483648) q1899 (by decide) dJ35_divideLongMagnitude_264 rfl ?_
                refine sw_iadd (n := 267) F dJ35_divideLongMagnitude_266 rfl ?_
                refine sw_top (topIm (show (((↑(fr j)) + (↑(fr (j + 1)))) + (-2147483648) : Int) % 4294967296 = ((↑(fr j) + ↑(fr (j + 1))) % 4294967296 - 2147483648) % 4294967296 by omega)) ?_
                refine sw_iload (n := 269) F 3 rfl dJ35_divideLongMagnitude_267 rfl ?_
                refine sw_icmp_ge (n := 272) F (by omega) (by omega) (tgt := 276) dJ35_divideLongMagnitude_269 (by decide) rfl (fun c_269 => ?_) (fun c_269 => ?_)
                ·
                  refine sw_iconst (n := 277) F (0) (by decide) dJ35_divideLongMagnitude_276 rfl ?_
                  refine sw_istore (n := 279) F (L2 := [(16, .int (jI 0)), (15, .int (jI ((↑(fr j)) + (↑(fr (j + 1)))))), (14, .int (jI (-1))), (19, .int (jI (↑(fr (j + 1))))), (18, .int (jI ((↑(fr j)) + (-2147483648)))), (17, .int (jI (↑(fr j)))), (0, .ref q), (3, .ref q2), (4, .ref q_1), (6, .int (jI (↑(n - 1)))), (7, .ref aq), (8, .int (jI (↑s))), (9, .int (jI (↑dh))), (10, .long (jL (↑dh))), (12, .int (jI (↑dl))), (13, .int (jI (↑j)))]) rfl (by decide) dJ35_divideLongMagnitude_277 rfl ?_
                  refine sw_goto F (n := 354) dJ35_divideLongMagnitude_279 (by decide) ?_
                  refine SW.cast (L' := [(16, .int (jI 0)), (15, .int (jI ((↑(fr j)) + (↑(fr (j + 1)))))), (14, .int (jI 4294967295)), (19, .int (jI (↑(fr (j + 1))))), (18, .int (jI ((↑(fr j)) + (-2147483648)))), (17, .int (jI (↑(fr j)))), (0, .ref q), (3, .ref q2), (4, .ref q_1), (6, .int (jI (↑(n - 1)))), (7, .ref aq), (8, .int (jI (↑s))), (9, .int (jI (↑dh))), (10, .long (jL (↑dh))), (12, .int (jI (↑dl))), (13, .int (jI (↑j)))]) ?_ rfl (by rw [show Value.int (jI (-1)) = Value.int (jI 4294967295) from topIm (by decide)]) rfl
                  refine sw_loc [6, 7, 8, 9, 10, 11, 12, 13, 14, 15, 2, 1, 0, 4] (L2 := [(0, .ref q), (3, .ref q2), (4, .ref q_1), (6, .int (jI (↑(n - 1)))), (7, .ref aq), (8, .int (jI (↑s))), (9, .int (jI (↑dh))), (10, .long (jL (↑dh))), (12, .int (jI (↑dl))), (13, .int (jI (↑j))), (14, .int (jI 4294967295)), (15, .int (jI ((↑(fr j)) + (↑(fr (j + 1)))))), (16, .int (jI 0)), (18, .int (jI ((↑(fr j)) + (-2147483648))))]) rfl ?_
                  rw [show ((↑(fr j)) + (↑(fr (j + 1))) : Int) = ↑(((fr j)) + ((fr (j + 1)))) by omega]
                  exact K354 4294967295 (((fr j)) + ((fr (j + 1)))) 0 (by first | exact Nat.div_add_mod' V dh | (rw [hV, show fr j = dh by omega]; omega)) (by first | exact kn_hi hD2 hT hbj2 (Nat.div_add_mod' V dh) hVr | exact kn_hi2 hT hbj2 (by omega) (by decide)) (by omega) (by omega)
                ·
                  refine sw_iconst (n := 273) F (1) (by decide) dJ35_divideLongMagnitude_272 rfl ?_
                  refine sw_goto F (n := 277) dJ35_divideLongMagnitude_273 (by decide) ?_
                  refine sw_istore (n := 279) F (L2 := [(16, .int (jI 1)), (15, .int (jI ((↑(fr j)) + (↑(fr (j + 1)))))), (14, .int (jI (-1))), (19, .int (jI (↑(fr (j + 1))))), (18, .int (jI ((↑(fr j)) + (-2147483648)))), (17, .int (jI (↑(fr j)))), (0, .ref q), (3, .ref q2), (4, .ref q_1), (6, .int (jI (↑(n - 1)))), (7, .ref aq), (8, .int (jI (↑s))), (9, .int (jI (↑dh))), (10, .long (jL (↑dh))), (12, .int (jI (↑dl))), (13, .int (jI (↑j)))]) rfl (by decide) dJ35_divideLongMagnitude_277 rfl ?_
                  refine sw_goto F (n := 354) dJ35_divideLongMagnitude_279 (by decide) ?_
                  refine SW.cast (L' := [(16, .int (jI 1)), (15, .int (jI ((↑(fr j)) + (↑(fr (j + 1)))))), (14, .int (jI 4294967295)), (19, .int (jI (↑(fr (j + 1))))), (18, .int (jI ((↑(fr j)) + (-2147483648)))), (17, .int (jI (↑(fr j)))), (0, .ref q), (3, .ref q2), (4, .ref q_1), (6, .int (jI (↑(n - 1)))), (7, .ref aq), (8, .int (jI (↑s))), (9, .int (jI (↑dh))), (10, .long (jL (↑dh))), (12, .int (jI (↑dl))), (13, .int (jI (↑j)))]) ?_ rfl (by rw [show Value.int (jI (-1)) = Value.int (jI 4294967295) from topIm (by decide)]) rfl
                  refine sw_loc [6, 7, 8, 9, 10, 11, 12, 13, 14, 15, 2, 1, 0, 4] (L2 := [(0, .ref q), (3, .ref q2), (4, .ref q_1), (6, .int (jI (↑(n - 1)))), (7, .ref aq), (8, .int (jI (↑s))), (9, .int (jI (↑dh))), (10, .long (jL (↑dh))), (12, .int (jI (↑dl))), (13, .int (jI (↑j))), (14, .int (jI 4294967295)), (15, .int (jI ((↑(fr j)) + (↑(fr (j + 1)))))), (16, .int (jI 1)), (18, .int (jI ((↑(fr j)) + (-2147483648))))]) rfl ?_
                  rw [show ((↑(fr j)) + (↑(fr (j + 1))) : Int) = ↑(((fr j)) + ((fr (j + 1)))) by omega]
                  exact K354 4294967295 (((fr j)) + ((fr (j + 1)))) 1 (by first | exact Nat.div_add_mod' V dh | (rw [hV, show fr j = dh by omega]; omega)) (by first | exact kn_hi hD2 hT hbj2 (Nat.div_add_mod' V dh) hVr | exact kn_hi2 hT hbj2 (by omega) (by decide)) (by omega) (by omega)
        refine sw_istore (n := 188) F (L2 := [(13, .int (jI 0)), (12, .int (jI (↑dl))), (10, .long (jL (↑dh))), (9, .int (jI (↑dh))), (0, .ref q), (1, .long (jL (↑D))), (3, .ref q2), (4, .ref q_1), (5, .int (jI (↑n))), (6, .int (jI (↑(n - 1)))), (7, .ref aq), (8, .int (jI (↑s)))]) rfl (by decide) dJ35_divideLongMagnitude_186 rfl ?_
        refine sw_loc [4, 6, 7, 9, 10, 11, 3, 2, 1, 0] (L2 := [(0, .ref q), (3, .ref q2), (4, .ref q_1), (6, .int (jI (↑(n - 1)))), (7, .ref aq), (8, .int (jI (↑s))), (9, .int (jI (↑dh))), (10, .long (jL (↑dh))), (12, .int (jI (↑dl))), (13, .int (jI 0))]) rfl ?_
        exact K188 _ 0 f4 fq0 (by first | omega | assumption) (by exact hf4) (by intro k hk; rw [hq0 k hk]; decide) (by intro k _ hk; exact hq0 k hk) (by have h9 := hf4 1 (by omega); show f4 0 * 4294967296 + f4 1 < D; omega) (by rw [← hv4]; show _ = 0 * D * bw (n - 1) + mw f4 0 (n + 1); rw [mw_0, Nat.zero_mul, Nat.zero_mul, Nat.zero_add]) (by intro k hk; omega) (Nat.lt_succ_self _)
      refine sw_icmp_ne (n := 136) F (by omega) (by omega) (tgt := 161) dJ35_divideLongMagnitude_133 (by decide) rfl (fun c_133 => ?_) (fun c_133 => ?_)
      ·
        have e3 : n + 1 = m3 := by omega
        have e4 : 0 = o3 := by omega
        subst e3
        subst e4
        have hE4 : wv f3 (n + 1) = wv f n * 2 ^ s := by rw [← mw_0]; exact hv3
        have hE5 := hf3
        exact K161 a3 f3 (by exact hE5) (by exact hE4)
      ·
        refine sw_aload (n := 138) F 3 (some q_1) rfl rfl dJ35_divideLongMagnitude_136 rfl ?_
        refine sw_iconst (n := 139) F (0) (by decide) dJ35_divideLongMagnitude_138 rfl ?_
        refine sw_put (n := 142) F 0 rfl (k := 2) ⟨(RJ35, TJ35, 3), rfl, by decide, q1838, in_J35, Or.inl rfl⟩ .int ⟨(RJ35, TJ35, 3), rfl, rfl, tyJ35_ok 2 (by decide), nmJ35, tyJ35, tyJ35_ok⟩ rfl rfl (Nat.le_of_ble_eq_true rfl) rfl [ob (xg x) q_1 19 [.ref a3, .int (jI (↑m3)), .int (jI 0)], aN (xg x) 0 a3 (n + 1) f3, ob (xg x) q 19 [.ref a, .int (jI (↑n)), .int (jI 0)], pl (xg x) M, ob (xg x) q2 19 [.ref aq, .int (jI (↑(n - 1))), .int (jI 0)], aN (xg x) 0 aq (n - 1) fq0] rfl dJ35_divideLongMagnitude_139 rfl ?_
        refine sw_aload (n := 144) F 3 (some q_1) rfl rfl dJ35_divideLongMagnitude_142 rfl ?_
        refine sw_get (n := 147) F 0 rfl (k := 0) ⟨(RJ35, TJ35, 3), rfl, by decide, q1836, in_J35, Or.inl rfl⟩ rfl dJ35_divideLongMagnitude_144 rfl ?_
        refine sw_iconst (n := 148) F (0) (by decide) dJ35_divideLongMagnitude_147 rfl ?_
        refine sw_iconst (n := 149) F (0) (by decide) dJ35_divideLongMagnitude_148 rfl ?_
        refine sw_iastoreW (n := 150) F 1 rfl (fun _ => rfl) 0 rfl (by omega) 0 (by first | omega | rfl) [ob (xg x) q_1 19 [.ref a3, .int (jI (↑m3)), .int (jI 0)], aN (xg x) 0 a3 (n + 1) (va_up f3 0 0), ob (xg x) q 19 [.ref a, .int (jI (↑n)), .int (jI 0)], pl (xg x) M, ob (xg x) q2 19 [.ref aq, .int (jI (↑(n - 1))), .int (jI 0)], aN (xg x) 0 aq (n - 1) fq0] (by rfl) dJ35_divideLongMagnitude_149 rfl ?_
        refine sw_aload (n := 152) F 3 (some q_1) rfl rfl dJ35_divideLongMagnitude_150 rfl ?_
        refine sw_dup (n := 153) F rfl dJ35_divideLongMagnitude_152 rfl ?_
        refine sw_get (n := 156) F 0 rfl (k := 1) ⟨(RJ35, TJ35, 3), rfl, by decide, q1837, in_J35, Or.inl rfl⟩ rfl dJ35_divideLongMagnitude_153 rfl ?_
        refine sw_iconst (n := 157) F (1) (by decide) dJ35_divideLongMagnitude_156 rfl ?_
        refine sw_iadd (n := 158) F dJ35_divideLongMagnitude_157 rfl ?_
        refine sw_top (topI (show ((↑m3) + 1 : Int) = ↑(n + 1) by omega)) ?_
        refine sw_put (n := 161) F 0 rfl (k := 1) ⟨(RJ35, TJ35, 3), rfl, by decide, q1837, in_J35, Or.inl rfl⟩ .int ⟨(RJ35, TJ35, 3), rfl, rfl, tyJ35_ok 1 (by decide), nmJ35, tyJ35, tyJ35_ok⟩ rfl rfl (Nat.le_of_ble_eq_true rfl) rfl [ob (xg x) q_1 19 [.ref a3, .int (jI (↑(n + 1))), .int (jI 0)], aN (xg x) 0 a3 (n + 1) (va_up f3 0 0), ob (xg x) q 19 [.ref a, .int (jI (↑n)), .int (jI 0)], pl (xg x) M, ob (xg x) q2 19 [.ref aq, .int (jI (↑(n - 1))), .int (jI 0)], aN (xg x) 0 aq (n - 1) fq0] rfl dJ35_divideLongMagnitude_158 rfl ?_
        have e3 : m3 = n := by omega
        have e4 : o3 = 1 := by omega
        have hE4 : wv (va_up f3 0 0) (n + 1) = wv f n * 2 ^ s := by rw [mw_up0 (v := 0), ← hv3, e3, e4]
        have hE5 := up_lt hf3 (show 0 < 4294967296 by decide) (j := 0)
        exact K161 a3 (va_up f3 0 0) (by exact hE5) (by exact hE4)
    refine sw_if_le (n := 114) F (by omega) (tgt := 126) dJ35_divideLongMagnitude_111 (by decide) rfl (fun c_111 => ?_) (fun c_111 => ?_)
    ·
      have hs0 : s = 0 := by omega
      have hDd : D = d := by rw [hD, hs0, Nat.pow_zero, Nat.mul_one]
      refine SW.cast (L' := [(8, .int (jI (↑s))), (7, .ref aq), (0, .ref q), (1, .long (jL (↑D))), (3, .ref q2), (4, .ref q_1), (5, .int (jI (↑n))), (6, .int (jI (↑(n - 1))))]) ?_ rfl (by rw [show Value.long (jL (↑d)) = Value.long (jL (↑D)) from topL (by rw [hDd])]) rfl
      have hE1 : (n = n ∧ 1 = 1) ∨ (n = n + 1 ∧ 1 = 0) := Or.inl ⟨rfl, rfl⟩
      have hE2 := cpy_lt (g := f) hw.1 (show 0 < 4294967296 by decide)
      have hE3 : mw (va_cpy f (fun _ => 0) 0 1 n) 1 n = wv f n * 2 ^ s := by rw [hs0, Nat.pow_zero, Nat.mul_one, cpy_1]
      refine sw_room (bc2 := 0) (bs2 := 0) ⟨by omega, by omega⟩ ?_
      refine sw_loc [2, 3, 4, 5, 6, 7, 1, 0] (L2 := [(0, .ref q), (1, .long (jL (↑D))), (3, .ref q2), (4, .ref q_1), (5, .int (jI (↑n))), (6, .int (jI (↑(n - 1)))), (7, .ref aq), (8, .int (jI (↑s)))]) rfl ?_
      exact K126 q_2 (va_cpy f (fun _ => 0) 0 1 n) n 1 (by exact hE1) (by first | exact hE2 | exact hf5) (by first | exact hE3 | (rw [← hv5]; assumption))
    ·
      refine sw_lload_n (n := 115) F 3 rfl rfl dJ35_divideLongMagnitude_114 rfl ?_
      refine sw_iload (n := 117) F 0 rfl dJ35_divideLongMagnitude_115 rfl ?_
      refine sw_lshl (n := 118) F (jL ((↑d) * ((2 ^ s : Nat) : Int))) (by have h7s := jL_shl (↑d) (c := ↑s) (k := s) (by omega) (by omega); exact h7s) dJ35_divideLongMagnitude_117 rfl ?_
      refine sw_top (topL (show ((↑d) * ((2 ^ s : Nat) : Int) : Int) = ↑D by rw [hD, Int.natCast_mul])) ?_
      refine sw_lstore_n (n := 119) F (L2 := [(1, .long (jL (↑D))), (8, .int (jI (↑s))), (7, .ref aq), (0, .ref q), (3, .ref q2), (4, .ref q_1), (5, .int (jI (↑n))), (6, .int (jI (↑(n - 1))))]) rfl (by decide) rfl dJ35_divideLongMagnitude_118 rfl ?_
      refine sw_aload (n := 121) F 5 (some q_1) rfl rfl dJ35_divideLongMagnitude_119 rfl ?_
      refine sw_iload (n := 123) F 1 rfl dJ35_divideLongMagnitude_121 rfl ?_
      refine sw_callV (n := 126) F (ct_J35_leftShift (g := xg x) (l := xl x) q_1 q_2 ((n) + 1) (va_cpy f (fun _ => 0) 0 1 n) n 1 s (by first | omega | assumption) (by exact cpy_lt (g := f) hw.1 (by decide)) (by first | omega | assumption) (by first | omega | assumption) (by unfold va_cpy; rw [if_pos (by omega)]; exact hf0)) (rcv_ob F 0 rfl rfl) q1882 q1883 q1884 q144 q1885 nd_J35_leftShift rfl (by decide) [0, 1, 2, 3, 4, 5] (perm_ok _ 6 (by decide +kernel) rfl) [ob (xg x) q 19 [.ref a, .int (jI (↑n)), .int (jI 0)], pl (xg x) M, ob (xg x) q2 19 [.ref aq, .int (jI (↑(n - 1))), .int (jI 0)], aN (xg x) 0 aq (n - 1) fq0] rfl 0 0 ⟨by omega, by omega⟩ [] rfl (Nat.le_of_ble_eq_true rfl) dJ35_divideLongMagnitude_123 rfl (fun _ _ h => h.elim) (fun v Ws h => ?_)
      obtain ⟨a1_27, N1_28, f1_29, m1_30, o1_31, rfl, hN1_32, hf1_33, hv1_34, hm1_35, hl1_36, rfl⟩ := h
      show SW x [ob (xg x) q_1 19 [.ref a1_27, .int (jI (↑m1_30)), .int (jI (↑o1_31))], aN (xg x) 0 a1_27 N1_28 f1_29, ob (xg x) q 19 [.ref a, .int (jI (↑n)), .int (jI 0)], pl (xg x) M, ob (xg x) q2 19 [.ref aq, .int (jI (↑(n - 1))), .int (jI 0)], aN (xg x) 0 aq (n - 1) fq0] _ _ _ _ []
      obtain ⟨e1, e2⟩ := hm1_35 ⟨rfl, rfl, by omega⟩
      subst e1
      have hE1 := e2
      have hE2 := hf1_33
      have hE3 : mw f1_29 o1_31 m1_30 = wv f n * 2 ^ s := by rw [hv1_34, cpy_1]
      skip
      refine sw_loc [3, 0, 4, 5, 6, 7, 2, 1] (L2 := [(0, .ref q), (1, .long (jL (↑D))), (3, .ref q2), (4, .ref q_1), (5, .int (jI (↑n))), (6, .int (jI (↑(n - 1)))), (7, .ref aq), (8, .int (jI (↑s)))]) rfl ?_
      exact K126 a1_27 f1_29 m1_30 o1_31 (by exact hE1) (by first | exact hE2 | exact hf5) (by first | exact hE3 | (rw [← hv5]; assumption))
  refine sw_icmp_ge (n := 78) F (by decide) (by omega) (tgt := 91) dJ35_divideLongMagnitude_75 (by decide) rfl (fun c_75 => ?_) (fun c_75 => ?_)
  ·
    refine SW.cast (Ps' := [ob (xg x) q_1 19 [.ref q_2, .int (jI (↑n)), .int (jI 1)], aN (xg x) 0 q_2 ((n) + 1) (va_cpy f (fun _ => 0) 0 1 n), ob (xg x) q 19 [.ref a, .int (jI (↑n)), .int (jI 0)], pl (xg x) M, ob (xg x) q2 19 [.ref a2, .int (jI 0), .int (jI 0)], aN (xg x) 0 a2 (n - 1) fz]) ?_ (by rw [show n - 1 = 1 by omega]) rfl rfl
    have hE0 : ∀ k, k < n - 1 → fz k = 0 := fun k hk => by rw [show k = 0 by omega]; exact hz
    refine sw_room (bc2 := 1) (bs2 := 11) ⟨by omega, by omega⟩ ?_
    refine sw_loc [3, 4, 5, 2, 1, 0] (L2 := [(0, .ref q), (1, .long (jL (↑d))), (3, .ref q2), (4, .ref q_1), (5, .int (jI (↑n))), (6, .int (jI (↑(n - 1))))]) rfl ?_
    exact K91 a2 fz (by exact hE0)
  ·
    refine sw_aload_n (n := 79) F 5 (some q2) rfl rfl rfl dJ35_divideLongMagnitude_78 rfl ?_
    refine sw_iload (n := 81) F 0 rfl dJ35_divideLongMagnitude_79 rfl ?_
    refine sw_newaN (n := 83) F (n - 1) (by first | omega | rfl) (by omega) 1 11 ⟨by omega, by omega⟩ dJ35_divideLongMagnitude_81 rfl (fun q_37 => ?_)
    refine sw_put (n := 86) F 5 rfl (k := 0) ⟨(RJ35, TJ35, 3), rfl, by decide, q1836, in_J35, Or.inl rfl⟩ (tyJ35 0) ⟨(RJ35, TJ35, 3), rfl, rfl, tyJ35_ok 0 (by decide), nmJ35, tyJ35, tyJ35_ok⟩ rfl rfl (Nat.le_of_ble_eq_true rfl) rfl [aN (xg x) 0 q_37 (n - 1) (fun _ => 0), ob (xg x) q_1 19 [.ref q_2, .int (jI (↑n)), .int (jI 1)], aN (xg x) 0 q_2 ((n) + 1) (va_cpy f (fun _ => 0) 0 1 n), ob (xg x) q 19 [.ref a, .int (jI (↑n)), .int (jI 0)], pl (xg x) M, ob (xg x) q2 19 [.ref q_37, .int (jI 0), .int (jI 0)], aN (xg x) 0 a2 1 fz] rfl dJ35_divideLongMagnitude_83 rfl ?_
    refine sw_aload_n (n := 87) F 5 (some q2) rfl rfl rfl dJ35_divideLongMagnitude_86 rfl ?_
    refine sw_iconst (n := 88) F (0) (by decide) dJ35_divideLongMagnitude_87 rfl ?_
    refine sw_put (n := 91) F 5 rfl (k := 2) ⟨(RJ35, TJ35, 3), rfl, by decide, q1838, in_J35, Or.inl rfl⟩ .int ⟨(RJ35, TJ35, 3), rfl, rfl, tyJ35_ok 2 (by decide), nmJ35, tyJ35, tyJ35_ok⟩ rfl rfl (Nat.le_of_ble_eq_true rfl) rfl [aN (xg x) 0 q_37 (n - 1) (fun _ => 0), ob (xg x) q_1 19 [.ref q_2, .int (jI (↑n)), .int (jI 1)], aN (xg x) 0 q_2 ((n) + 1) (va_cpy f (fun _ => 0) 0 1 n), ob (xg x) q 19 [.ref a, .int (jI (↑n)), .int (jI 0)], pl (xg x) M, ob (xg x) q2 19 [.ref q_37, .int (jI 0), .int (jI 0)], aN (xg x) 0 a2 1 fz] rfl dJ35_divideLongMagnitude_88 rfl ?_
    have hE0 : ∀ k, k < n - 1 → (fun _ : Nat => 0) k = 0 := fun k _ => rfl
    refine sw_drop [1, 2, 3, 4, 5, 0, 6] 6 (perm_ok _ 7 (by decide +kernel) rfl) [ob (xg x) q_1 19 [.ref q_2, .int (jI (↑n)), .int (jI 1)], aN (xg x) 0 q_2 ((n) + 1) (va_cpy f (fun _ => 0) 0 1 n), ob (xg x) q 19 [.ref a, .int (jI (↑n)), .int (jI 0)], pl (xg x) M, ob (xg x) q2 19 [.ref q_37, .int (jI 0), .int (jI 0)], aN (xg x) 0 q_37 (n - 1) (fun _ => 0)] rfl ?_
    refine sw_loc [3, 4, 5, 2, 1, 0] (L2 := [(0, .ref q), (1, .long (jL (↑d))), (3, .ref q2), (4, .ref q_1), (5, .int (jI (↑n))), (6, .int (jI (↑(n - 1))))]) rfl ?_
    exact K91 q_37 (fun _ => 0) (by exact hE0)
