set_option maxRecDepth 100000
def dkwJ8_compareTo_4 : List UInt8 := [3, 172, 42, 43, 182, 1, 180, 54, 4, 28, 158, 0, 8, 21, 4, 167, 0, 6, 21, 4, 116, 172]
abbrev dktJ8_compareTo_4 : List UInt8 := dkwJ8_compareTo_4 ++ []
def dkwJ8_compareTo_3 : List UInt8 := [182, 1, 14, 62, 28, 29, 159, 0, 14, 28, 29, 164, 0, 7, 4, 167, 0, 4, 2, 172, 28, 154, 0, 5]
abbrev dktJ8_compareTo_3 : List UInt8 := dkwJ8_compareTo_3 ++ dktJ8_compareTo_4
def dkwJ8_compareTo_2 : List UInt8 := [22, 4, 148, 158, 0, 7, 4, 167, 0, 8, 2, 167, 0, 4, 3, 172, 42, 182, 1, 14, 61, 43]
abbrev dktJ8_compareTo_2 : List UInt8 := dkwJ8_compareTo_2 ++ dktJ8_compareTo_3
def dkwJ8_compareTo_1 : List UInt8 := [20, 0, 125, 148, 153, 0, 36, 22, 4, 20, 0, 125, 148, 153, 0, 27, 32, 22, 4, 148, 153, 0, 18, 32]
abbrev dktJ8_compareTo_1 : List UInt8 := dkwJ8_compareTo_1 ++ dktJ8_compareTo_2
def dkwJ8_compareTo_0 : List UInt8 := [42, 180, 0, 17, 43, 180, 0, 17, 160, 0, 55, 42, 180, 0, 24, 65, 43, 180, 0, 24, 55, 4, 32]
abbrev dktJ8_compareTo_0 : List UInt8 := dkwJ8_compareTo_0 ++ dktJ8_compareTo_1
theorem dksJ8_compareTo_0 : cJ8_compareTo.data.toList.drop 0 = dktJ8_compareTo_0 := by decide +kernel
theorem dksJ8_compareTo_1 : cJ8_compareTo.data.toList.drop 23 = dktJ8_compareTo_1 := dk_seg dksJ8_compareTo_0 23 rfl rfl
theorem dksJ8_compareTo_2 : cJ8_compareTo.data.toList.drop 47 = dktJ8_compareTo_2 := dk_seg dksJ8_compareTo_1 24 rfl rfl
theorem dksJ8_compareTo_3 : cJ8_compareTo.data.toList.drop 69 = dktJ8_compareTo_3 := dk_seg dksJ8_compareTo_2 22 rfl rfl
theorem dksJ8_compareTo_4 : cJ8_compareTo.data.toList.drop 93 = dktJ8_compareTo_4 := dk_seg dksJ8_compareTo_3 24 rfl rfl
theorem dJ8_compareTo_0 : decode cJ8_compareTo 0 = .ok (.aload_n 0, 1) := dk_42 (dk_at dksJ8_compareTo_0 0 rfl rfl)
theorem dJ8_compareTo_1 : decode cJ8_compareTo 1 = .ok (.getfield 17, 3) := dk_180 0 17 (dk_at dksJ8_compareTo_0 1 rfl rfl)
theorem dJ8_compareTo_4 : decode cJ8_compareTo 4 = .ok (.aload_n 1, 1) := dk_43 (dk_at dksJ8_compareTo_0 4 rfl rfl)
theorem dJ8_compareTo_5 : decode cJ8_compareTo 5 = .ok (.getfield 17, 3) := dk_180 0 17 (dk_at dksJ8_compareTo_0 5 rfl rfl)
theorem dJ8_compareTo_8 : decode cJ8_compareTo 8 = .ok (.if_icmp .ne 55, 3) := dk_160 0 55 (dk_at dksJ8_compareTo_0 8 rfl rfl)
theorem dJ8_compareTo_11 : decode cJ8_compareTo 11 = .ok (.aload_n 0, 1) := dk_42 (dk_at dksJ8_compareTo_0 11 rfl rfl)
theorem dJ8_compareTo_12 : decode cJ8_compareTo 12 = .ok (.getfield 24, 3) := dk_180 0 24 (dk_at dksJ8_compareTo_0 12 rfl rfl)
theorem dJ8_compareTo_15 : decode cJ8_compareTo 15 = .ok (.lstore_n 2, 1) := dk_65 (dk_at dksJ8_compareTo_0 15 rfl rfl)
theorem dJ8_compareTo_16 : decode cJ8_compareTo 16 = .ok (.aload_n 1, 1) := dk_43 (dk_at dksJ8_compareTo_0 16 rfl rfl)
theorem dJ8_compareTo_17 : decode cJ8_compareTo 17 = .ok (.getfield 24, 3) := dk_180 0 24 (dk_at dksJ8_compareTo_0 17 rfl rfl)
theorem dJ8_compareTo_20 : decode cJ8_compareTo 20 = .ok (.lstore 4, 2) := dk_55 4 (dk_at dksJ8_compareTo_0 20 rfl rfl)
theorem dJ8_compareTo_22 : decode cJ8_compareTo 22 = .ok (.lload_n 2, 1) := dk_32 (dk_at dksJ8_compareTo_0 22 rfl rfl)
theorem dJ8_compareTo_23 : decode cJ8_compareTo 23 = .ok (.ldc2_w 125, 3) := dk_20 0 125 (dk_at dksJ8_compareTo_1 0 rfl rfl)
theorem dJ8_compareTo_26 : decode cJ8_compareTo 26 = .ok (.lcmp, 1) := dk_148 (dk_at dksJ8_compareTo_1 3 rfl rfl)
theorem dJ8_compareTo_27 : decode cJ8_compareTo 27 = .ok (.ifCond .eq 36, 3) := dk_153 0 36 (dk_at dksJ8_compareTo_1 4 rfl rfl)
theorem dJ8_compareTo_30 : decode cJ8_compareTo 30 = .ok (.lload 4, 2) := dk_22 4 (dk_at dksJ8_compareTo_1 7 rfl rfl)
theorem dJ8_compareTo_32 : decode cJ8_compareTo 32 = .ok (.ldc2_w 125, 3) := dk_20 0 125 (dk_at dksJ8_compareTo_1 9 rfl rfl)
theorem dJ8_compareTo_35 : decode cJ8_compareTo 35 = .ok (.lcmp, 1) := dk_148 (dk_at dksJ8_compareTo_1 12 rfl rfl)
theorem dJ8_compareTo_36 : decode cJ8_compareTo 36 = .ok (.ifCond .eq 27, 3) := dk_153 0 27 (dk_at dksJ8_compareTo_1 13 rfl rfl)
theorem dJ8_compareTo_39 : decode cJ8_compareTo 39 = .ok (.lload_n 2, 1) := dk_32 (dk_at dksJ8_compareTo_1 16 rfl rfl)
theorem dJ8_compareTo_40 : decode cJ8_compareTo 40 = .ok (.lload 4, 2) := dk_22 4 (dk_at dksJ8_compareTo_1 17 rfl rfl)
theorem dJ8_compareTo_42 : decode cJ8_compareTo 42 = .ok (.lcmp, 1) := dk_148 (dk_at dksJ8_compareTo_1 19 rfl rfl)
theorem dJ8_compareTo_43 : decode cJ8_compareTo 43 = .ok (.ifCond .eq 18, 3) := dk_153 0 18 (dk_at dksJ8_compareTo_1 20 rfl rfl)
theorem dJ8_compareTo_46 : decode cJ8_compareTo 46 = .ok (.lload_n 2, 1) := dk_32 (dk_at dksJ8_compareTo_1 23 rfl rfl)
theorem dJ8_compareTo_47 : decode cJ8_compareTo 47 = .ok (.lload 4, 2) := dk_22 4 (dk_at dksJ8_compareTo_2 0 rfl rfl)
theorem dJ8_compareTo_49 : decode cJ8_compareTo 49 = .ok (.lcmp, 1) := dk_148 (dk_at dksJ8_compareTo_2 2 rfl rfl)
theorem dJ8_compareTo_50 : decode cJ8_compareTo 50 = .ok (.ifCond .le 7, 3) := dk_158 0 7 (dk_at dksJ8_compareTo_2 3 rfl rfl)
theorem dJ8_compareTo_53 : decode cJ8_compareTo 53 = .ok (.iconst 1, 1) := dk_4 (dk_at dksJ8_compareTo_2 6 rfl rfl)
theorem dJ8_compareTo_54 : decode cJ8_compareTo 54 = .ok (.goto 8, 3) := dk_167 0 8 (dk_at dksJ8_compareTo_2 7 rfl rfl)
theorem dJ8_compareTo_57 : decode cJ8_compareTo 57 = .ok (.iconst (-1), 1) := dk_2 (dk_at dksJ8_compareTo_2 10 rfl rfl)
theorem dJ8_compareTo_58 : decode cJ8_compareTo 58 = .ok (.goto 4, 3) := dk_167 0 4 (dk_at dksJ8_compareTo_2 11 rfl rfl)
theorem dJ8_compareTo_61 : decode cJ8_compareTo 61 = .ok (.iconst 0, 1) := dk_3 (dk_at dksJ8_compareTo_2 14 rfl rfl)
theorem dJ8_compareTo_62 : decode cJ8_compareTo 62 = .ok (.ireturn, 1) := dk_172 (dk_at dksJ8_compareTo_2 15 rfl rfl)
theorem dJ8_compareTo_63 : decode cJ8_compareTo 63 = .ok (.aload_n 0, 1) := dk_42 (dk_at dksJ8_compareTo_2 16 rfl rfl)
theorem dJ8_compareTo_64 : decode cJ8_compareTo 64 = .ok (.invokevirtual 270, 3) := dk_182 1 14 (dk_at dksJ8_compareTo_2 17 rfl rfl)
theorem dJ8_compareTo_67 : decode cJ8_compareTo 67 = .ok (.istore_n 2, 1) := dk_61 (dk_at dksJ8_compareTo_2 20 rfl rfl)
theorem dJ8_compareTo_68 : decode cJ8_compareTo 68 = .ok (.aload_n 1, 1) := dk_43 (dk_at dksJ8_compareTo_2 21 rfl rfl)
theorem dJ8_compareTo_69 : decode cJ8_compareTo 69 = .ok (.invokevirtual 270, 3) := dk_182 1 14 (dk_at dksJ8_compareTo_3 0 rfl rfl)
theorem dJ8_compareTo_72 : decode cJ8_compareTo 72 = .ok (.istore_n 3, 1) := dk_62 (dk_at dksJ8_compareTo_3 3 rfl rfl)
theorem dJ8_compareTo_73 : decode cJ8_compareTo 73 = .ok (.iload_n 2, 1) := dk_28 (dk_at dksJ8_compareTo_3 4 rfl rfl)
theorem dJ8_compareTo_74 : decode cJ8_compareTo 74 = .ok (.iload_n 3, 1) := dk_29 (dk_at dksJ8_compareTo_3 5 rfl rfl)
theorem dJ8_compareTo_75 : decode cJ8_compareTo 75 = .ok (.if_icmp .eq 14, 3) := dk_159 0 14 (dk_at dksJ8_compareTo_3 6 rfl rfl)
theorem dJ8_compareTo_78 : decode cJ8_compareTo 78 = .ok (.iload_n 2, 1) := dk_28 (dk_at dksJ8_compareTo_3 9 rfl rfl)
theorem dJ8_compareTo_79 : decode cJ8_compareTo 79 = .ok (.iload_n 3, 1) := dk_29 (dk_at dksJ8_compareTo_3 10 rfl rfl)
theorem dJ8_compareTo_80 : decode cJ8_compareTo 80 = .ok (.if_icmp .le 7, 3) := dk_164 0 7 (dk_at dksJ8_compareTo_3 11 rfl rfl)
theorem dJ8_compareTo_83 : decode cJ8_compareTo 83 = .ok (.iconst 1, 1) := dk_4 (dk_at dksJ8_compareTo_3 14 rfl rfl)
theorem dJ8_compareTo_84 : decode cJ8_compareTo 84 = .ok (.goto 4, 3) := dk_167 0 4 (dk_at dksJ8_compareTo_3 15 rfl rfl)
theorem dJ8_compareTo_87 : decode cJ8_compareTo 87 = .ok (.iconst (-1), 1) := dk_2 (dk_at dksJ8_compareTo_3 18 rfl rfl)
theorem dJ8_compareTo_88 : decode cJ8_compareTo 88 = .ok (.ireturn, 1) := dk_172 (dk_at dksJ8_compareTo_3 19 rfl rfl)
theorem dJ8_compareTo_89 : decode cJ8_compareTo 89 = .ok (.iload_n 2, 1) := dk_28 (dk_at dksJ8_compareTo_3 20 rfl rfl)
theorem dJ8_compareTo_90 : decode cJ8_compareTo 90 = .ok (.ifCond .ne 5, 3) := dk_154 0 5 (dk_at dksJ8_compareTo_3 21 rfl rfl)
theorem dJ8_compareTo_93 : decode cJ8_compareTo 93 = .ok (.iconst 0, 1) := dk_3 (dk_at dksJ8_compareTo_4 0 rfl rfl)
theorem dJ8_compareTo_94 : decode cJ8_compareTo 94 = .ok (.ireturn, 1) := dk_172 (dk_at dksJ8_compareTo_4 1 rfl rfl)
theorem dJ8_compareTo_95 : decode cJ8_compareTo 95 = .ok (.aload_n 0, 1) := dk_42 (dk_at dksJ8_compareTo_4 2 rfl rfl)
theorem dJ8_compareTo_96 : decode cJ8_compareTo 96 = .ok (.aload_n 1, 1) := dk_43 (dk_at dksJ8_compareTo_4 3 rfl rfl)
theorem dJ8_compareTo_97 : decode cJ8_compareTo 97 = .ok (.invokevirtual 436, 3) := dk_182 1 180 (dk_at dksJ8_compareTo_4 4 rfl rfl)
theorem dJ8_compareTo_100 : decode cJ8_compareTo 100 = .ok (.istore 4, 2) := dk_54 4 (dk_at dksJ8_compareTo_4 7 rfl rfl)
theorem dJ8_compareTo_102 : decode cJ8_compareTo 102 = .ok (.iload_n 2, 1) := dk_28 (dk_at dksJ8_compareTo_4 9 rfl rfl)
theorem dJ8_compareTo_103 : decode cJ8_compareTo 103 = .ok (.ifCond .le 8, 3) := dk_158 0 8 (dk_at dksJ8_compareTo_4 10 rfl rfl)
theorem dJ8_compareTo_106 : decode cJ8_compareTo 106 = .ok (.iload 4, 2) := dk_21 4 (dk_at dksJ8_compareTo_4 13 rfl rfl)
theorem dJ8_compareTo_108 : decode cJ8_compareTo 108 = .ok (.goto 6, 3) := dk_167 0 6 (dk_at dksJ8_compareTo_4 15 rfl rfl)
theorem dJ8_compareTo_111 : decode cJ8_compareTo 111 = .ok (.iload 4, 2) := dk_21 4 (dk_at dksJ8_compareTo_4 18 rfl rfl)
theorem dJ8_compareTo_113 : decode cJ8_compareTo 113 = .ok (.ineg, 1) := dk_116 (dk_at dksJ8_compareTo_4 20 rfl rfl)
theorem dJ8_compareTo_114 : decode cJ8_compareTo 114 = .ok (.ireturn, 1) := dk_172 (dk_at dksJ8_compareTo_4 21 rfl rfl)
def dkwJ8_compareMagnitude_12 : List UInt8 := [182, 2, 118, 172]
abbrev dktJ8_compareMagnitude_12 : List UInt8 := dkwJ8_compareMagnitude_12 ++ []
def dkwJ8_compareMagnitude_11 : List UInt8 := [167, 0, 4, 2, 172, 32, 20, 0, 125, 148, 153, 0, 5, 4, 172, 42, 180, 0, 28, 43, 180, 0, 28]
abbrev dktJ8_compareMagnitude_11 : List UInt8 := dkwJ8_compareMagnitude_11 ++ dktJ8_compareMagnitude_12
def dkwJ8_compareMagnitude_10 : List UInt8 := [22, 4, 20, 0, 125, 148, 153, 0, 22, 32, 20, 0, 125, 148, 153, 0, 12, 22, 4, 32, 184, 2, 120]
abbrev dktJ8_compareMagnitude_10 : List UInt8 := dkwJ8_compareMagnitude_10 ++ dktJ8_compareMagnitude_11
def dkwJ8_compareMagnitude_9 : List UInt8 := [148, 154, 0, 22, 43, 22, 6, 136, 182, 2, 91, 58, 12, 42, 180, 0, 28, 25, 12, 182, 2, 118, 172]
abbrev dktJ8_compareMagnitude_9 : List UInt8 := dkwJ8_compareMagnitude_9 ++ dktJ8_compareMagnitude_10
def dkwJ8_compareMagnitude_8 : List UInt8 := [153, 0, 19, 32, 22, 6, 136, 184, 2, 87, 92, 65, 20, 0, 125, 148, 154, 0, 31, 22, 4, 20, 0, 125]
abbrev dktJ8_compareMagnitude_8 : List UInt8 := dkwJ8_compareMagnitude_8 ++ dktJ8_compareMagnitude_9
def dkwJ8_compareMagnitude_7 : List UInt8 := [43, 180, 0, 28, 182, 2, 118, 172, 22, 6, 20, 1, 148, 148, 157, 0, 55, 32, 20, 0, 125, 148]
abbrev dktJ8_compareMagnitude_7 : List UInt8 := dkwJ8_compareMagnitude_7 ++ dktJ8_compareMagnitude_8
def dkwJ8_compareMagnitude_6 : List UInt8 := [148, 154, 0, 92, 32, 20, 0, 125, 148, 154, 0, 84, 42, 22, 6, 117, 136, 182, 2, 91, 58, 12, 25, 12]
abbrev dktJ8_compareMagnitude_6 : List UInt8 := dkwJ8_compareMagnitude_6 ++ dktJ8_compareMagnitude_7
def dkwJ8_compareMagnitude_5 : List UInt8 := [22, 4, 20, 0, 125, 148, 153, 0, 22, 22, 4, 22, 6, 117, 136, 184, 2, 87, 92, 55, 4, 20, 0, 125]
abbrev dktJ8_compareMagnitude_5 : List UInt8 := dkwJ8_compareMagnitude_5 ++ dktJ8_compareMagnitude_6
def dkwJ8_compareMagnitude_4 : List UInt8 := [22, 10, 148, 158, 0, 5, 4, 172, 22, 6, 9, 148, 156, 0, 68, 22, 6, 20, 2, 116, 148, 158, 0, 120]
abbrev dktJ8_compareMagnitude_4 : List UInt8 := dkwJ8_compareMagnitude_4 ++ dktJ8_compareMagnitude_5
def dkwJ8_compareMagnitude_3 : List UInt8 := [182, 1, 33, 133, 43, 180, 0, 17, 133, 101, 55, 10, 22, 8, 22, 10, 148, 156, 0, 5, 2, 172, 22, 8]
abbrev dktJ8_compareMagnitude_3 : List UInt8 := dkwJ8_compareMagnitude_3 ++ dktJ8_compareMagnitude_4
def dkwJ8_compareMagnitude_2 : List UInt8 := [101, 55, 6, 22, 6, 9, 148, 153, 0, 182, 42, 182, 1, 33, 133, 42, 180, 0, 17, 133, 101, 55, 8, 43]
abbrev dktJ8_compareMagnitude_2 : List UInt8 := dkwJ8_compareMagnitude_2 ++ dktJ8_compareMagnitude_3
def dkwJ8_compareMagnitude_1 : List UInt8 := [3, 167, 0, 4, 2, 172, 32, 9, 148, 154, 0, 5, 4, 172, 42, 180, 0, 17, 133, 43, 180, 0, 17, 133]
abbrev dktJ8_compareMagnitude_1 : List UInt8 := dkwJ8_compareMagnitude_1 ++ dktJ8_compareMagnitude_2
def dkwJ8_compareMagnitude_0 : List UInt8 := [43, 180, 0, 24, 65, 42, 180, 0, 24, 55, 4, 22, 4, 9, 148, 154, 0, 15, 32, 9, 148, 154, 0, 7]
abbrev dktJ8_compareMagnitude_0 : List UInt8 := dkwJ8_compareMagnitude_0 ++ dktJ8_compareMagnitude_1
theorem dksJ8_compareMagnitude_0 : cJ8_compareMagnitude.data.toList.drop 0 = dktJ8_compareMagnitude_0 := by decide +kernel
theorem dksJ8_compareMagnitude_1 : cJ8_compareMagnitude.data.toList.drop 24 = dktJ8_compareMagnitude_1 := dk_seg dksJ8_compareMagnitude_0 24 rfl rfl
theorem dksJ8_compareMagnitude_2 : cJ8_compareMagnitude.data.toList.drop 48 = dktJ8_compareMagnitude_2 := dk_seg dksJ8_compareMagnitude_1 24 rfl rfl
theorem dksJ8_compareMagnitude_3 : cJ8_compareMagnitude.data.toList.drop 72 = dktJ8_compareMagnitude_3 := dk_seg dksJ8_compareMagnitude_2 24 rfl rfl
theorem dksJ8_compareMagnitude_4 : cJ8_compareMagnitude.data.toList.drop 96 = dktJ8_compareMagnitude_4 := dk_seg dksJ8_compareMagnitude_3 24 rfl rfl
theorem dksJ8_compareMagnitude_5 : cJ8_compareMagnitude.data.toList.drop 120 = dktJ8_compareMagnitude_5 := dk_seg dksJ8_compareMagnitude_4 24 rfl rfl
theorem dksJ8_compareMagnitude_6 : cJ8_compareMagnitude.data.toList.drop 144 = dktJ8_compareMagnitude_6 := dk_seg dksJ8_compareMagnitude_5 24 rfl rfl
theorem dksJ8_compareMagnitude_7 : cJ8_compareMagnitude.data.toList.drop 168 = dktJ8_compareMagnitude_7 := dk_seg dksJ8_compareMagnitude_6 24 rfl rfl
theorem dksJ8_compareMagnitude_8 : cJ8_compareMagnitude.data.toList.drop 190 = dktJ8_compareMagnitude_8 := dk_seg dksJ8_compareMagnitude_7 22 rfl rfl
theorem dksJ8_compareMagnitude_9 : cJ8_compareMagnitude.data.toList.drop 214 = dktJ8_compareMagnitude_9 := dk_seg dksJ8_compareMagnitude_8 24 rfl rfl
theorem dksJ8_compareMagnitude_10 : cJ8_compareMagnitude.data.toList.drop 237 = dktJ8_compareMagnitude_10 := dk_seg dksJ8_compareMagnitude_9 23 rfl rfl
theorem dksJ8_compareMagnitude_11 : cJ8_compareMagnitude.data.toList.drop 260 = dktJ8_compareMagnitude_11 := dk_seg dksJ8_compareMagnitude_10 23 rfl rfl
theorem dksJ8_compareMagnitude_12 : cJ8_compareMagnitude.data.toList.drop 283 = dktJ8_compareMagnitude_12 := dk_seg dksJ8_compareMagnitude_11 23 rfl rfl
theorem dJ8_compareMagnitude_0 : decode cJ8_compareMagnitude 0 = .ok (.aload_n 1, 1) := dk_43 (dk_at dksJ8_compareMagnitude_0 0 rfl rfl)
theorem dJ8_compareMagnitude_1 : decode cJ8_compareMagnitude 1 = .ok (.getfield 24, 3) := dk_180 0 24 (dk_at dksJ8_compareMagnitude_0 1 rfl rfl)
theorem dJ8_compareMagnitude_4 : decode cJ8_compareMagnitude 4 = .ok (.lstore_n 2, 1) := dk_65 (dk_at dksJ8_compareMagnitude_0 4 rfl rfl)
theorem dJ8_compareMagnitude_5 : decode cJ8_compareMagnitude 5 = .ok (.aload_n 0, 1) := dk_42 (dk_at dksJ8_compareMagnitude_0 5 rfl rfl)
theorem dJ8_compareMagnitude_6 : decode cJ8_compareMagnitude 6 = .ok (.getfield 24, 3) := dk_180 0 24 (dk_at dksJ8_compareMagnitude_0 6 rfl rfl)
theorem dJ8_compareMagnitude_9 : decode cJ8_compareMagnitude 9 = .ok (.lstore 4, 2) := dk_55 4 (dk_at dksJ8_compareMagnitude_0 9 rfl rfl)
theorem dJ8_compareMagnitude_11 : decode cJ8_compareMagnitude 11 = .ok (.lload 4, 2) := dk_22 4 (dk_at dksJ8_compareMagnitude_0 11 rfl rfl)
theorem dJ8_compareMagnitude_13 : decode cJ8_compareMagnitude 13 = .ok (.lconst 0, 1) := dk_9 (dk_at dksJ8_compareMagnitude_0 13 rfl rfl)
theorem dJ8_compareMagnitude_14 : decode cJ8_compareMagnitude 14 = .ok (.lcmp, 1) := dk_148 (dk_at dksJ8_compareMagnitude_0 14 rfl rfl)
theorem dJ8_compareMagnitude_15 : decode cJ8_compareMagnitude 15 = .ok (.ifCond .ne 15, 3) := dk_154 0 15 (dk_at dksJ8_compareMagnitude_0 15 rfl rfl)
theorem dJ8_compareMagnitude_18 : decode cJ8_compareMagnitude 18 = .ok (.lload_n 2, 1) := dk_32 (dk_at dksJ8_compareMagnitude_0 18 rfl rfl)
theorem dJ8_compareMagnitude_19 : decode cJ8_compareMagnitude 19 = .ok (.lconst 0, 1) := dk_9 (dk_at dksJ8_compareMagnitude_0 19 rfl rfl)
theorem dJ8_compareMagnitude_20 : decode cJ8_compareMagnitude 20 = .ok (.lcmp, 1) := dk_148 (dk_at dksJ8_compareMagnitude_0 20 rfl rfl)
theorem dJ8_compareMagnitude_21 : decode cJ8_compareMagnitude 21 = .ok (.ifCond .ne 7, 3) := dk_154 0 7 (dk_at dksJ8_compareMagnitude_0 21 rfl rfl)
theorem dJ8_compareMagnitude_24 : decode cJ8_compareMagnitude 24 = .ok (.iconst 0, 1) := dk_3 (dk_at dksJ8_compareMagnitude_1 0 rfl rfl)
theorem dJ8_compareMagnitude_25 : decode cJ8_compareMagnitude 25 = .ok (.goto 4, 3) := dk_167 0 4 (dk_at dksJ8_compareMagnitude_1 1 rfl rfl)
theorem dJ8_compareMagnitude_28 : decode cJ8_compareMagnitude 28 = .ok (.iconst (-1), 1) := dk_2 (dk_at dksJ8_compareMagnitude_1 4 rfl rfl)
theorem dJ8_compareMagnitude_29 : decode cJ8_compareMagnitude 29 = .ok (.ireturn, 1) := dk_172 (dk_at dksJ8_compareMagnitude_1 5 rfl rfl)
theorem dJ8_compareMagnitude_30 : decode cJ8_compareMagnitude 30 = .ok (.lload_n 2, 1) := dk_32 (dk_at dksJ8_compareMagnitude_1 6 rfl rfl)
theorem dJ8_compareMagnitude_31 : decode cJ8_compareMagnitude 31 = .ok (.lconst 0, 1) := dk_9 (dk_at dksJ8_compareMagnitude_1 7 rfl rfl)
theorem dJ8_compareMagnitude_32 : decode cJ8_compareMagnitude 32 = .ok (.lcmp, 1) := dk_148 (dk_at dksJ8_compareMagnitude_1 8 rfl rfl)
theorem dJ8_compareMagnitude_33 : decode cJ8_compareMagnitude 33 = .ok (.ifCond .ne 5, 3) := dk_154 0 5 (dk_at dksJ8_compareMagnitude_1 9 rfl rfl)
theorem dJ8_compareMagnitude_36 : decode cJ8_compareMagnitude 36 = .ok (.iconst 1, 1) := dk_4 (dk_at dksJ8_compareMagnitude_1 12 rfl rfl)
theorem dJ8_compareMagnitude_37 : decode cJ8_compareMagnitude 37 = .ok (.ireturn, 1) := dk_172 (dk_at dksJ8_compareMagnitude_1 13 rfl rfl)
theorem dJ8_compareMagnitude_38 : decode cJ8_compareMagnitude 38 = .ok (.aload_n 0, 1) := dk_42 (dk_at dksJ8_compareMagnitude_1 14 rfl rfl)
theorem dJ8_compareMagnitude_39 : decode cJ8_compareMagnitude 39 = .ok (.getfield 17, 3) := dk_180 0 17 (dk_at dksJ8_compareMagnitude_1 15 rfl rfl)
theorem dJ8_compareMagnitude_42 : decode cJ8_compareMagnitude 42 = .ok (.i2l, 1) := dk_133 (dk_at dksJ8_compareMagnitude_1 18 rfl rfl)
theorem dJ8_compareMagnitude_43 : decode cJ8_compareMagnitude 43 = .ok (.aload_n 1, 1) := dk_43 (dk_at dksJ8_compareMagnitude_1 19 rfl rfl)
theorem dJ8_compareMagnitude_44 : decode cJ8_compareMagnitude 44 = .ok (.getfield 17, 3) := dk_180 0 17 (dk_at dksJ8_compareMagnitude_1 20 rfl rfl)
theorem dJ8_compareMagnitude_47 : decode cJ8_compareMagnitude 47 = .ok (.i2l, 1) := dk_133 (dk_at dksJ8_compareMagnitude_1 23 rfl rfl)
theorem dJ8_compareMagnitude_48 : decode cJ8_compareMagnitude 48 = .ok (.lsub, 1) := dk_101 (dk_at dksJ8_compareMagnitude_2 0 rfl rfl)
theorem dJ8_compareMagnitude_49 : decode cJ8_compareMagnitude 49 = .ok (.lstore 6, 2) := dk_55 6 (dk_at dksJ8_compareMagnitude_2 1 rfl rfl)
theorem dJ8_compareMagnitude_51 : decode cJ8_compareMagnitude 51 = .ok (.lload 6, 2) := dk_22 6 (dk_at dksJ8_compareMagnitude_2 3 rfl rfl)
theorem dJ8_compareMagnitude_53 : decode cJ8_compareMagnitude 53 = .ok (.lconst 0, 1) := dk_9 (dk_at dksJ8_compareMagnitude_2 5 rfl rfl)
theorem dJ8_compareMagnitude_54 : decode cJ8_compareMagnitude 54 = .ok (.lcmp, 1) := dk_148 (dk_at dksJ8_compareMagnitude_2 6 rfl rfl)
theorem dJ8_compareMagnitude_55 : decode cJ8_compareMagnitude 55 = .ok (.ifCond .eq 182, 3) := dk_153 0 182 (dk_at dksJ8_compareMagnitude_2 7 rfl rfl)
theorem dJ8_compareMagnitude_58 : decode cJ8_compareMagnitude 58 = .ok (.aload_n 0, 1) := dk_42 (dk_at dksJ8_compareMagnitude_2 10 rfl rfl)
theorem dJ8_compareMagnitude_59 : decode cJ8_compareMagnitude 59 = .ok (.invokevirtual 289, 3) := dk_182 1 33 (dk_at dksJ8_compareMagnitude_2 11 rfl rfl)
theorem dJ8_compareMagnitude_62 : decode cJ8_compareMagnitude 62 = .ok (.i2l, 1) := dk_133 (dk_at dksJ8_compareMagnitude_2 14 rfl rfl)
theorem dJ8_compareMagnitude_63 : decode cJ8_compareMagnitude 63 = .ok (.aload_n 0, 1) := dk_42 (dk_at dksJ8_compareMagnitude_2 15 rfl rfl)
theorem dJ8_compareMagnitude_64 : decode cJ8_compareMagnitude 64 = .ok (.getfield 17, 3) := dk_180 0 17 (dk_at dksJ8_compareMagnitude_2 16 rfl rfl)
theorem dJ8_compareMagnitude_67 : decode cJ8_compareMagnitude 67 = .ok (.i2l, 1) := dk_133 (dk_at dksJ8_compareMagnitude_2 19 rfl rfl)
theorem dJ8_compareMagnitude_68 : decode cJ8_compareMagnitude 68 = .ok (.lsub, 1) := dk_101 (dk_at dksJ8_compareMagnitude_2 20 rfl rfl)
theorem dJ8_compareMagnitude_69 : decode cJ8_compareMagnitude 69 = .ok (.lstore 8, 2) := dk_55 8 (dk_at dksJ8_compareMagnitude_2 21 rfl rfl)
theorem dJ8_compareMagnitude_71 : decode cJ8_compareMagnitude 71 = .ok (.aload_n 1, 1) := dk_43 (dk_at dksJ8_compareMagnitude_2 23 rfl rfl)
theorem dJ8_compareMagnitude_72 : decode cJ8_compareMagnitude 72 = .ok (.invokevirtual 289, 3) := dk_182 1 33 (dk_at dksJ8_compareMagnitude_3 0 rfl rfl)
theorem dJ8_compareMagnitude_75 : decode cJ8_compareMagnitude 75 = .ok (.i2l, 1) := dk_133 (dk_at dksJ8_compareMagnitude_3 3 rfl rfl)
theorem dJ8_compareMagnitude_76 : decode cJ8_compareMagnitude 76 = .ok (.aload_n 1, 1) := dk_43 (dk_at dksJ8_compareMagnitude_3 4 rfl rfl)
theorem dJ8_compareMagnitude_77 : decode cJ8_compareMagnitude 77 = .ok (.getfield 17, 3) := dk_180 0 17 (dk_at dksJ8_compareMagnitude_3 5 rfl rfl)
theorem dJ8_compareMagnitude_80 : decode cJ8_compareMagnitude 80 = .ok (.i2l, 1) := dk_133 (dk_at dksJ8_compareMagnitude_3 8 rfl rfl)
theorem dJ8_compareMagnitude_81 : decode cJ8_compareMagnitude 81 = .ok (.lsub, 1) := dk_101 (dk_at dksJ8_compareMagnitude_3 9 rfl rfl)
theorem dJ8_compareMagnitude_82 : decode cJ8_compareMagnitude 82 = .ok (.lstore 10, 2) := dk_55 10 (dk_at dksJ8_compareMagnitude_3 10 rfl rfl)
theorem dJ8_compareMagnitude_84 : decode cJ8_compareMagnitude 84 = .ok (.lload 8, 2) := dk_22 8 (dk_at dksJ8_compareMagnitude_3 12 rfl rfl)
theorem dJ8_compareMagnitude_86 : decode cJ8_compareMagnitude 86 = .ok (.lload 10, 2) := dk_22 10 (dk_at dksJ8_compareMagnitude_3 14 rfl rfl)
theorem dJ8_compareMagnitude_88 : decode cJ8_compareMagnitude 88 = .ok (.lcmp, 1) := dk_148 (dk_at dksJ8_compareMagnitude_3 16 rfl rfl)
theorem dJ8_compareMagnitude_89 : decode cJ8_compareMagnitude 89 = .ok (.ifCond .ge 5, 3) := dk_156 0 5 (dk_at dksJ8_compareMagnitude_3 17 rfl rfl)
theorem dJ8_compareMagnitude_92 : decode cJ8_compareMagnitude 92 = .ok (.iconst (-1), 1) := dk_2 (dk_at dksJ8_compareMagnitude_3 20 rfl rfl)
theorem dJ8_compareMagnitude_93 : decode cJ8_compareMagnitude 93 = .ok (.ireturn, 1) := dk_172 (dk_at dksJ8_compareMagnitude_3 21 rfl rfl)
theorem dJ8_compareMagnitude_94 : decode cJ8_compareMagnitude 94 = .ok (.lload 8, 2) := dk_22 8 (dk_at dksJ8_compareMagnitude_3 22 rfl rfl)
theorem dJ8_compareMagnitude_96 : decode cJ8_compareMagnitude 96 = .ok (.lload 10, 2) := dk_22 10 (dk_at dksJ8_compareMagnitude_4 0 rfl rfl)
theorem dJ8_compareMagnitude_98 : decode cJ8_compareMagnitude 98 = .ok (.lcmp, 1) := dk_148 (dk_at dksJ8_compareMagnitude_4 2 rfl rfl)
theorem dJ8_compareMagnitude_99 : decode cJ8_compareMagnitude 99 = .ok (.ifCond .le 5, 3) := dk_158 0 5 (dk_at dksJ8_compareMagnitude_4 3 rfl rfl)
theorem dJ8_compareMagnitude_102 : decode cJ8_compareMagnitude 102 = .ok (.iconst 1, 1) := dk_4 (dk_at dksJ8_compareMagnitude_4 6 rfl rfl)
theorem dJ8_compareMagnitude_103 : decode cJ8_compareMagnitude 103 = .ok (.ireturn, 1) := dk_172 (dk_at dksJ8_compareMagnitude_4 7 rfl rfl)
theorem dJ8_compareMagnitude_104 : decode cJ8_compareMagnitude 104 = .ok (.lload 6, 2) := dk_22 6 (dk_at dksJ8_compareMagnitude_4 8 rfl rfl)
theorem dJ8_compareMagnitude_106 : decode cJ8_compareMagnitude 106 = .ok (.lconst 0, 1) := dk_9 (dk_at dksJ8_compareMagnitude_4 10 rfl rfl)
theorem dJ8_compareMagnitude_107 : decode cJ8_compareMagnitude 107 = .ok (.lcmp, 1) := dk_148 (dk_at dksJ8_compareMagnitude_4 11 rfl rfl)
theorem dJ8_compareMagnitude_108 : decode cJ8_compareMagnitude 108 = .ok (.ifCond .ge 68, 3) := dk_156 0 68 (dk_at dksJ8_compareMagnitude_4 12 rfl rfl)
theorem dJ8_compareMagnitude_111 : decode cJ8_compareMagnitude 111 = .ok (.lload 6, 2) := dk_22 6 (dk_at dksJ8_compareMagnitude_4 15 rfl rfl)
theorem dJ8_compareMagnitude_113 : decode cJ8_compareMagnitude 113 = .ok (.ldc2_w 628, 3) := dk_20 2 116 (dk_at dksJ8_compareMagnitude_4 17 rfl rfl)
theorem dJ8_compareMagnitude_116 : decode cJ8_compareMagnitude 116 = .ok (.lcmp, 1) := dk_148 (dk_at dksJ8_compareMagnitude_4 20 rfl rfl)
theorem dJ8_compareMagnitude_117 : decode cJ8_compareMagnitude 117 = .ok (.ifCond .le 120, 3) := dk_158 0 120 (dk_at dksJ8_compareMagnitude_4 21 rfl rfl)
theorem dJ8_compareMagnitude_120 : decode cJ8_compareMagnitude 120 = .ok (.lload 4, 2) := dk_22 4 (dk_at dksJ8_compareMagnitude_5 0 rfl rfl)
theorem dJ8_compareMagnitude_122 : decode cJ8_compareMagnitude 122 = .ok (.ldc2_w 125, 3) := dk_20 0 125 (dk_at dksJ8_compareMagnitude_5 2 rfl rfl)
theorem dJ8_compareMagnitude_125 : decode cJ8_compareMagnitude 125 = .ok (.lcmp, 1) := dk_148 (dk_at dksJ8_compareMagnitude_5 5 rfl rfl)
theorem dJ8_compareMagnitude_126 : decode cJ8_compareMagnitude 126 = .ok (.ifCond .eq 22, 3) := dk_153 0 22 (dk_at dksJ8_compareMagnitude_5 6 rfl rfl)
theorem dJ8_compareMagnitude_129 : decode cJ8_compareMagnitude 129 = .ok (.lload 4, 2) := dk_22 4 (dk_at dksJ8_compareMagnitude_5 9 rfl rfl)
theorem dJ8_compareMagnitude_131 : decode cJ8_compareMagnitude 131 = .ok (.lload 6, 2) := dk_22 6 (dk_at dksJ8_compareMagnitude_5 11 rfl rfl)
theorem dJ8_compareMagnitude_133 : decode cJ8_compareMagnitude 133 = .ok (.lneg, 1) := dk_117 (dk_at dksJ8_compareMagnitude_5 13 rfl rfl)
theorem dJ8_compareMagnitude_134 : decode cJ8_compareMagnitude 134 = .ok (.l2i, 1) := dk_136 (dk_at dksJ8_compareMagnitude_5 14 rfl rfl)
theorem dJ8_compareMagnitude_135 : decode cJ8_compareMagnitude 135 = .ok (.invokestatic 599, 3) := dk_184 2 87 (dk_at dksJ8_compareMagnitude_5 15 rfl rfl)
theorem dJ8_compareMagnitude_138 : decode cJ8_compareMagnitude 138 = .ok (.dup2, 1) := dk_92 (dk_at dksJ8_compareMagnitude_5 18 rfl rfl)
theorem dJ8_compareMagnitude_139 : decode cJ8_compareMagnitude 139 = .ok (.lstore 4, 2) := dk_55 4 (dk_at dksJ8_compareMagnitude_5 19 rfl rfl)
theorem dJ8_compareMagnitude_141 : decode cJ8_compareMagnitude 141 = .ok (.ldc2_w 125, 3) := dk_20 0 125 (dk_at dksJ8_compareMagnitude_5 21 rfl rfl)
theorem dJ8_compareMagnitude_144 : decode cJ8_compareMagnitude 144 = .ok (.lcmp, 1) := dk_148 (dk_at dksJ8_compareMagnitude_6 0 rfl rfl)
theorem dJ8_compareMagnitude_145 : decode cJ8_compareMagnitude 145 = .ok (.ifCond .ne 92, 3) := dk_154 0 92 (dk_at dksJ8_compareMagnitude_6 1 rfl rfl)
theorem dJ8_compareMagnitude_148 : decode cJ8_compareMagnitude 148 = .ok (.lload_n 2, 1) := dk_32 (dk_at dksJ8_compareMagnitude_6 4 rfl rfl)
theorem dJ8_compareMagnitude_149 : decode cJ8_compareMagnitude 149 = .ok (.ldc2_w 125, 3) := dk_20 0 125 (dk_at dksJ8_compareMagnitude_6 5 rfl rfl)
theorem dJ8_compareMagnitude_152 : decode cJ8_compareMagnitude 152 = .ok (.lcmp, 1) := dk_148 (dk_at dksJ8_compareMagnitude_6 8 rfl rfl)
theorem dJ8_compareMagnitude_153 : decode cJ8_compareMagnitude 153 = .ok (.ifCond .ne 84, 3) := dk_154 0 84 (dk_at dksJ8_compareMagnitude_6 9 rfl rfl)
theorem dJ8_compareMagnitude_156 : decode cJ8_compareMagnitude 156 = .ok (.aload_n 0, 1) := dk_42 (dk_at dksJ8_compareMagnitude_6 12 rfl rfl)
theorem dJ8_compareMagnitude_157 : decode cJ8_compareMagnitude 157 = .ok (.lload 6, 2) := dk_22 6 (dk_at dksJ8_compareMagnitude_6 13 rfl rfl)
theorem dJ8_compareMagnitude_159 : decode cJ8_compareMagnitude 159 = .ok (.lneg, 1) := dk_117 (dk_at dksJ8_compareMagnitude_6 15 rfl rfl)
theorem dJ8_compareMagnitude_160 : decode cJ8_compareMagnitude 160 = .ok (.l2i, 1) := dk_136 (dk_at dksJ8_compareMagnitude_6 16 rfl rfl)
theorem dJ8_compareMagnitude_161 : decode cJ8_compareMagnitude 161 = .ok (.invokevirtual 603, 3) := dk_182 2 91 (dk_at dksJ8_compareMagnitude_6 17 rfl rfl)
theorem dJ8_compareMagnitude_164 : decode cJ8_compareMagnitude 164 = .ok (.astore 12, 2) := dk_58 12 (dk_at dksJ8_compareMagnitude_6 20 rfl rfl)
theorem dJ8_compareMagnitude_166 : decode cJ8_compareMagnitude 166 = .ok (.aload 12, 2) := dk_25 12 (dk_at dksJ8_compareMagnitude_6 22 rfl rfl)
theorem dJ8_compareMagnitude_168 : decode cJ8_compareMagnitude 168 = .ok (.aload_n 1, 1) := dk_43 (dk_at dksJ8_compareMagnitude_7 0 rfl rfl)
theorem dJ8_compareMagnitude_169 : decode cJ8_compareMagnitude 169 = .ok (.getfield 28, 3) := dk_180 0 28 (dk_at dksJ8_compareMagnitude_7 1 rfl rfl)
theorem dJ8_compareMagnitude_172 : decode cJ8_compareMagnitude 172 = .ok (.invokevirtual 630, 3) := dk_182 2 118 (dk_at dksJ8_compareMagnitude_7 4 rfl rfl)
theorem dJ8_compareMagnitude_175 : decode cJ8_compareMagnitude 175 = .ok (.ireturn, 1) := dk_172 (dk_at dksJ8_compareMagnitude_7 7 rfl rfl)
theorem dJ8_compareMagnitude_176 : decode cJ8_compareMagnitude 176 = .ok (.lload 6, 2) := dk_22 6 (dk_at dksJ8_compareMagnitude_7 8 rfl rfl)
theorem dJ8_compareMagnitude_178 : decode cJ8_compareMagnitude 178 = .ok (.ldc2_w 404, 3) := dk_20 1 148 (dk_at dksJ8_compareMagnitude_7 10 rfl rfl)
theorem dJ8_compareMagnitude_181 : decode cJ8_compareMagnitude 181 = .ok (.lcmp, 1) := dk_148 (dk_at dksJ8_compareMagnitude_7 13 rfl rfl)
theorem dJ8_compareMagnitude_182 : decode cJ8_compareMagnitude 182 = .ok (.ifCond .gt 55, 3) := dk_157 0 55 (dk_at dksJ8_compareMagnitude_7 14 rfl rfl)
theorem dJ8_compareMagnitude_185 : decode cJ8_compareMagnitude 185 = .ok (.lload_n 2, 1) := dk_32 (dk_at dksJ8_compareMagnitude_7 17 rfl rfl)
theorem dJ8_compareMagnitude_186 : decode cJ8_compareMagnitude 186 = .ok (.ldc2_w 125, 3) := dk_20 0 125 (dk_at dksJ8_compareMagnitude_7 18 rfl rfl)
theorem dJ8_compareMagnitude_189 : decode cJ8_compareMagnitude 189 = .ok (.lcmp, 1) := dk_148 (dk_at dksJ8_compareMagnitude_7 21 rfl rfl)
theorem dJ8_compareMagnitude_190 : decode cJ8_compareMagnitude 190 = .ok (.ifCond .eq 19, 3) := dk_153 0 19 (dk_at dksJ8_compareMagnitude_8 0 rfl rfl)
theorem dJ8_compareMagnitude_193 : decode cJ8_compareMagnitude 193 = .ok (.lload_n 2, 1) := dk_32 (dk_at dksJ8_compareMagnitude_8 3 rfl rfl)
theorem dJ8_compareMagnitude_194 : decode cJ8_compareMagnitude 194 = .ok (.lload 6, 2) := dk_22 6 (dk_at dksJ8_compareMagnitude_8 4 rfl rfl)
theorem dJ8_compareMagnitude_196 : decode cJ8_compareMagnitude 196 = .ok (.l2i, 1) := dk_136 (dk_at dksJ8_compareMagnitude_8 6 rfl rfl)
theorem dJ8_compareMagnitude_197 : decode cJ8_compareMagnitude 197 = .ok (.invokestatic 599, 3) := dk_184 2 87 (dk_at dksJ8_compareMagnitude_8 7 rfl rfl)
theorem dJ8_compareMagnitude_200 : decode cJ8_compareMagnitude 200 = .ok (.dup2, 1) := dk_92 (dk_at dksJ8_compareMagnitude_8 10 rfl rfl)
theorem dJ8_compareMagnitude_201 : decode cJ8_compareMagnitude 201 = .ok (.lstore_n 2, 1) := dk_65 (dk_at dksJ8_compareMagnitude_8 11 rfl rfl)
theorem dJ8_compareMagnitude_202 : decode cJ8_compareMagnitude 202 = .ok (.ldc2_w 125, 3) := dk_20 0 125 (dk_at dksJ8_compareMagnitude_8 12 rfl rfl)
theorem dJ8_compareMagnitude_205 : decode cJ8_compareMagnitude 205 = .ok (.lcmp, 1) := dk_148 (dk_at dksJ8_compareMagnitude_8 15 rfl rfl)
theorem dJ8_compareMagnitude_206 : decode cJ8_compareMagnitude 206 = .ok (.ifCond .ne 31, 3) := dk_154 0 31 (dk_at dksJ8_compareMagnitude_8 16 rfl rfl)
theorem dJ8_compareMagnitude_209 : decode cJ8_compareMagnitude 209 = .ok (.lload 4, 2) := dk_22 4 (dk_at dksJ8_compareMagnitude_8 19 rfl rfl)
theorem dJ8_compareMagnitude_211 : decode cJ8_compareMagnitude 211 = .ok (.ldc2_w 125, 3) := dk_20 0 125 (dk_at dksJ8_compareMagnitude_8 21 rfl rfl)
theorem dJ8_compareMagnitude_214 : decode cJ8_compareMagnitude 214 = .ok (.lcmp, 1) := dk_148 (dk_at dksJ8_compareMagnitude_9 0 rfl rfl)
theorem dJ8_compareMagnitude_215 : decode cJ8_compareMagnitude 215 = .ok (.ifCond .ne 22, 3) := dk_154 0 22 (dk_at dksJ8_compareMagnitude_9 1 rfl rfl)
theorem dJ8_compareMagnitude_218 : decode cJ8_compareMagnitude 218 = .ok (.aload_n 1, 1) := dk_43 (dk_at dksJ8_compareMagnitude_9 4 rfl rfl)
theorem dJ8_compareMagnitude_219 : decode cJ8_compareMagnitude 219 = .ok (.lload 6, 2) := dk_22 6 (dk_at dksJ8_compareMagnitude_9 5 rfl rfl)
theorem dJ8_compareMagnitude_221 : decode cJ8_compareMagnitude 221 = .ok (.l2i, 1) := dk_136 (dk_at dksJ8_compareMagnitude_9 7 rfl rfl)
theorem dJ8_compareMagnitude_222 : decode cJ8_compareMagnitude 222 = .ok (.invokevirtual 603, 3) := dk_182 2 91 (dk_at dksJ8_compareMagnitude_9 8 rfl rfl)
theorem dJ8_compareMagnitude_225 : decode cJ8_compareMagnitude 225 = .ok (.astore 12, 2) := dk_58 12 (dk_at dksJ8_compareMagnitude_9 11 rfl rfl)
theorem dJ8_compareMagnitude_227 : decode cJ8_compareMagnitude 227 = .ok (.aload_n 0, 1) := dk_42 (dk_at dksJ8_compareMagnitude_9 13 rfl rfl)
theorem dJ8_compareMagnitude_228 : decode cJ8_compareMagnitude 228 = .ok (.getfield 28, 3) := dk_180 0 28 (dk_at dksJ8_compareMagnitude_9 14 rfl rfl)
theorem dJ8_compareMagnitude_231 : decode cJ8_compareMagnitude 231 = .ok (.aload 12, 2) := dk_25 12 (dk_at dksJ8_compareMagnitude_9 17 rfl rfl)
theorem dJ8_compareMagnitude_233 : decode cJ8_compareMagnitude 233 = .ok (.invokevirtual 630, 3) := dk_182 2 118 (dk_at dksJ8_compareMagnitude_9 19 rfl rfl)
theorem dJ8_compareMagnitude_236 : decode cJ8_compareMagnitude 236 = .ok (.ireturn, 1) := dk_172 (dk_at dksJ8_compareMagnitude_9 22 rfl rfl)
theorem dJ8_compareMagnitude_237 : decode cJ8_compareMagnitude 237 = .ok (.lload 4, 2) := dk_22 4 (dk_at dksJ8_compareMagnitude_10 0 rfl rfl)
theorem dJ8_compareMagnitude_239 : decode cJ8_compareMagnitude 239 = .ok (.ldc2_w 125, 3) := dk_20 0 125 (dk_at dksJ8_compareMagnitude_10 2 rfl rfl)
theorem dJ8_compareMagnitude_242 : decode cJ8_compareMagnitude 242 = .ok (.lcmp, 1) := dk_148 (dk_at dksJ8_compareMagnitude_10 5 rfl rfl)
theorem dJ8_compareMagnitude_243 : decode cJ8_compareMagnitude 243 = .ok (.ifCond .eq 22, 3) := dk_153 0 22 (dk_at dksJ8_compareMagnitude_10 6 rfl rfl)
theorem dJ8_compareMagnitude_246 : decode cJ8_compareMagnitude 246 = .ok (.lload_n 2, 1) := dk_32 (dk_at dksJ8_compareMagnitude_10 9 rfl rfl)
theorem dJ8_compareMagnitude_247 : decode cJ8_compareMagnitude 247 = .ok (.ldc2_w 125, 3) := dk_20 0 125 (dk_at dksJ8_compareMagnitude_10 10 rfl rfl)
theorem dJ8_compareMagnitude_250 : decode cJ8_compareMagnitude 250 = .ok (.lcmp, 1) := dk_148 (dk_at dksJ8_compareMagnitude_10 13 rfl rfl)
theorem dJ8_compareMagnitude_251 : decode cJ8_compareMagnitude 251 = .ok (.ifCond .eq 12, 3) := dk_153 0 12 (dk_at dksJ8_compareMagnitude_10 14 rfl rfl)
theorem dJ8_compareMagnitude_254 : decode cJ8_compareMagnitude 254 = .ok (.lload 4, 2) := dk_22 4 (dk_at dksJ8_compareMagnitude_10 17 rfl rfl)
theorem dJ8_compareMagnitude_256 : decode cJ8_compareMagnitude 256 = .ok (.lload_n 2, 1) := dk_32 (dk_at dksJ8_compareMagnitude_10 19 rfl rfl)
theorem dJ8_compareMagnitude_257 : decode cJ8_compareMagnitude 257 = .ok (.invokestatic 632, 3) := dk_184 2 120 (dk_at dksJ8_compareMagnitude_10 20 rfl rfl)
theorem dJ8_compareMagnitude_260 : decode cJ8_compareMagnitude 260 = .ok (.goto 4, 3) := dk_167 0 4 (dk_at dksJ8_compareMagnitude_11 0 rfl rfl)
theorem dJ8_compareMagnitude_263 : decode cJ8_compareMagnitude 263 = .ok (.iconst (-1), 1) := dk_2 (dk_at dksJ8_compareMagnitude_11 3 rfl rfl)
theorem dJ8_compareMagnitude_264 : decode cJ8_compareMagnitude 264 = .ok (.ireturn, 1) := dk_172 (dk_at dksJ8_compareMagnitude_11 4 rfl rfl)
theorem dJ8_compareMagnitude_265 : decode cJ8_compareMagnitude 265 = .ok (.lload_n 2, 1) := dk_32 (dk_at dksJ8_compareMagnitude_11 5 rfl rfl)
theorem dJ8_compareMagnitude_266 : decode cJ8_compareMagnitude 266 = .ok (.ldc2_w 125, 3) := dk_20 0 125 (dk_at dksJ8_compareMagnitude_11 6 rfl rfl)
theorem dJ8_compareMagnitude_269 : decode cJ8_compareMagnitude 269 = .ok (.lcmp, 1) := dk_148 (dk_at dksJ8_compareMagnitude_11 9 rfl rfl)
theorem dJ8_compareMagnitude_270 : decode cJ8_compareMagnitude 270 = .ok (.ifCond .eq 5, 3) := dk_153 0 5 (dk_at dksJ8_compareMagnitude_11 10 rfl rfl)
theorem dJ8_compareMagnitude_273 : decode cJ8_compareMagnitude 273 = .ok (.iconst 1, 1) := dk_4 (dk_at dksJ8_compareMagnitude_11 13 rfl rfl)
theorem dJ8_compareMagnitude_274 : decode cJ8_compareMagnitude 274 = .ok (.ireturn, 1) := dk_172 (dk_at dksJ8_compareMagnitude_11 14 rfl rfl)
theorem dJ8_compareMagnitude_275 : decode cJ8_compareMagnitude 275 = .ok (.aload_n 0, 1) := dk_42 (dk_at dksJ8_compareMagnitude_11 15 rfl rfl)
theorem dJ8_compareMagnitude_276 : decode cJ8_compareMagnitude 276 = .ok (.getfield 28, 3) := dk_180 0 28 (dk_at dksJ8_compareMagnitude_11 16 rfl rfl)
theorem dJ8_compareMagnitude_279 : decode cJ8_compareMagnitude 279 = .ok (.aload_n 1, 1) := dk_43 (dk_at dksJ8_compareMagnitude_11 19 rfl rfl)
theorem dJ8_compareMagnitude_280 : decode cJ8_compareMagnitude 280 = .ok (.getfield 28, 3) := dk_180 0 28 (dk_at dksJ8_compareMagnitude_11 20 rfl rfl)
theorem dJ8_compareMagnitude_283 : decode cJ8_compareMagnitude 283 = .ok (.invokevirtual 630, 3) := dk_182 2 118 (dk_at dksJ8_compareMagnitude_12 0 rfl rfl)
theorem dJ8_compareMagnitude_286 : decode cJ8_compareMagnitude 286 = .ok (.ireturn, 1) := dk_172 (dk_at dksJ8_compareMagnitude_12 3 rfl rfl)
def dkwJ8_longCompareMagnitude_0 : List UInt8 := [30, 9, 148, 156, 0, 6, 30, 117, 63, 32, 9, 148, 156, 0, 6, 32, 117, 65, 30, 32, 184, 3, 113, 172]
abbrev dktJ8_longCompareMagnitude_0 : List UInt8 := dkwJ8_longCompareMagnitude_0 ++ []
theorem dksJ8_longCompareMagnitude_0 : cJ8_longCompareMagnitude.data.toList.drop 0 = dktJ8_longCompareMagnitude_0 := by decide +kernel
theorem dJ8_longCompareMagnitude_0 : decode cJ8_longCompareMagnitude 0 = .ok (.lload_n 0, 1) := dk_30 (dk_at dksJ8_longCompareMagnitude_0 0 rfl rfl)
theorem dJ8_longCompareMagnitude_1 : decode cJ8_longCompareMagnitude 1 = .ok (.lconst 0, 1) := dk_9 (dk_at dksJ8_longCompareMagnitude_0 1 rfl rfl)
theorem dJ8_longCompareMagnitude_2 : decode cJ8_longCompareMagnitude 2 = .ok (.lcmp, 1) := dk_148 (dk_at dksJ8_longCompareMagnitude_0 2 rfl rfl)
theorem dJ8_longCompareMagnitude_3 : decode cJ8_longCompareMagnitude 3 = .ok (.ifCond .ge 6, 3) := dk_156 0 6 (dk_at dksJ8_longCompareMagnitude_0 3 rfl rfl)
theorem dJ8_longCompareMagnitude_6 : decode cJ8_longCompareMagnitude 6 = .ok (.lload_n 0, 1) := dk_30 (dk_at dksJ8_longCompareMagnitude_0 6 rfl rfl)
theorem dJ8_longCompareMagnitude_7 : decode cJ8_longCompareMagnitude 7 = .ok (.lneg, 1) := dk_117 (dk_at dksJ8_longCompareMagnitude_0 7 rfl rfl)
theorem dJ8_longCompareMagnitude_8 : decode cJ8_longCompareMagnitude 8 = .ok (.lstore_n 0, 1) := dk_63 (dk_at dksJ8_longCompareMagnitude_0 8 rfl rfl)
theorem dJ8_longCompareMagnitude_9 : decode cJ8_longCompareMagnitude 9 = .ok (.lload_n 2, 1) := dk_32 (dk_at dksJ8_longCompareMagnitude_0 9 rfl rfl)
theorem dJ8_longCompareMagnitude_10 : decode cJ8_longCompareMagnitude 10 = .ok (.lconst 0, 1) := dk_9 (dk_at dksJ8_longCompareMagnitude_0 10 rfl rfl)
theorem dJ8_longCompareMagnitude_11 : decode cJ8_longCompareMagnitude 11 = .ok (.lcmp, 1) := dk_148 (dk_at dksJ8_longCompareMagnitude_0 11 rfl rfl)
theorem dJ8_longCompareMagnitude_12 : decode cJ8_longCompareMagnitude 12 = .ok (.ifCond .ge 6, 3) := dk_156 0 6 (dk_at dksJ8_longCompareMagnitude_0 12 rfl rfl)
theorem dJ8_longCompareMagnitude_15 : decode cJ8_longCompareMagnitude 15 = .ok (.lload_n 2, 1) := dk_32 (dk_at dksJ8_longCompareMagnitude_0 15 rfl rfl)
theorem dJ8_longCompareMagnitude_16 : decode cJ8_longCompareMagnitude 16 = .ok (.lneg, 1) := dk_117 (dk_at dksJ8_longCompareMagnitude_0 16 rfl rfl)
theorem dJ8_longCompareMagnitude_17 : decode cJ8_longCompareMagnitude 17 = .ok (.lstore_n 2, 1) := dk_65 (dk_at dksJ8_longCompareMagnitude_0 17 rfl rfl)
theorem dJ8_longCompareMagnitude_18 : decode cJ8_longCompareMagnitude 18 = .ok (.lload_n 0, 1) := dk_30 (dk_at dksJ8_longCompareMagnitude_0 18 rfl rfl)
theorem dJ8_longCompareMagnitude_19 : decode cJ8_longCompareMagnitude 19 = .ok (.lload_n 2, 1) := dk_32 (dk_at dksJ8_longCompareMagnitude_0 19 rfl rfl)
theorem dJ8_longCompareMagnitude_20 : decode cJ8_longCompareMagnitude 20 = .ok (.invokestatic 881, 3) := dk_184 3 113 (dk_at dksJ8_longCompareMagnitude_0 20 rfl rfl)
theorem dJ8_longCompareMagnitude_23 : decode cJ8_longCompareMagnitude 23 = .ok (.ireturn, 1) := dk_172 (dk_at dksJ8_longCompareMagnitude_0 23 rfl rfl)
def dkwJ8_subtract_5 : List UInt8 := [184, 1, 8, 176]
abbrev dktJ8_subtract_5 : List UInt8 := dkwJ8_subtract_5 ++ []
def dkwJ8_subtract_4 : List UInt8 := [184, 1, 5, 176, 42, 180, 0, 28, 42, 180, 0, 17, 43, 180, 0, 28, 182, 1, 75, 43, 180, 0, 17]
abbrev dktJ8_subtract_4 : List UInt8 := dkwJ8_subtract_4 ++ dktJ8_subtract_5
def dkwJ8_subtract_3 : List UInt8 := [20, 0, 125, 148, 153, 0, 24, 43, 180, 0, 24, 117, 43, 180, 0, 17, 42, 180, 0, 28, 42, 180, 0, 17]
abbrev dktJ8_subtract_3 : List UInt8 := dkwJ8_subtract_3 ++ dktJ8_subtract_4
def dkwJ8_subtract_2 : List UInt8 := [42, 180, 0, 17, 43, 180, 0, 28, 182, 1, 75, 43, 180, 0, 17, 184, 1, 5, 176, 43, 180, 0, 24]
abbrev dktJ8_subtract_2 : List UInt8 := dkwJ8_subtract_2 ++ dktJ8_subtract_3
def dkwJ8_subtract_1 : List UInt8 := [180, 0, 24, 42, 180, 0, 17, 43, 180, 0, 24, 117, 43, 180, 0, 17, 184, 1, 1, 176, 42, 180, 0, 24]
abbrev dktJ8_subtract_1 : List UInt8 := dkwJ8_subtract_1 ++ dktJ8_subtract_2
def dkwJ8_subtract_0 : List UInt8 := [42, 180, 0, 24, 20, 0, 125, 148, 153, 0, 58, 43, 180, 0, 24, 20, 0, 125, 148, 153, 0, 24, 42]
abbrev dktJ8_subtract_0 : List UInt8 := dkwJ8_subtract_0 ++ dktJ8_subtract_1
theorem dksJ8_subtract_0 : cJ8_subtract.data.toList.drop 0 = dktJ8_subtract_0 := by decide +kernel
theorem dksJ8_subtract_1 : cJ8_subtract.data.toList.drop 23 = dktJ8_subtract_1 := dk_seg dksJ8_subtract_0 23 rfl rfl
theorem dksJ8_subtract_2 : cJ8_subtract.data.toList.drop 47 = dktJ8_subtract_2 := dk_seg dksJ8_subtract_1 24 rfl rfl
theorem dksJ8_subtract_3 : cJ8_subtract.data.toList.drop 70 = dktJ8_subtract_3 := dk_seg dksJ8_subtract_2 23 rfl rfl
theorem dksJ8_subtract_4 : cJ8_subtract.data.toList.drop 94 = dktJ8_subtract_4 := dk_seg dksJ8_subtract_3 24 rfl rfl
theorem dksJ8_subtract_5 : cJ8_subtract.data.toList.drop 117 = dktJ8_subtract_5 := dk_seg dksJ8_subtract_4 23 rfl rfl
theorem dJ8_subtract_0 : decode cJ8_subtract 0 = .ok (.aload_n 0, 1) := dk_42 (dk_at dksJ8_subtract_0 0 rfl rfl)
theorem dJ8_subtract_1 : decode cJ8_subtract 1 = .ok (.getfield 24, 3) := dk_180 0 24 (dk_at dksJ8_subtract_0 1 rfl rfl)
theorem dJ8_subtract_4 : decode cJ8_subtract 4 = .ok (.ldc2_w 125, 3) := dk_20 0 125 (dk_at dksJ8_subtract_0 4 rfl rfl)
theorem dJ8_subtract_7 : decode cJ8_subtract 7 = .ok (.lcmp, 1) := dk_148 (dk_at dksJ8_subtract_0 7 rfl rfl)
theorem dJ8_subtract_8 : decode cJ8_subtract 8 = .ok (.ifCond .eq 58, 3) := dk_153 0 58 (dk_at dksJ8_subtract_0 8 rfl rfl)
theorem dJ8_subtract_11 : decode cJ8_subtract 11 = .ok (.aload_n 1, 1) := dk_43 (dk_at dksJ8_subtract_0 11 rfl rfl)
theorem dJ8_subtract_12 : decode cJ8_subtract 12 = .ok (.getfield 24, 3) := dk_180 0 24 (dk_at dksJ8_subtract_0 12 rfl rfl)
theorem dJ8_subtract_15 : decode cJ8_subtract 15 = .ok (.ldc2_w 125, 3) := dk_20 0 125 (dk_at dksJ8_subtract_0 15 rfl rfl)
theorem dJ8_subtract_18 : decode cJ8_subtract 18 = .ok (.lcmp, 1) := dk_148 (dk_at dksJ8_subtract_0 18 rfl rfl)
theorem dJ8_subtract_19 : decode cJ8_subtract 19 = .ok (.ifCond .eq 24, 3) := dk_153 0 24 (dk_at dksJ8_subtract_0 19 rfl rfl)
theorem dJ8_subtract_22 : decode cJ8_subtract 22 = .ok (.aload_n 0, 1) := dk_42 (dk_at dksJ8_subtract_0 22 rfl rfl)
theorem dJ8_subtract_23 : decode cJ8_subtract 23 = .ok (.getfield 24, 3) := dk_180 0 24 (dk_at dksJ8_subtract_1 0 rfl rfl)
theorem dJ8_subtract_26 : decode cJ8_subtract 26 = .ok (.aload_n 0, 1) := dk_42 (dk_at dksJ8_subtract_1 3 rfl rfl)
theorem dJ8_subtract_27 : decode cJ8_subtract 27 = .ok (.getfield 17, 3) := dk_180 0 17 (dk_at dksJ8_subtract_1 4 rfl rfl)
theorem dJ8_subtract_30 : decode cJ8_subtract 30 = .ok (.aload_n 1, 1) := dk_43 (dk_at dksJ8_subtract_1 7 rfl rfl)
theorem dJ8_subtract_31 : decode cJ8_subtract 31 = .ok (.getfield 24, 3) := dk_180 0 24 (dk_at dksJ8_subtract_1 8 rfl rfl)
theorem dJ8_subtract_34 : decode cJ8_subtract 34 = .ok (.lneg, 1) := dk_117 (dk_at dksJ8_subtract_1 11 rfl rfl)
theorem dJ8_subtract_35 : decode cJ8_subtract 35 = .ok (.aload_n 1, 1) := dk_43 (dk_at dksJ8_subtract_1 12 rfl rfl)
theorem dJ8_subtract_36 : decode cJ8_subtract 36 = .ok (.getfield 17, 3) := dk_180 0 17 (dk_at dksJ8_subtract_1 13 rfl rfl)
theorem dJ8_subtract_39 : decode cJ8_subtract 39 = .ok (.invokestatic 257, 3) := dk_184 1 1 (dk_at dksJ8_subtract_1 16 rfl rfl)
theorem dJ8_subtract_42 : decode cJ8_subtract 42 = .ok (.areturn, 1) := dk_176 (dk_at dksJ8_subtract_1 19 rfl rfl)
theorem dJ8_subtract_43 : decode cJ8_subtract 43 = .ok (.aload_n 0, 1) := dk_42 (dk_at dksJ8_subtract_1 20 rfl rfl)
theorem dJ8_subtract_44 : decode cJ8_subtract 44 = .ok (.getfield 24, 3) := dk_180 0 24 (dk_at dksJ8_subtract_1 21 rfl rfl)
theorem dJ8_subtract_47 : decode cJ8_subtract 47 = .ok (.aload_n 0, 1) := dk_42 (dk_at dksJ8_subtract_2 0 rfl rfl)
theorem dJ8_subtract_48 : decode cJ8_subtract 48 = .ok (.getfield 17, 3) := dk_180 0 17 (dk_at dksJ8_subtract_2 1 rfl rfl)
theorem dJ8_subtract_51 : decode cJ8_subtract 51 = .ok (.aload_n 1, 1) := dk_43 (dk_at dksJ8_subtract_2 4 rfl rfl)
theorem dJ8_subtract_52 : decode cJ8_subtract 52 = .ok (.getfield 28, 3) := dk_180 0 28 (dk_at dksJ8_subtract_2 5 rfl rfl)
theorem dJ8_subtract_55 : decode cJ8_subtract 55 = .ok (.invokevirtual 331, 3) := dk_182 1 75 (dk_at dksJ8_subtract_2 8 rfl rfl)
theorem dJ8_subtract_58 : decode cJ8_subtract 58 = .ok (.aload_n 1, 1) := dk_43 (dk_at dksJ8_subtract_2 11 rfl rfl)
theorem dJ8_subtract_59 : decode cJ8_subtract 59 = .ok (.getfield 17, 3) := dk_180 0 17 (dk_at dksJ8_subtract_2 12 rfl rfl)
theorem dJ8_subtract_62 : decode cJ8_subtract 62 = .ok (.invokestatic 261, 3) := dk_184 1 5 (dk_at dksJ8_subtract_2 15 rfl rfl)
theorem dJ8_subtract_65 : decode cJ8_subtract 65 = .ok (.areturn, 1) := dk_176 (dk_at dksJ8_subtract_2 18 rfl rfl)
theorem dJ8_subtract_66 : decode cJ8_subtract 66 = .ok (.aload_n 1, 1) := dk_43 (dk_at dksJ8_subtract_2 19 rfl rfl)
theorem dJ8_subtract_67 : decode cJ8_subtract 67 = .ok (.getfield 24, 3) := dk_180 0 24 (dk_at dksJ8_subtract_2 20 rfl rfl)
theorem dJ8_subtract_70 : decode cJ8_subtract 70 = .ok (.ldc2_w 125, 3) := dk_20 0 125 (dk_at dksJ8_subtract_3 0 rfl rfl)
theorem dJ8_subtract_73 : decode cJ8_subtract 73 = .ok (.lcmp, 1) := dk_148 (dk_at dksJ8_subtract_3 3 rfl rfl)
theorem dJ8_subtract_74 : decode cJ8_subtract 74 = .ok (.ifCond .eq 24, 3) := dk_153 0 24 (dk_at dksJ8_subtract_3 4 rfl rfl)
theorem dJ8_subtract_77 : decode cJ8_subtract 77 = .ok (.aload_n 1, 1) := dk_43 (dk_at dksJ8_subtract_3 7 rfl rfl)
theorem dJ8_subtract_78 : decode cJ8_subtract 78 = .ok (.getfield 24, 3) := dk_180 0 24 (dk_at dksJ8_subtract_3 8 rfl rfl)
theorem dJ8_subtract_81 : decode cJ8_subtract 81 = .ok (.lneg, 1) := dk_117 (dk_at dksJ8_subtract_3 11 rfl rfl)
theorem dJ8_subtract_82 : decode cJ8_subtract 82 = .ok (.aload_n 1, 1) := dk_43 (dk_at dksJ8_subtract_3 12 rfl rfl)
theorem dJ8_subtract_83 : decode cJ8_subtract 83 = .ok (.getfield 17, 3) := dk_180 0 17 (dk_at dksJ8_subtract_3 13 rfl rfl)
theorem dJ8_subtract_86 : decode cJ8_subtract 86 = .ok (.aload_n 0, 1) := dk_42 (dk_at dksJ8_subtract_3 16 rfl rfl)
theorem dJ8_subtract_87 : decode cJ8_subtract 87 = .ok (.getfield 28, 3) := dk_180 0 28 (dk_at dksJ8_subtract_3 17 rfl rfl)
theorem dJ8_subtract_90 : decode cJ8_subtract 90 = .ok (.aload_n 0, 1) := dk_42 (dk_at dksJ8_subtract_3 20 rfl rfl)
theorem dJ8_subtract_91 : decode cJ8_subtract 91 = .ok (.getfield 17, 3) := dk_180 0 17 (dk_at dksJ8_subtract_3 21 rfl rfl)
theorem dJ8_subtract_94 : decode cJ8_subtract 94 = .ok (.invokestatic 261, 3) := dk_184 1 5 (dk_at dksJ8_subtract_4 0 rfl rfl)
theorem dJ8_subtract_97 : decode cJ8_subtract 97 = .ok (.areturn, 1) := dk_176 (dk_at dksJ8_subtract_4 3 rfl rfl)
theorem dJ8_subtract_98 : decode cJ8_subtract 98 = .ok (.aload_n 0, 1) := dk_42 (dk_at dksJ8_subtract_4 4 rfl rfl)
theorem dJ8_subtract_99 : decode cJ8_subtract 99 = .ok (.getfield 28, 3) := dk_180 0 28 (dk_at dksJ8_subtract_4 5 rfl rfl)
theorem dJ8_subtract_102 : decode cJ8_subtract 102 = .ok (.aload_n 0, 1) := dk_42 (dk_at dksJ8_subtract_4 8 rfl rfl)
theorem dJ8_subtract_103 : decode cJ8_subtract 103 = .ok (.getfield 17, 3) := dk_180 0 17 (dk_at dksJ8_subtract_4 9 rfl rfl)
theorem dJ8_subtract_106 : decode cJ8_subtract 106 = .ok (.aload_n 1, 1) := dk_43 (dk_at dksJ8_subtract_4 12 rfl rfl)
theorem dJ8_subtract_107 : decode cJ8_subtract 107 = .ok (.getfield 28, 3) := dk_180 0 28 (dk_at dksJ8_subtract_4 13 rfl rfl)
theorem dJ8_subtract_110 : decode cJ8_subtract 110 = .ok (.invokevirtual 331, 3) := dk_182 1 75 (dk_at dksJ8_subtract_4 16 rfl rfl)
theorem dJ8_subtract_113 : decode cJ8_subtract 113 = .ok (.aload_n 1, 1) := dk_43 (dk_at dksJ8_subtract_4 19 rfl rfl)
theorem dJ8_subtract_114 : decode cJ8_subtract 114 = .ok (.getfield 17, 3) := dk_180 0 17 (dk_at dksJ8_subtract_4 20 rfl rfl)
theorem dJ8_subtract_117 : decode cJ8_subtract 117 = .ok (.invokestatic 264, 3) := dk_184 1 8 (dk_at dksJ8_subtract_5 0 rfl rfl)
theorem dJ8_subtract_120 : decode cJ8_subtract 120 = .ok (.areturn, 1) := dk_176 (dk_at dksJ8_subtract_5 3 rfl rfl)
def dkwJ8_equals_5 : List UInt8 := [182, 1, 46, 182, 2, 40, 172]
abbrev dktJ8_equals_5 : List UInt8 := dkwJ8_equals_5 ++ []
def dkwJ8_equals_4 : List UInt8 := [22, 5, 42, 180, 0, 28, 184, 0, 121, 148, 154, 0, 7, 4, 167, 0, 4, 3, 172, 42, 182, 1, 46, 44]
abbrev dktJ8_equals_4 : List UInt8 := dkwJ8_equals_4 ++ dktJ8_equals_5
def dkwJ8_equals_3 : List UInt8 := [55, 5, 22, 5, 33, 148, 154, 0, 7, 4, 167, 0, 4, 3, 172, 22, 5, 20, 0, 125, 148, 153, 0, 22]
abbrev dktJ8_equals_3 : List UInt8 := dkwJ8_equals_3 ++ dktJ8_equals_4
def dkwJ8_equals_2 : List UInt8 := [33, 20, 0, 125, 148, 153, 0, 34, 22, 5, 20, 0, 125, 148, 154, 0, 12, 44, 180, 0, 28, 184, 0, 121]
abbrev dktJ8_equals_2 : List UInt8 := dkwJ8_equals_2 ++ dktJ8_equals_3
def dkwJ8_equals_1 : List UInt8 := [42, 180, 0, 17, 44, 180, 0, 17, 159, 0, 5, 3, 172, 42, 180, 0, 24, 66, 44, 180, 0, 24, 55, 5]
abbrev dktJ8_equals_1 : List UInt8 := dkwJ8_equals_1 ++ dktJ8_equals_2
def dkwJ8_equals_0 : List UInt8 := [43, 193, 0, 3, 153, 0, 11, 43, 192, 0, 3, 77, 167, 0, 5, 3, 172, 43, 42, 166, 0, 5, 4, 172]
abbrev dktJ8_equals_0 : List UInt8 := dkwJ8_equals_0 ++ dktJ8_equals_1
theorem dksJ8_equals_0 : cJ8_equals.data.toList.drop 0 = dktJ8_equals_0 := by decide +kernel
theorem dksJ8_equals_1 : cJ8_equals.data.toList.drop 24 = dktJ8_equals_1 := dk_seg dksJ8_equals_0 24 rfl rfl
theorem dksJ8_equals_2 : cJ8_equals.data.toList.drop 48 = dktJ8_equals_2 := dk_seg dksJ8_equals_1 24 rfl rfl
theorem dksJ8_equals_3 : cJ8_equals.data.toList.drop 72 = dktJ8_equals_3 := dk_seg dksJ8_equals_2 24 rfl rfl
theorem dksJ8_equals_4 : cJ8_equals.data.toList.drop 96 = dktJ8_equals_4 := dk_seg dksJ8_equals_3 24 rfl rfl
theorem dksJ8_equals_5 : cJ8_equals.data.toList.drop 120 = dktJ8_equals_5 := dk_seg dksJ8_equals_4 24 rfl rfl
theorem dJ8_equals_0 : decode cJ8_equals 0 = .ok (.aload_n 1, 1) := dk_43 (dk_at dksJ8_equals_0 0 rfl rfl)
theorem dJ8_equals_1 : decode cJ8_equals 1 = .ok (.instanceof 3, 3) := dk_193 0 3 (dk_at dksJ8_equals_0 1 rfl rfl)
theorem dJ8_equals_4 : decode cJ8_equals 4 = .ok (.ifCond .eq 11, 3) := dk_153 0 11 (dk_at dksJ8_equals_0 4 rfl rfl)
theorem dJ8_equals_7 : decode cJ8_equals 7 = .ok (.aload_n 1, 1) := dk_43 (dk_at dksJ8_equals_0 7 rfl rfl)
theorem dJ8_equals_8 : decode cJ8_equals 8 = .ok (.checkcast 3, 3) := dk_192 0 3 (dk_at dksJ8_equals_0 8 rfl rfl)
theorem dJ8_equals_11 : decode cJ8_equals 11 = .ok (.astore_n 2, 1) := dk_77 (dk_at dksJ8_equals_0 11 rfl rfl)
theorem dJ8_equals_12 : decode cJ8_equals 12 = .ok (.goto 5, 3) := dk_167 0 5 (dk_at dksJ8_equals_0 12 rfl rfl)
theorem dJ8_equals_15 : decode cJ8_equals 15 = .ok (.iconst 0, 1) := dk_3 (dk_at dksJ8_equals_0 15 rfl rfl)
theorem dJ8_equals_16 : decode cJ8_equals 16 = .ok (.ireturn, 1) := dk_172 (dk_at dksJ8_equals_0 16 rfl rfl)
theorem dJ8_equals_17 : decode cJ8_equals 17 = .ok (.aload_n 1, 1) := dk_43 (dk_at dksJ8_equals_0 17 rfl rfl)
theorem dJ8_equals_18 : decode cJ8_equals 18 = .ok (.aload_n 0, 1) := dk_42 (dk_at dksJ8_equals_0 18 rfl rfl)
theorem dJ8_equals_19 : decode cJ8_equals 19 = .ok (.if_acmp .ne 5, 3) := dk_166 0 5 (dk_at dksJ8_equals_0 19 rfl rfl)
theorem dJ8_equals_22 : decode cJ8_equals 22 = .ok (.iconst 1, 1) := dk_4 (dk_at dksJ8_equals_0 22 rfl rfl)
theorem dJ8_equals_23 : decode cJ8_equals 23 = .ok (.ireturn, 1) := dk_172 (dk_at dksJ8_equals_0 23 rfl rfl)
theorem dJ8_equals_24 : decode cJ8_equals 24 = .ok (.aload_n 0, 1) := dk_42 (dk_at dksJ8_equals_1 0 rfl rfl)
theorem dJ8_equals_25 : decode cJ8_equals 25 = .ok (.getfield 17, 3) := dk_180 0 17 (dk_at dksJ8_equals_1 1 rfl rfl)
theorem dJ8_equals_28 : decode cJ8_equals 28 = .ok (.aload_n 2, 1) := dk_44 (dk_at dksJ8_equals_1 4 rfl rfl)
theorem dJ8_equals_29 : decode cJ8_equals 29 = .ok (.getfield 17, 3) := dk_180 0 17 (dk_at dksJ8_equals_1 5 rfl rfl)
theorem dJ8_equals_32 : decode cJ8_equals 32 = .ok (.if_icmp .eq 5, 3) := dk_159 0 5 (dk_at dksJ8_equals_1 8 rfl rfl)
theorem dJ8_equals_35 : decode cJ8_equals 35 = .ok (.iconst 0, 1) := dk_3 (dk_at dksJ8_equals_1 11 rfl rfl)
theorem dJ8_equals_36 : decode cJ8_equals 36 = .ok (.ireturn, 1) := dk_172 (dk_at dksJ8_equals_1 12 rfl rfl)
theorem dJ8_equals_37 : decode cJ8_equals 37 = .ok (.aload_n 0, 1) := dk_42 (dk_at dksJ8_equals_1 13 rfl rfl)
theorem dJ8_equals_38 : decode cJ8_equals 38 = .ok (.getfield 24, 3) := dk_180 0 24 (dk_at dksJ8_equals_1 14 rfl rfl)
theorem dJ8_equals_41 : decode cJ8_equals 41 = .ok (.lstore_n 3, 1) := dk_66 (dk_at dksJ8_equals_1 17 rfl rfl)
theorem dJ8_equals_42 : decode cJ8_equals 42 = .ok (.aload_n 2, 1) := dk_44 (dk_at dksJ8_equals_1 18 rfl rfl)
theorem dJ8_equals_43 : decode cJ8_equals 43 = .ok (.getfield 24, 3) := dk_180 0 24 (dk_at dksJ8_equals_1 19 rfl rfl)
theorem dJ8_equals_46 : decode cJ8_equals 46 = .ok (.lstore 5, 2) := dk_55 5 (dk_at dksJ8_equals_1 22 rfl rfl)
theorem dJ8_equals_48 : decode cJ8_equals 48 = .ok (.lload_n 3, 1) := dk_33 (dk_at dksJ8_equals_2 0 rfl rfl)
theorem dJ8_equals_49 : decode cJ8_equals 49 = .ok (.ldc2_w 125, 3) := dk_20 0 125 (dk_at dksJ8_equals_2 1 rfl rfl)
theorem dJ8_equals_52 : decode cJ8_equals 52 = .ok (.lcmp, 1) := dk_148 (dk_at dksJ8_equals_2 4 rfl rfl)
theorem dJ8_equals_53 : decode cJ8_equals 53 = .ok (.ifCond .eq 34, 3) := dk_153 0 34 (dk_at dksJ8_equals_2 5 rfl rfl)
theorem dJ8_equals_56 : decode cJ8_equals 56 = .ok (.lload 5, 2) := dk_22 5 (dk_at dksJ8_equals_2 8 rfl rfl)
theorem dJ8_equals_58 : decode cJ8_equals 58 = .ok (.ldc2_w 125, 3) := dk_20 0 125 (dk_at dksJ8_equals_2 10 rfl rfl)
theorem dJ8_equals_61 : decode cJ8_equals 61 = .ok (.lcmp, 1) := dk_148 (dk_at dksJ8_equals_2 13 rfl rfl)
theorem dJ8_equals_62 : decode cJ8_equals 62 = .ok (.ifCond .ne 12, 3) := dk_154 0 12 (dk_at dksJ8_equals_2 14 rfl rfl)
theorem dJ8_equals_65 : decode cJ8_equals 65 = .ok (.aload_n 2, 1) := dk_44 (dk_at dksJ8_equals_2 17 rfl rfl)
theorem dJ8_equals_66 : decode cJ8_equals 66 = .ok (.getfield 28, 3) := dk_180 0 28 (dk_at dksJ8_equals_2 18 rfl rfl)
theorem dJ8_equals_69 : decode cJ8_equals 69 = .ok (.invokestatic 121, 3) := dk_184 0 121 (dk_at dksJ8_equals_2 21 rfl rfl)
theorem dJ8_equals_72 : decode cJ8_equals 72 = .ok (.lstore 5, 2) := dk_55 5 (dk_at dksJ8_equals_3 0 rfl rfl)
theorem dJ8_equals_74 : decode cJ8_equals 74 = .ok (.lload 5, 2) := dk_22 5 (dk_at dksJ8_equals_3 2 rfl rfl)
theorem dJ8_equals_76 : decode cJ8_equals 76 = .ok (.lload_n 3, 1) := dk_33 (dk_at dksJ8_equals_3 4 rfl rfl)
theorem dJ8_equals_77 : decode cJ8_equals 77 = .ok (.lcmp, 1) := dk_148 (dk_at dksJ8_equals_3 5 rfl rfl)
theorem dJ8_equals_78 : decode cJ8_equals 78 = .ok (.ifCond .ne 7, 3) := dk_154 0 7 (dk_at dksJ8_equals_3 6 rfl rfl)
theorem dJ8_equals_81 : decode cJ8_equals 81 = .ok (.iconst 1, 1) := dk_4 (dk_at dksJ8_equals_3 9 rfl rfl)
theorem dJ8_equals_82 : decode cJ8_equals 82 = .ok (.goto 4, 3) := dk_167 0 4 (dk_at dksJ8_equals_3 10 rfl rfl)
theorem dJ8_equals_85 : decode cJ8_equals 85 = .ok (.iconst 0, 1) := dk_3 (dk_at dksJ8_equals_3 13 rfl rfl)
theorem dJ8_equals_86 : decode cJ8_equals 86 = .ok (.ireturn, 1) := dk_172 (dk_at dksJ8_equals_3 14 rfl rfl)
theorem dJ8_equals_87 : decode cJ8_equals 87 = .ok (.lload 5, 2) := dk_22 5 (dk_at dksJ8_equals_3 15 rfl rfl)
theorem dJ8_equals_89 : decode cJ8_equals 89 = .ok (.ldc2_w 125, 3) := dk_20 0 125 (dk_at dksJ8_equals_3 17 rfl rfl)
theorem dJ8_equals_92 : decode cJ8_equals 92 = .ok (.lcmp, 1) := dk_148 (dk_at dksJ8_equals_3 20 rfl rfl)
theorem dJ8_equals_93 : decode cJ8_equals 93 = .ok (.ifCond .eq 22, 3) := dk_153 0 22 (dk_at dksJ8_equals_3 21 rfl rfl)
theorem dJ8_equals_96 : decode cJ8_equals 96 = .ok (.lload 5, 2) := dk_22 5 (dk_at dksJ8_equals_4 0 rfl rfl)
theorem dJ8_equals_98 : decode cJ8_equals 98 = .ok (.aload_n 0, 1) := dk_42 (dk_at dksJ8_equals_4 2 rfl rfl)
theorem dJ8_equals_99 : decode cJ8_equals 99 = .ok (.getfield 28, 3) := dk_180 0 28 (dk_at dksJ8_equals_4 3 rfl rfl)
theorem dJ8_equals_102 : decode cJ8_equals 102 = .ok (.invokestatic 121, 3) := dk_184 0 121 (dk_at dksJ8_equals_4 6 rfl rfl)
theorem dJ8_equals_105 : decode cJ8_equals 105 = .ok (.lcmp, 1) := dk_148 (dk_at dksJ8_equals_4 9 rfl rfl)
theorem dJ8_equals_106 : decode cJ8_equals 106 = .ok (.ifCond .ne 7, 3) := dk_154 0 7 (dk_at dksJ8_equals_4 10 rfl rfl)
theorem dJ8_equals_109 : decode cJ8_equals 109 = .ok (.iconst 1, 1) := dk_4 (dk_at dksJ8_equals_4 13 rfl rfl)
theorem dJ8_equals_110 : decode cJ8_equals 110 = .ok (.goto 4, 3) := dk_167 0 4 (dk_at dksJ8_equals_4 14 rfl rfl)
theorem dJ8_equals_113 : decode cJ8_equals 113 = .ok (.iconst 0, 1) := dk_3 (dk_at dksJ8_equals_4 17 rfl rfl)
theorem dJ8_equals_114 : decode cJ8_equals 114 = .ok (.ireturn, 1) := dk_172 (dk_at dksJ8_equals_4 18 rfl rfl)
theorem dJ8_equals_115 : decode cJ8_equals 115 = .ok (.aload_n 0, 1) := dk_42 (dk_at dksJ8_equals_4 19 rfl rfl)
theorem dJ8_equals_116 : decode cJ8_equals 116 = .ok (.invokevirtual 302, 3) := dk_182 1 46 (dk_at dksJ8_equals_4 20 rfl rfl)
theorem dJ8_equals_119 : decode cJ8_equals 119 = .ok (.aload_n 2, 1) := dk_44 (dk_at dksJ8_equals_4 23 rfl rfl)
theorem dJ8_equals_120 : decode cJ8_equals 120 = .ok (.invokevirtual 302, 3) := dk_182 1 46 (dk_at dksJ8_equals_5 0 rfl rfl)
theorem dJ8_equals_123 : decode cJ8_equals 123 = .ok (.invokevirtual 552, 3) := dk_182 2 40 (dk_at dksJ8_equals_5 3 rfl rfl)
theorem dJ8_equals_126 : decode cJ8_equals 126 = .ok (.ireturn, 1) := dk_172 (dk_at dksJ8_equals_5 6 rfl rfl)
def dkwJ8_movePointLeft_2 : List UInt8 := [180, 0, 17, 156, 0, 13, 45, 3, 16, 7, 182, 1, 163, 167, 0, 4, 45, 176]
abbrev dktJ8_movePointLeft_2 : List UInt8 := dkwJ8_movePointLeft_2 ++ []
def dkwJ8_movePointLeft_1 : List UInt8 := [182, 1, 69, 61, 187, 0, 3, 89, 42, 180, 0, 28, 42, 180, 0, 24, 28, 3, 183, 0, 243, 78, 45]
abbrev dktJ8_movePointLeft_1 : List UInt8 := dkwJ8_movePointLeft_1 ++ dktJ8_movePointLeft_2
def dkwJ8_movePointLeft_0 : List UInt8 := [27, 154, 0, 12, 42, 180, 0, 17, 155, 0, 5, 42, 176, 42, 42, 180, 0, 17, 133, 27, 133, 97]
abbrev dktJ8_movePointLeft_0 : List UInt8 := dkwJ8_movePointLeft_0 ++ dktJ8_movePointLeft_1
theorem dksJ8_movePointLeft_0 : cJ8_movePointLeft.data.toList.drop 0 = dktJ8_movePointLeft_0 := by decide +kernel
theorem dksJ8_movePointLeft_1 : cJ8_movePointLeft.data.toList.drop 22 = dktJ8_movePointLeft_1 := dk_seg dksJ8_movePointLeft_0 22 rfl rfl
theorem dksJ8_movePointLeft_2 : cJ8_movePointLeft.data.toList.drop 45 = dktJ8_movePointLeft_2 := dk_seg dksJ8_movePointLeft_1 23 rfl rfl
theorem dJ8_movePointLeft_0 : decode cJ8_movePointLeft 0 = .ok (.iload_n 1, 1) := dk_27 (dk_at dksJ8_movePointLeft_0 0 rfl rfl)
theorem dJ8_movePointLeft_1 : decode cJ8_movePointLeft 1 = .ok (.ifCond .ne 12, 3) := dk_154 0 12 (dk_at dksJ8_movePointLeft_0 1 rfl rfl)
theorem dJ8_movePointLeft_4 : decode cJ8_movePointLeft 4 = .ok (.aload_n 0, 1) := dk_42 (dk_at dksJ8_movePointLeft_0 4 rfl rfl)
theorem dJ8_movePointLeft_5 : decode cJ8_movePointLeft 5 = .ok (.getfield 17, 3) := dk_180 0 17 (dk_at dksJ8_movePointLeft_0 5 rfl rfl)
theorem dJ8_movePointLeft_8 : decode cJ8_movePointLeft 8 = .ok (.ifCond .lt 5, 3) := dk_155 0 5 (dk_at dksJ8_movePointLeft_0 8 rfl rfl)
theorem dJ8_movePointLeft_11 : decode cJ8_movePointLeft 11 = .ok (.aload_n 0, 1) := dk_42 (dk_at dksJ8_movePointLeft_0 11 rfl rfl)
theorem dJ8_movePointLeft_12 : decode cJ8_movePointLeft 12 = .ok (.areturn, 1) := dk_176 (dk_at dksJ8_movePointLeft_0 12 rfl rfl)
theorem dJ8_movePointLeft_13 : decode cJ8_movePointLeft 13 = .ok (.aload_n 0, 1) := dk_42 (dk_at dksJ8_movePointLeft_0 13 rfl rfl)
theorem dJ8_movePointLeft_14 : decode cJ8_movePointLeft 14 = .ok (.aload_n 0, 1) := dk_42 (dk_at dksJ8_movePointLeft_0 14 rfl rfl)
theorem dJ8_movePointLeft_15 : decode cJ8_movePointLeft 15 = .ok (.getfield 17, 3) := dk_180 0 17 (dk_at dksJ8_movePointLeft_0 15 rfl rfl)
theorem dJ8_movePointLeft_18 : decode cJ8_movePointLeft 18 = .ok (.i2l, 1) := dk_133 (dk_at dksJ8_movePointLeft_0 18 rfl rfl)
theorem dJ8_movePointLeft_19 : decode cJ8_movePointLeft 19 = .ok (.iload_n 1, 1) := dk_27 (dk_at dksJ8_movePointLeft_0 19 rfl rfl)
theorem dJ8_movePointLeft_20 : decode cJ8_movePointLeft 20 = .ok (.i2l, 1) := dk_133 (dk_at dksJ8_movePointLeft_0 20 rfl rfl)
theorem dJ8_movePointLeft_21 : decode cJ8_movePointLeft 21 = .ok (.ladd, 1) := dk_97 (dk_at dksJ8_movePointLeft_0 21 rfl rfl)
theorem dJ8_movePointLeft_22 : decode cJ8_movePointLeft 22 = .ok (.invokevirtual 325, 3) := dk_182 1 69 (dk_at dksJ8_movePointLeft_1 0 rfl rfl)
theorem dJ8_movePointLeft_25 : decode cJ8_movePointLeft 25 = .ok (.istore_n 2, 1) := dk_61 (dk_at dksJ8_movePointLeft_1 3 rfl rfl)
theorem dJ8_movePointLeft_26 : decode cJ8_movePointLeft 26 = .ok (.new 3, 3) := dk_187 0 3 (dk_at dksJ8_movePointLeft_1 4 rfl rfl)
theorem dJ8_movePointLeft_29 : decode cJ8_movePointLeft 29 = .ok (.dup, 1) := dk_89 (dk_at dksJ8_movePointLeft_1 7 rfl rfl)
theorem dJ8_movePointLeft_30 : decode cJ8_movePointLeft 30 = .ok (.aload_n 0, 1) := dk_42 (dk_at dksJ8_movePointLeft_1 8 rfl rfl)
theorem dJ8_movePointLeft_31 : decode cJ8_movePointLeft 31 = .ok (.getfield 28, 3) := dk_180 0 28 (dk_at dksJ8_movePointLeft_1 9 rfl rfl)
theorem dJ8_movePointLeft_34 : decode cJ8_movePointLeft 34 = .ok (.aload_n 0, 1) := dk_42 (dk_at dksJ8_movePointLeft_1 12 rfl rfl)
theorem dJ8_movePointLeft_35 : decode cJ8_movePointLeft 35 = .ok (.getfield 24, 3) := dk_180 0 24 (dk_at dksJ8_movePointLeft_1 13 rfl rfl)
theorem dJ8_movePointLeft_38 : decode cJ8_movePointLeft 38 = .ok (.iload_n 2, 1) := dk_28 (dk_at dksJ8_movePointLeft_1 16 rfl rfl)
theorem dJ8_movePointLeft_39 : decode cJ8_movePointLeft 39 = .ok (.iconst 0, 1) := dk_3 (dk_at dksJ8_movePointLeft_1 17 rfl rfl)
theorem dJ8_movePointLeft_40 : decode cJ8_movePointLeft 40 = .ok (.invokespecial 243, 3) := dk_183 0 243 (dk_at dksJ8_movePointLeft_1 18 rfl rfl)
theorem dJ8_movePointLeft_43 : decode cJ8_movePointLeft 43 = .ok (.astore_n 3, 1) := dk_78 (dk_at dksJ8_movePointLeft_1 21 rfl rfl)
theorem dJ8_movePointLeft_44 : decode cJ8_movePointLeft 44 = .ok (.aload_n 3, 1) := dk_45 (dk_at dksJ8_movePointLeft_1 22 rfl rfl)
theorem dJ8_movePointLeft_45 : decode cJ8_movePointLeft 45 = .ok (.getfield 17, 3) := dk_180 0 17 (dk_at dksJ8_movePointLeft_2 0 rfl rfl)
theorem dJ8_movePointLeft_48 : decode cJ8_movePointLeft 48 = .ok (.ifCond .ge 13, 3) := dk_156 0 13 (dk_at dksJ8_movePointLeft_2 3 rfl rfl)
theorem dJ8_movePointLeft_51 : decode cJ8_movePointLeft 51 = .ok (.aload_n 3, 1) := dk_45 (dk_at dksJ8_movePointLeft_2 6 rfl rfl)
theorem dJ8_movePointLeft_52 : decode cJ8_movePointLeft 52 = .ok (.iconst 0, 1) := dk_3 (dk_at dksJ8_movePointLeft_2 7 rfl rfl)
theorem dJ8_movePointLeft_53 : decode cJ8_movePointLeft 53 = .ok (.bipush 7, 2) := dk_16 7 (dk_at dksJ8_movePointLeft_2 8 rfl rfl)
theorem dJ8_movePointLeft_55 : decode cJ8_movePointLeft 55 = .ok (.invokevirtual 419, 3) := dk_182 1 163 (dk_at dksJ8_movePointLeft_2 10 rfl rfl)
theorem dJ8_movePointLeft_58 : decode cJ8_movePointLeft 58 = .ok (.goto 4, 3) := dk_167 0 4 (dk_at dksJ8_movePointLeft_2 13 rfl rfl)
theorem dJ8_movePointLeft_61 : decode cJ8_movePointLeft 61 = .ok (.aload_n 3, 1) := dk_45 (dk_at dksJ8_movePointLeft_2 16 rfl rfl)
theorem dJ8_movePointLeft_62 : decode cJ8_movePointLeft 62 = .ok (.areturn, 1) := dk_176 (dk_at dksJ8_movePointLeft_2 17 rfl rfl)
def dkwJ8_min_0 : List UInt8 := [42, 43, 182, 1, 224, 157, 0, 7, 42, 167, 0, 4, 43, 176]
abbrev dktJ8_min_0 : List UInt8 := dkwJ8_min_0 ++ []
theorem dksJ8_min_0 : cJ8_min.data.toList.drop 0 = dktJ8_min_0 := by decide +kernel
theorem dJ8_min_0 : decode cJ8_min 0 = .ok (.aload_n 0, 1) := dk_42 (dk_at dksJ8_min_0 0 rfl rfl)
theorem dJ8_min_1 : decode cJ8_min 1 = .ok (.aload_n 1, 1) := dk_43 (dk_at dksJ8_min_0 1 rfl rfl)
theorem dJ8_min_2 : decode cJ8_min 2 = .ok (.invokevirtual 480, 3) := dk_182 1 224 (dk_at dksJ8_min_0 2 rfl rfl)
theorem dJ8_min_5 : decode cJ8_min 5 = .ok (.ifCond .gt 7, 3) := dk_157 0 7 (dk_at dksJ8_min_0 5 rfl rfl)
theorem dJ8_min_8 : decode cJ8_min 8 = .ok (.aload_n 0, 1) := dk_42 (dk_at dksJ8_min_0 8 rfl rfl)
theorem dJ8_min_9 : decode cJ8_min 9 = .ok (.goto 4, 3) := dk_167 0 4 (dk_at dksJ8_min_0 9 rfl rfl)
theorem dJ8_min_12 : decode cJ8_min 12 = .ok (.aload_n 1, 1) := dk_43 (dk_at dksJ8_min_0 12 rfl rfl)
theorem dJ8_min_13 : decode cJ8_min 13 = .ok (.areturn, 1) := dk_176 (dk_at dksJ8_min_0 13 rfl rfl)
def dkwJ21_compare_0 : List UInt8 := [30, 32, 148, 156, 0, 7, 2, 167, 0, 14, 30, 32, 148, 154, 0, 7, 3, 167, 0, 4, 4, 172]
abbrev dktJ21_compare_0 : List UInt8 := dkwJ21_compare_0 ++ []
theorem dksJ21_compare_0 : cJ21_compare.data.toList.drop 0 = dktJ21_compare_0 := by decide +kernel
theorem dJ21_compare_0 : decode cJ21_compare 0 = .ok (.lload_n 0, 1) := dk_30 (dk_at dksJ21_compare_0 0 rfl rfl)
theorem dJ21_compare_1 : decode cJ21_compare 1 = .ok (.lload_n 2, 1) := dk_32 (dk_at dksJ21_compare_0 1 rfl rfl)
theorem dJ21_compare_2 : decode cJ21_compare 2 = .ok (.lcmp, 1) := dk_148 (dk_at dksJ21_compare_0 2 rfl rfl)
theorem dJ21_compare_3 : decode cJ21_compare 3 = .ok (.ifCond .ge 7, 3) := dk_156 0 7 (dk_at dksJ21_compare_0 3 rfl rfl)
theorem dJ21_compare_6 : decode cJ21_compare 6 = .ok (.iconst (-1), 1) := dk_2 (dk_at dksJ21_compare_0 6 rfl rfl)
theorem dJ21_compare_7 : decode cJ21_compare 7 = .ok (.goto 14, 3) := dk_167 0 14 (dk_at dksJ21_compare_0 7 rfl rfl)
theorem dJ21_compare_10 : decode cJ21_compare 10 = .ok (.lload_n 0, 1) := dk_30 (dk_at dksJ21_compare_0 10 rfl rfl)
theorem dJ21_compare_11 : decode cJ21_compare 11 = .ok (.lload_n 2, 1) := dk_32 (dk_at dksJ21_compare_0 11 rfl rfl)
theorem dJ21_compare_12 : decode cJ21_compare 12 = .ok (.lcmp, 1) := dk_148 (dk_at dksJ21_compare_0 12 rfl rfl)
theorem dJ21_compare_13 : decode cJ21_compare 13 = .ok (.ifCond .ne 7, 3) := dk_154 0 7 (dk_at dksJ21_compare_0 13 rfl rfl)
theorem dJ21_compare_16 : decode cJ21_compare 16 = .ok (.iconst 0, 1) := dk_3 (dk_at dksJ21_compare_0 16 rfl rfl)
theorem dJ21_compare_17 : decode cJ21_compare 17 = .ok (.goto 4, 3) := dk_167 0 4 (dk_at dksJ21_compare_0 17 rfl rfl)
theorem dJ21_compare_20 : decode cJ21_compare 20 = .ok (.iconst 1, 1) := dk_4 (dk_at dksJ21_compare_0 20 rfl rfl)
theorem dJ21_compare_21 : decode cJ21_compare 21 = .ok (.ireturn, 1) := dk_172 (dk_at dksJ21_compare_0 21 rfl rfl)
theorem fit_negE {w : Int} (h : ¬ fit w) : ¬ fit (-w) := by unfold fit at *; omega
theorem nofit_0 {w : Int} (h : ¬ fit w) : w ≠ 0 := by unfold fit at *; omega
theorem cm_fin {X Y u s w t : Int} (h : (X = u ∧ Y = w ∧ s = t) ∨ (X = cpt (u * tn (t - s)) ∧ Y = w ∧ s < t) ∨ (X = u ∧ Y = cpt (w * tn (s - t)) ∧ t < s)) (hu : fit u) (hw : fit w) : (X ≠ -9223372036854775808 → Y ≠ -9223372036854775808 → cmpI X.natAbs Y.natAbs = cmM u s w t) ∧ (X ≠ -9223372036854775808 → Y = -9223372036854775808 → -1 = cmM u s w t) ∧ (X = -9223372036854775808 → Y ≠ -9223372036854775808 → 1 = cmM u s w t) ∧ ¬ (X = -9223372036854775808 ∧ Y = -9223372036854775808) := by
  have h1 := hu; have h2 := hw
  unfold fit at h1 h2
  rcases h with ⟨rfl, rfl, e⟩ | ⟨e, rfl, e2⟩ | ⟨rfl, e, e2⟩
  · rw [cmM_s (by omega), tn_0 (by omega), Int.mul_one]
    exact ⟨fun _ _ => rfl, fun _ q => by omega, fun q => by omega, by omega⟩
  · rw [cmM_s (by omega)]
    rcases cpt_cases (u * tn (t - s)) with ⟨k1, k2, k3⟩ | ⟨k1, k2⟩
    · rw [k2] at e; rw [e]; exact ⟨fun _ _ => rfl, fun _ q => by omega, fun q => by omega, by omega⟩
    · rw [k2] at e; rw [cmp_nf1 k1 hw]; exact ⟨fun q => by omega, fun q => by omega, fun _ _ => rfl, by omega⟩
  · rw [cmM_t (by omega)]
    rcases cpt_cases (w * tn (s - t)) with ⟨k1, k2, k3⟩ | ⟨k1, k2⟩
    · rw [k2] at e; rw [e]; exact ⟨fun _ _ => rfl, fun _ q => by omega, fun q => by omega, by omega⟩
    · rw [k2] at e; rw [cmp_nf2 k1 hu]; exact ⟨fun _ q => by omega, fun _ _ => rfl, fun q => by omega, by omega⟩
theorem at_uni {g : GG} {M : Nat → Option PV} {q : Nat} {u s w t : Int} {o o2 : Option Nat} (h1 : at_ g M q (vD u s o)) (h2 : at_ g M q (vD w t o2)) (hu : fit u) (hw : fit w) (hs : -2147483648 ≤ s ∧ s ≤ 2147483647) (ht : -2147483648 ≤ t ∧ t ≤ 2147483647) : u = w ∧ s = t := by
  rcases h1 with ⟨a1, a2⟩ | a1 <;> rcases h2 with ⟨b1, b2⟩ | b1
  · have e := a2.symm.trans b2
    have e2 := Sum.inl.inj (Option.some.inj e)
    exact ⟨congrArg Prod.fst e2, congrArg (fun z => z.2.1) e2⟩
  · exact absurd b1.lt (by omega)
  · exact absurd a1.lt (by omega)
  · obtain ⟨-, c, c1, r, r1, r2, r3, r4, r5⟩ := a1.2.1
    obtain ⟨-, d, d1, r', p1, p2, p3, p4, p5⟩ := b1.2.1
    have ec : c = d := Option.some.inj (c1.symm.trans d1)
    subst ec
    have er := Option.some.inj (r1.symm.trans (show vwCl[13]? = some (RJ8, TJ8, 5) from rfl))
    have er2 := Option.some.inj (p1.symm.trans (show vwCl[13]? = some (RJ8, TJ8, 5) from rfl))
    subst er; subst er2
    have k4 := (r5 4 (by decide)).symm.trans (p5 4 (by decide))
    have k1 := (r5 1 (by decide)).symm.trans (p5 1 (by decide))
    have k4 : Value.long (jL (cpt u)) = Value.long (jL (cpt w)) := Option.some.inj k4
    have k1 : Value.int (jI s) = Value.int (jI t) := Option.some.inj k1
    rw [cpt_1 hu, cpt_1 hw] at k4
    unfold fit at hu hw
    exact ⟨(jL_eq (by omega) (by omega)).mp (Value.long.inj k4), (jI_eq hs ht).mp (Value.int.inj k1)⟩
theorem nd_J8_subtract : yJ8_subtract.cls ≠ "java/lang/invoke/MethodHandle" ∧ yJ8_subtract.cls ≠ "java/lang/invoke/VarHandle" ∧ (parseMethodDescriptor yJ8_subtract.desc).map (fun d => d.parameters.length) = some 1 := by decide +kernel
set_option maxRecDepth 100000 in
set_option maxHeartbeats 16000000 in
theorem ct_J8_subtract {g : GG} {l : Launch} (M : Nat → Option PV) (q : Nat) (u : Int) (s : Int) (o : Option Nat) (q2 : Nat) (w : Int) (t : Int) (o2 : Option Nat) (hx : at_ g M q (vD u s o)) (hy : at_ g M q2 (vD w t o2)) (hbv : u.natAbs < bw 4) (hbw : w.natAbs < bw 4) (hs : -2147483648 ≤ s ∧ s ≤ 2147483647) (ht : -2147483648 ≤ t ∧ t ≤ 2147483647) (hd : -18 ≤ s - t ∧ s - t ≤ 18) : Ct g l yJ8_subtract (ws_ yJ8_subtract cJ8_subtract 2 (Option.some (Jvm.ClassFile.FieldType.object "java/math/BigDecimal"))) 8 182 8 51 [.ref q, .ref q2] [pl g M] (fun v9 Ws9 => ∃ M1 : Nat → Option PV, ∃ r1 : Nat, ∃ o1 : Option Nat, v9 = some (.ref r1) ∧ (le_ M M1) ∧ (at_ g M1 r1 (vD (adV u s (-w) t) (grI s t) o1)) ∧ Ws9 = [pl g M1]) (nox) := by
  refine Ct.of (cc := cJ8_subtract) (nL := 2) (ret := (Option.some (Jvm.ClassFile.FieldType.object "java/math/BigDecimal"))) (by decide) rfl (Nat.le_of_ble_eq_true rfl) ?_
  intro x hg hl hPo hPx hmc hms F
  subst hg; subst hl
  refine SW.cast (L' := [(0, .ref q), (1, .ref q2)]) ?_ rfl rfl rfl
  refine sw_factD 0 rfl hx (fun hfo hfb => ?_)
  have hcr_u := cpt_rng u
  have hcc_u := cpt_cases u
  refine sw_factD 0 rfl hy (fun hfo2 hfb2 => ?_)
  have hcr_w := cpt_rng w
  have hcc_w := cpt_cases w
  have hbw6 := Nat.lt_of_lt_of_le hbw (bw_mono (show 4 ≤ 6 by decide))
  refine sw_aload_n (n := 1) F 0 (some q) rfl rfl rfl dJ8_subtract_0 rfl ?_
  refine sw_getD (n := 4) F 0 rfl hx (k := 4) ⟨(RJ8, TJ8, 5), rfl, by decide, q264, in_J8, Or.inl rfl⟩ (.long (jL (cpt u))) (fun _ => rfl) dJ8_subtract_1 rfl ?_
  refine sw_ldc2 (n := 7) F (-9223372036854775808) q250 (by decide) dJ8_subtract_4 rfl ?_
  refine sw_lcmp (n := 8) F (by omega) (by decide) dJ8_subtract_7 rfl ?_
  refine sw_if_eq (n := 11) F (by omega) (tgt := 66) dJ8_subtract_8 (by decide) rfl (fun c_8 => ?_) (fun c_8 => ?_)
  ·
    have c_8 : cpt u = -9223372036854775808 := by revert c_8; (repeat' split) <;> omega
    have hnf_u : ¬ fit u := cpt_y c_8
    obtain ⟨b9, hb9⟩ : ∃ b, o = some b := by cases o9_ : o with | none => exact absurd (hfo o9_) hnf_u | some b => exact ⟨b, rfl⟩
    obtain ⟨a9, ha9⟩ := hfb b9 hb9
    subst hb9
    refine sw_aload_n (n := 67) F 1 (some q2) rfl rfl rfl dJ8_subtract_66 rfl ?_
    refine sw_getD (n := 70) F 0 rfl hy (k := 4) ⟨(RJ8, TJ8, 5), rfl, by decide, q264, in_J8, Or.inl rfl⟩ (.long (jL (cpt w))) (fun _ => rfl) dJ8_subtract_67 rfl ?_
    refine sw_ldc2 (n := 73) F (-9223372036854775808) q250 (by decide) dJ8_subtract_70 rfl ?_
    refine sw_lcmp (n := 74) F (by omega) (by decide) dJ8_subtract_73 rfl ?_
    refine sw_if_eq (n := 77) F (by omega) (tgt := 98) dJ8_subtract_74 (by decide) rfl (fun c_74 => ?_) (fun c_74 => ?_)
    ·
      have c_74 : cpt w = -9223372036854775808 := by revert c_74; (repeat' split) <;> omega
      have hnf_w : ¬ fit w := cpt_y c_74
      obtain ⟨b8, hb8⟩ : ∃ b, o2 = some b := by cases o9_ : o2 with | none => exact absurd (hfo2 o9_) hnf_w | some b => exact ⟨b, rfl⟩
      obtain ⟨a8, ha8⟩ := hfb2 b8 hb8
      subst hb8
      refine sw_aload_n (n := 99) F 0 (some q) rfl rfl rfl dJ8_subtract_98 rfl ?_
      refine sw_getD (n := 102) F 0 rfl hx (k := 0) ⟨(RJ8, TJ8, 5), rfl, by decide, q260, in_J8, Or.inl rfl⟩ (.ref b9) (fun _ => rfl) dJ8_subtract_99 rfl ?_
      refine sw_aload_n (n := 103) F 0 (some q) rfl rfl rfl dJ8_subtract_102 rfl ?_
      refine sw_getD (n := 106) F 0 rfl hx (k := 1) ⟨(RJ8, TJ8, 5), rfl, by decide, q261, in_J8, Or.inl rfl⟩ (.int (jI s)) (fun _ => rfl) dJ8_subtract_103 rfl ?_
      refine sw_aload_n (n := 107) F 1 (some q2) rfl rfl rfl dJ8_subtract_106 rfl ?_
      refine sw_getD (n := 110) F 0 rfl hy (k := 0) ⟨(RJ8, TJ8, 5), rfl, by decide, q260, in_J8, Or.inl rfl⟩ (.ref b8) (fun _ => rfl) dJ8_subtract_107 rfl ?_
      refine sw_callV (n := 113) F (ct_J19_negate (g := xg x) (l := xl x) M b8 w a8 ha8 (by exact nofit_0 hnf_w) (by exact hbw6)) (rcvI F 0 rfl ha8) q1560 q1328 q1329 q127 q1330 nd_J19_negate rfl (by decide) [0] rfl [] rfl 7 45 ⟨by omega, by omega⟩ [.int (jI s), .ref b9] rfl (Nat.le_of_ble_eq_true rfl) dJ8_subtract_110 rfl (fun _ _ h => h.elim) (fun v Ws h => ?_)
      obtain ⟨M1_1, r1_2, a1_3, rfl, hle_4, hat_5, rfl⟩ := h
      show SW x [pl (xg x) M1_1] _ _ _ _ [.ref r1_2, .int (jI s), .ref b9]
      refine sw_aload_n (n := 114) F 1 (some q2) rfl rfl rfl dJ8_subtract_113 rfl ?_
      refine sw_getD (n := 117) F 0 rfl (at_.up hy hle_4) (k := 1) ⟨(RJ8, TJ8, 5), rfl, by decide, q261, in_J8, Or.inl rfl⟩ (.int (jI t)) (fun _ => rfl) dJ8_subtract_114 rfl ?_
      refine sw_callS (n := 120) F (ct_J8_add_6 (g := xg x) (l := xl x) M1_1 b9 u a9 s r1_2 (-w) a1_3 t (at_.up ha9 hle_4) hat_5 (by assumption) (by first | exact fit_negE hnf_w | assumption) hbv (by first | assumption | exact nA_neg hbw) hs ht hd) q1504 q1505 q112 q1506 nd_J8_add_6 rfl (by decide) [0] rfl [] rfl 0 0 ⟨by omega, by omega⟩ [] rfl (Nat.le_of_ble_eq_true rfl) dJ8_subtract_117 rfl (fun _ _ h => h.elim) (fun v Ws h => ?_)
      obtain ⟨M1_6, r1_7, o1_8, rfl, hle_9, hat_10, rfl⟩ := h
      show SW x [pl (xg x) M1_6] _ _ _ _ [.ref r1_7]
      exact sw_aret F (some r1_7) _ rfl rfl (by first | exact Or.inl ⟨_, rfl⟩ | exact Or.inr ⟨_, rfl⟩) dJ8_subtract_120 (by rw [hPo]; exact ⟨M1_6, r1_7, o1_8, rfl, (le_.tr hle_4 hle_9), hat_10, rfl⟩)
    ·
      have c_74 : cpt w ≠ -9223372036854775808 := by revert c_74; (repeat' split) <;> omega
      have hfit_w : fit w := cpt_n c_74
      have hfr_w := hfit_w
      unfold fit at hfr_w
      refine sw_aload_n (n := 78) F 1 (some q2) rfl rfl rfl dJ8_subtract_77 rfl ?_
      refine sw_getD (n := 81) F 0 rfl hy (k := 4) ⟨(RJ8, TJ8, 5), rfl, by decide, q264, in_J8, Or.inl rfl⟩ (.long (jL (cpt w))) (fun _ => rfl) dJ8_subtract_78 rfl ?_
      refine SW.cast (st' := [.long (jL w)]) ?_ rfl rfl (by rw [cpt_1 hfit_w])
      refine sw_lneg (n := 82) F dJ8_subtract_81 rfl ?_
      refine sw_aload_n (n := 83) F 1 (some q2) rfl rfl rfl dJ8_subtract_82 rfl ?_
      refine sw_getD (n := 86) F 0 rfl hy (k := 1) ⟨(RJ8, TJ8, 5), rfl, by decide, q261, in_J8, Or.inl rfl⟩ (.int (jI t)) (fun _ => rfl) dJ8_subtract_83 rfl ?_
      refine sw_aload_n (n := 87) F 0 (some q) rfl rfl rfl dJ8_subtract_86 rfl ?_
      refine sw_getD (n := 90) F 0 rfl hx (k := 0) ⟨(RJ8, TJ8, 5), rfl, by decide, q260, in_J8, Or.inl rfl⟩ (.ref b9) (fun _ => rfl) dJ8_subtract_87 rfl ?_
      refine sw_aload_n (n := 91) F 0 (some q) rfl rfl rfl dJ8_subtract_90 rfl ?_
      refine sw_getD (n := 94) F 0 rfl hx (k := 1) ⟨(RJ8, TJ8, 5), rfl, by decide, q261, in_J8, Or.inl rfl⟩ (.int (jI s)) (fun _ => rfl) dJ8_subtract_91 rfl ?_
      refine sw_callS (n := 97) F (ct_J8_add_5 (g := xg x) (l := xl x) M (-w) t b9 u a9 s ha9 (by first | omega | assumption) (by first | exact fit_negE hnf_w | assumption) (by first | assumption | exact nA_neg hbw) ht hs (by first | omega | assumption)) q1488 q1489 q112 q1490 nd_J8_add_5 rfl (by decide) [0] rfl [] rfl 1 6 ⟨by omega, by omega⟩ [] rfl (Nat.le_of_ble_eq_true rfl) dJ8_subtract_94 rfl (fun _ _ h => h.elim) (fun v Ws h => ?_)
      obtain ⟨M1_11, r1_12, o1_13, rfl, hle_14, hat_15, rfl⟩ := h
      show SW x [pl (xg x) M1_11] _ _ _ _ [.ref r1_12]
      exact sw_aret F (some r1_12) _ rfl rfl (by first | exact Or.inl ⟨_, rfl⟩ | exact Or.inr ⟨_, rfl⟩) dJ8_subtract_97 (by rw [hPo]; exact ⟨M1_11, r1_12, o1_13, rfl, hle_14, (by first | assumption | (rw [(adV_c u s (-w) t).1, (adV_c u s (-w) t).2]; assumption)), rfl⟩)
  ·
    have c_8 : cpt u ≠ -9223372036854775808 := by revert c_8; (repeat' split) <;> omega
    have hfit_u : fit u := cpt_n c_8
    have hfr_u := hfit_u
    unfold fit at hfr_u
    refine sw_aload_n (n := 12) F 1 (some q2) rfl rfl rfl dJ8_subtract_11 rfl ?_
    refine sw_getD (n := 15) F 0 rfl hy (k := 4) ⟨(RJ8, TJ8, 5), rfl, by decide, q264, in_J8, Or.inl rfl⟩ (.long (jL (cpt w))) (fun _ => rfl) dJ8_subtract_12 rfl ?_
    refine sw_ldc2 (n := 18) F (-9223372036854775808) q250 (by decide) dJ8_subtract_15 rfl ?_
    refine sw_lcmp (n := 19) F (by omega) (by decide) dJ8_subtract_18 rfl ?_
    refine sw_if_eq (n := 22) F (by omega) (tgt := 43) dJ8_subtract_19 (by decide) rfl (fun c_19 => ?_) (fun c_19 => ?_)
    ·
      have c_19 : cpt w = -9223372036854775808 := by revert c_19; (repeat' split) <;> omega
      have hnf_w : ¬ fit w := cpt_y c_19
      obtain ⟨b8, hb8⟩ : ∃ b, o2 = some b := by cases o9_ : o2 with | none => exact absurd (hfo2 o9_) hnf_w | some b => exact ⟨b, rfl⟩
      obtain ⟨a8, ha8⟩ := hfb2 b8 hb8
      subst hb8
      refine sw_aload_n (n := 44) F 0 (some q) rfl rfl rfl dJ8_subtract_43 rfl ?_
      refine sw_getD (n := 47) F 0 rfl hx (k := 4) ⟨(RJ8, TJ8, 5), rfl, by decide, q264, in_J8, Or.inl rfl⟩ (.long (jL (cpt u))) (fun _ => rfl) dJ8_subtract_44 rfl ?_
      refine SW.cast (st' := [.long (jL u)]) ?_ rfl rfl (by rw [cpt_1 hfit_u])
      refine sw_aload_n (n := 48) F 0 (some q) rfl rfl rfl dJ8_subtract_47 rfl ?_
      refine sw_getD (n := 51) F 0 rfl hx (k := 1) ⟨(RJ8, TJ8, 5), rfl, by decide, q261, in_J8, Or.inl rfl⟩ (.int (jI s)) (fun _ => rfl) dJ8_subtract_48 rfl ?_
      refine sw_aload_n (n := 52) F 1 (some q2) rfl rfl rfl dJ8_subtract_51 rfl ?_
      refine sw_getD (n := 55) F 0 rfl hy (k := 0) ⟨(RJ8, TJ8, 5), rfl, by decide, q260, in_J8, Or.inl rfl⟩ (.ref b8) (fun _ => rfl) dJ8_subtract_52 rfl ?_
      refine sw_callV (n := 58) F (ct_J19_negate (g := xg x) (l := xl x) M b8 w a8 ha8 (by exact nofit_0 hnf_w) (by exact hbw6)) (rcvI F 0 rfl ha8) q1560 q1328 q1329 q127 q1330 nd_J19_negate rfl (by decide) [0] rfl [] rfl 7 45 ⟨by omega, by omega⟩ [.int (jI s), .long (jL u)] rfl (Nat.le_of_ble_eq_true rfl) dJ8_subtract_55 rfl (fun _ _ h => h.elim) (fun v Ws h => ?_)
      obtain ⟨M1_16, r1_17, a1_18, rfl, hle_19, hat_20, rfl⟩ := h
      show SW x [pl (xg x) M1_16] _ _ _ _ [.ref r1_17, .int (jI s), .long (jL u)]
      refine sw_aload_n (n := 59) F 1 (some q2) rfl rfl rfl dJ8_subtract_58 rfl ?_
      refine sw_getD (n := 62) F 0 rfl (at_.up hy hle_19) (k := 1) ⟨(RJ8, TJ8, 5), rfl, by decide, q261, in_J8, Or.inl rfl⟩ (.int (jI t)) (fun _ => rfl) dJ8_subtract_59 rfl ?_
      refine sw_callS (n := 65) F (ct_J8_add_5 (g := xg x) (l := xl x) M1_16 u s r1_17 (-w) a1_18 t hat_20 (by first | omega | assumption) (by first | exact fit_negE hnf_w | assumption) (by first | assumption | exact nA_neg hbw) hs ht hd) q1488 q1489 q112 q1490 nd_J8_add_5 rfl (by decide) [0] rfl [] rfl 0 0 ⟨by omega, by omega⟩ [] rfl (Nat.le_of_ble_eq_true rfl) dJ8_subtract_62 rfl (fun _ _ h => h.elim) (fun v Ws h => ?_)
      obtain ⟨M1_21, r1_22, o1_23, rfl, hle_24, hat_25, rfl⟩ := h
      show SW x [pl (xg x) M1_21] _ _ _ _ [.ref r1_22]
      exact sw_aret F (some r1_22) _ rfl rfl (by first | exact Or.inl ⟨_, rfl⟩ | exact Or.inr ⟨_, rfl⟩) dJ8_subtract_65 (by rw [hPo]; exact ⟨M1_21, r1_22, o1_23, rfl, (le_.tr hle_19 hle_24), hat_25, rfl⟩)
    ·
      have c_19 : cpt w ≠ -9223372036854775808 := by revert c_19; (repeat' split) <;> omega
      have hfit_w : fit w := cpt_n c_19
      have hfr_w := hfit_w
      unfold fit at hfr_w
      refine sw_aload_n (n := 23) F 0 (some q) rfl rfl rfl dJ8_subtract_22 rfl ?_
      refine sw_getD (n := 26) F 0 rfl hx (k := 4) ⟨(RJ8, TJ8, 5), rfl, by decide, q264, in_J8, Or.inl rfl⟩ (.long (jL (cpt u))) (fun _ => rfl) dJ8_subtract_23 rfl ?_
      refine SW.cast (st' := [.long (jL u)]) ?_ rfl rfl (by rw [cpt_1 hfit_u])
      refine sw_aload_n (n := 27) F 0 (some q) rfl rfl rfl dJ8_subtract_26 rfl ?_
      refine sw_getD (n := 30) F 0 rfl hx (k := 1) ⟨(RJ8, TJ8, 5), rfl, by decide, q261, in_J8, Or.inl rfl⟩ (.int (jI s)) (fun _ => rfl) dJ8_subtract_27 rfl ?_
      refine sw_aload_n (n := 31) F 1 (some q2) rfl rfl rfl dJ8_subtract_30 rfl ?_
      refine sw_getD (n := 34) F 0 rfl hy (k := 4) ⟨(RJ8, TJ8, 5), rfl, by decide, q264, in_J8, Or.inl rfl⟩ (.long (jL (cpt w))) (fun _ => rfl) dJ8_subtract_31 rfl ?_
      refine SW.cast (st' := [.long (jL w), .int (jI s), .long (jL u)]) ?_ rfl rfl (by rw [cpt_1 hfit_w])
      refine sw_lneg (n := 35) F dJ8_subtract_34 rfl ?_
      refine sw_aload_n (n := 36) F 1 (some q2) rfl rfl rfl dJ8_subtract_35 rfl ?_
      refine sw_getD (n := 39) F 0 rfl hy (k := 1) ⟨(RJ8, TJ8, 5), rfl, by decide, q261, in_J8, Or.inl rfl⟩ (.int (jI t)) (fun _ => rfl) dJ8_subtract_36 rfl ?_
      refine sw_callS (n := 42) F (ct_J8_add_2 (g := xg x) (l := xl x) M u s (-w) t (by first | omega | assumption) (by first | omega | assumption) hs ht hd) q1034 q1035 q112 q1036 nd_J8_add_2 rfl (by decide) [0] rfl [] rfl 1 6 ⟨by omega, by omega⟩ [] rfl (Nat.le_of_ble_eq_true rfl) dJ8_subtract_39 rfl (fun _ _ h => h.elim) (fun v Ws h => ?_)
      obtain ⟨M1_26, r1_27, o1_28, rfl, hle_29, hat_30, rfl⟩ := h
      show SW x [pl (xg x) M1_26] _ _ _ _ [.ref r1_27]
      exact sw_aret F (some r1_27) _ rfl rfl (by first | exact Or.inl ⟨_, rfl⟩ | exact Or.inr ⟨_, rfl⟩) dJ8_subtract_42 (by rw [hPo]; exact ⟨M1_26, r1_27, o1_28, rfl, hle_29, hat_30, rfl⟩)
theorem nd_J21_compare : yJ21_compare.cls ≠ "java/lang/invoke/MethodHandle" ∧ yJ21_compare.cls ≠ "java/lang/invoke/VarHandle" ∧ (parseMethodDescriptor yJ21_compare.desc).map (fun d => d.parameters.length) = some 2 := by decide +kernel
set_option maxRecDepth 100000 in
set_option maxHeartbeats 16000000 in
theorem ct_J21_compare {g : GG} {l : Launch} (x_ : Int) (y_ : Int) (hx : -9223372036854775808 ≤ x_ ∧ x_ ≤ 9223372036854775807) (hy : -9223372036854775808 ≤ y_ ∧ y_ ≤ 9223372036854775807) : Ct g l yJ21_compare (ws_ yJ21_compare cJ21_compare 4 (Option.some Jvm.ClassFile.FieldType.int)) 1 12 0 0 [.long (jL x_), .long (jL y_)] [] (fun v9 Ws9 => v9 = some (.int (jI (ciI x_ y_))) ∧ Ws9 = []) (nox) := by
  refine Ct.of (cc := cJ21_compare) (nL := 4) (ret := (Option.some Jvm.ClassFile.FieldType.int)) (by decide) rfl (Nat.le_of_ble_eq_true rfl) ?_
  intro x hg hl hPo hPx hmc hms F
  subst hg; subst hl
  refine SW.cast (L' := [(0, .long (jL x_)), (2, .long (jL y_))]) ?_ rfl rfl rfl
  refine sw_lload_n (n := 1) F 0 rfl rfl dJ21_compare_0 rfl ?_
  refine sw_lload_n (n := 2) F 1 rfl rfl dJ21_compare_1 rfl ?_
  refine sw_lcmp (n := 3) F (by omega) (by omega) dJ21_compare_2 rfl ?_
  refine sw_if_ge (n := 6) F (by omega) (tgt := 10) dJ21_compare_3 (by decide) rfl (fun c_3 => ?_) (fun c_3 => ?_)
  ·
    have c_3 : x_ ≥ y_ := by revert c_3; (repeat' split) <;> omega
    refine sw_lload_n (n := 11) F 0 rfl rfl dJ21_compare_10 rfl ?_
    refine sw_lload_n (n := 12) F 1 rfl rfl dJ21_compare_11 rfl ?_
    refine sw_lcmp (n := 13) F (by omega) (by omega) dJ21_compare_12 rfl ?_
    refine sw_if_ne (n := 16) F (by omega) (tgt := 20) dJ21_compare_13 (by decide) rfl (fun c_13 => ?_) (fun c_13 => ?_)
    ·
      have c_13 : x_ ≠ y_ := by revert c_13; (repeat' split) <;> omega
      refine sw_iconst (n := 21) F (1) (by decide) dJ21_compare_20 rfl ?_
      exact sw_iret F _ rfl (by first | rfl | exact jI_nz (by omega) | exact jI_nc (by omega)) dJ21_compare_21 (by rw [hPo]; exact ⟨(by congr 3; have := ciI_cases x_ y_; omega), rfl⟩)
    ·
      have c_13 : x_ = y_ := by revert c_13; (repeat' split) <;> omega
      refine sw_iconst (n := 17) F (0) (by decide) dJ21_compare_16 rfl ?_
      refine sw_goto F (n := 21) dJ21_compare_17 (by decide) ?_
      exact sw_iret F _ rfl (by first | rfl | exact jI_nz (by omega) | exact jI_nc (by omega)) dJ21_compare_21 (by rw [hPo]; exact ⟨(by congr 3; have := ciI_cases x_ y_; omega), rfl⟩)
  ·
    have c_3 : x_ < y_ := by revert c_3; (repeat' split) <;> omega
    refine sw_iconst (n := 7) F (-1) (by decide) dJ21_compare_6 rfl ?_
    refine sw_goto F (n := 21) dJ21_compare_7 (by decide) ?_
    exact sw_iret F _ rfl (by first | rfl | exact jI_nz (by omega) | exact jI_nc (by omega)) dJ21_compare_21 (by rw [hPo]; exact ⟨(by congr 3; have := ciI_cases x_ y_; omega), rfl⟩)
theorem nd_J8_longCompareMagnitude : yJ8_longCompareMagnitude.cls ≠ "java/lang/invoke/MethodHandle" ∧ yJ8_longCompareMagnitude.cls ≠ "java/lang/invoke/VarHandle" ∧ (parseMethodDescriptor yJ8_longCompareMagnitude.desc).map (fun d => d.parameters.length) = some 2 := by decide +kernel
set_option maxRecDepth 100000 in
set_option maxHeartbeats 16000000 in
theorem ct_J8_longCompareMagnitude {g : GG} {l : Launch} (x_ : Int) (y_ : Int) (hx : -9223372036854775807 ≤ x_ ∧ x_ ≤ 9223372036854775807) (hy : -9223372036854775807 ≤ y_ ∧ y_ ≤ 9223372036854775807) : Ct g l yJ8_longCompareMagnitude (ws_ yJ8_longCompareMagnitude cJ8_longCompareMagnitude 4 (Option.some Jvm.ClassFile.FieldType.int)) 2 35 0 0 [.long (jL x_), .long (jL y_)] [] (fun v9 Ws9 => v9 = some (.int (jI (cmpI x_.natAbs y_.natAbs))) ∧ Ws9 = []) (nox) := by
  refine Ct.of (cc := cJ8_longCompareMagnitude) (nL := 4) (ret := (Option.some Jvm.ClassFile.FieldType.int)) (by decide) rfl (Nat.le_of_ble_eq_true rfl) ?_
  intro x hg hl hPo hPx hmc hms F
  subst hg; subst hl
  refine SW.cast (L' := [(0, .long (jL x_)), (2, .long (jL y_))]) ?_ rfl rfl rfl
  have K9 : ∀ (a_ : Int), (0 ≤ a_ ∧ a_ ≤ 9223372036854775807 ∧ a_.natAbs = x_.natAbs) → SW x [] 0 0 9 [(0, .long (jL a_)), (2, .long (jL y_))] [] := by
    intro a_ ha
    refine sw_lload_n (n := 10) F 1 rfl rfl dJ8_longCompareMagnitude_9 rfl ?_
    have K18 : ∀ (b_ : Int), (0 ≤ b_ ∧ b_ ≤ 9223372036854775807 ∧ b_.natAbs = y_.natAbs) → SW x [] 0 0 18 [(0, .long (jL a_)), (2, .long (jL b_))] [] := by
      intro b_ hb
      refine sw_lload_n (n := 19) F 0 rfl rfl dJ8_longCompareMagnitude_18 rfl ?_
      refine sw_lload_n (n := 20) F 1 rfl rfl dJ8_longCompareMagnitude_19 rfl ?_
      refine sw_callS (n := 23) F (ct_J21_compare (g := xg x) (l := xl x) a_ b_ (by first | omega | assumption) (by first | omega | assumption)) q1552 q1553 q129 q1554 nd_J21_compare rfl (by decide) [] rfl [] rfl 0 0 ⟨by omega, by omega⟩ [] rfl (Nat.le_of_ble_eq_true rfl) dJ8_longCompareMagnitude_20 rfl (fun _ _ h => h.elim) (fun v Ws h => ?_)
      obtain ⟨rfl, rfl⟩ := h
      show SW x [] _ _ _ _ [.int (jI (ciI a_ b_))]
      exact sw_iret F _ rfl (by first | rfl | exact jI_nz (by omega) | exact jI_nc (by omega)) dJ8_longCompareMagnitude_23 (by rw [hPo]; exact ⟨(by congr 3; have := ciI_cases a_ b_; have := cmpI_cases x_.natAbs y_.natAbs; omega), rfl⟩)
    refine sw_lconst (n := 11) F 0 (by decide) dJ8_longCompareMagnitude_10 rfl ?_
    refine sw_lcmp (n := 12) F (by omega) (by decide) dJ8_longCompareMagnitude_11 rfl ?_
    refine sw_if_ge (n := 15) F (by omega) (tgt := 18) dJ8_longCompareMagnitude_12 (by decide) rfl (fun c_12 => ?_) (fun c_12 => ?_)
    ·
      have c_12 : y_ ≥ 0 := by revert c_12; (repeat' split) <;> omega
      exact K18 y_ (by first | omega | assumption)
    ·
      have c_12 : y_ < 0 := by revert c_12; (repeat' split) <;> omega
      refine sw_lload_n (n := 16) F 1 rfl rfl dJ8_longCompareMagnitude_15 rfl ?_
      refine sw_lneg (n := 17) F dJ8_longCompareMagnitude_16 rfl ?_
      refine sw_lstore_n (n := 18) F (L2 := [(2, .long (jL (-y_))), (0, .long (jL a_))]) rfl (by decide) rfl dJ8_longCompareMagnitude_17 rfl ?_
      refine sw_loc [1, 0] (L2 := [(0, .long (jL a_)), (2, .long (jL (-y_)))]) rfl ?_
      exact K18 (-y_) (by first | omega | assumption)
  refine sw_lload_n (n := 1) F 0 rfl rfl dJ8_longCompareMagnitude_0 rfl ?_
  refine sw_lconst (n := 2) F 0 (by decide) dJ8_longCompareMagnitude_1 rfl ?_
  refine sw_lcmp (n := 3) F (by omega) (by decide) dJ8_longCompareMagnitude_2 rfl ?_
  refine sw_if_ge (n := 6) F (by omega) (tgt := 9) dJ8_longCompareMagnitude_3 (by decide) rfl (fun c_3 => ?_) (fun c_3 => ?_)
  ·
    have c_3 : x_ ≥ 0 := by revert c_3; (repeat' split) <;> omega
    exact K9 x_ (by first | omega | assumption)
  ·
    have c_3 : x_ < 0 := by revert c_3; (repeat' split) <;> omega
    refine sw_lload_n (n := 7) F 0 rfl rfl dJ8_longCompareMagnitude_6 rfl ?_
    refine sw_lneg (n := 8) F dJ8_longCompareMagnitude_7 rfl ?_
    refine sw_lstore_n (n := 9) F (L2 := [(0, .long (jL (-x_))), (2, .long (jL y_))]) rfl (by decide) rfl dJ8_longCompareMagnitude_8 rfl ?_
    exact K9 (-x_) (by first | omega | assumption)
theorem nd_J8_compareMagnitude : yJ8_compareMagnitude.cls ≠ "java/lang/invoke/MethodHandle" ∧ yJ8_compareMagnitude.cls ≠ "java/lang/invoke/VarHandle" ∧ (parseMethodDescriptor yJ8_compareMagnitude.desc).map (fun d => d.parameters.length) = some 1 := by decide +kernel
set_option maxRecDepth 100000 in
set_option maxHeartbeats 16000000 in
theorem ct_J8_compareMagnitude {g : GG} {l : Launch} (M : Nat → Option PV) (q : Nat) (u : Int) (s : Int) (o : Option Nat) (q2 : Nat) (w : Int) (t : Int) (o2 : Option Nat) (hx : at_ g M q (vD u s o)) (hy : at_ g M q2 (vD w t o2)) (hf : fit u) (hf2 : fit w) (hs : -2147483648 ≤ s ∧ s ≤ 2147483647) (ht : -2147483648 ≤ t ∧ t ≤ 2147483647) (hd : -18 ≤ s - t ∧ s - t ≤ 18) : Ct g l yJ8_compareMagnitude (ws_ yJ8_compareMagnitude cJ8_compareMagnitude 13 (Option.some Jvm.ClassFile.FieldType.int)) 5 101 0 0 [.ref q, .ref q2] [pl g M] (fun v9 Ws9 => v9 = some (.int (jI (cmM u s w t))) ∧ Ws9 = [pl g M]) (nox) := by
  refine Ct.of (cc := cJ8_compareMagnitude) (nL := 13) (ret := (Option.some Jvm.ClassFile.FieldType.int)) (by decide) rfl (Nat.le_of_ble_eq_true rfl) ?_
  intro x hg hl hPo hPx hmc hms F
  subst hg; subst hl
  refine SW.cast (L' := [(0, .ref q), (1, .ref q2)]) ?_ rfl rfl rfl
  have hcr := cpt_rng u
  have hcr2 := cpt_rng w
  have hr9 := hf
  unfold fit at hr9
  have hr8 := hf2
  unfold fit at hr8
  have hdu := dgc_pos u.natAbs
  have hdw := dgc_pos w.natAbs
  have hdu2 := dgc_63 hr9
  have hdw2 := dgc_63 hr8
  refine sw_aload_n (n := 1) F 1 (some q2) rfl rfl rfl dJ8_compareMagnitude_0 rfl ?_
  refine sw_getD (n := 4) F 0 rfl hy (k := 4) ⟨(RJ8, TJ8, 5), rfl, by decide, q264, in_J8, Or.inl rfl⟩ (.long (jL (cpt w))) (fun _ => rfl) dJ8_compareMagnitude_1 rfl ?_
  refine SW.cast (st' := [.long (jL w)]) ?_ rfl rfl (by first | rfl | simp only [cpt_1 hf, cpt_1 hf2])
  refine sw_lstore_n (n := 5) F (L2 := [(2, .long (jL w)), (0, .ref q), (1, .ref q2)]) rfl (by decide) rfl dJ8_compareMagnitude_4 rfl ?_
  refine sw_aload_n (n := 6) F 1 (some q) rfl rfl rfl dJ8_compareMagnitude_5 rfl ?_
  refine sw_getD (n := 9) F 0 rfl hx (k := 4) ⟨(RJ8, TJ8, 5), rfl, by decide, q264, in_J8, Or.inl rfl⟩ (.long (jL (cpt u))) (fun _ => rfl) dJ8_compareMagnitude_6 rfl ?_
  refine SW.cast (st' := [.long (jL u)]) ?_ rfl rfl (by first | rfl | simp only [cpt_1 hf, cpt_1 hf2])
  refine sw_lstore (n := 11) F (L2 := [(4, .long (jL u)), (2, .long (jL w)), (0, .ref q), (1, .ref q2)]) rfl (by decide) dJ8_compareMagnitude_9 rfl ?_
  refine sw_lload (n := 13) F 0 rfl dJ8_compareMagnitude_11 rfl ?_
  refine sw_lconst (n := 14) F 0 (by decide) dJ8_compareMagnitude_13 rfl ?_
  refine sw_lcmp (n := 15) F (by omega) (by decide) dJ8_compareMagnitude_14 rfl ?_
  refine sw_if_ne (n := 18) F (by omega) (tgt := 30) dJ8_compareMagnitude_15 (by decide) rfl (fun c_15 => ?_) (fun c_15 => ?_)
  ·
    have c_15 : u ≠ 0 := by revert c_15; (repeat' split) <;> omega
    refine sw_lload_n (n := 31) F 1 rfl rfl dJ8_compareMagnitude_30 rfl ?_
    refine sw_lconst (n := 32) F 0 (by decide) dJ8_compareMagnitude_31 rfl ?_
    refine sw_lcmp (n := 33) F (by omega) (by decide) dJ8_compareMagnitude_32 rfl ?_
    refine sw_if_ne (n := 36) F (by omega) (tgt := 38) dJ8_compareMagnitude_33 (by decide) rfl (fun c_33 => ?_) (fun c_33 => ?_)
    ·
      have c_33 : w ≠ 0 := by revert c_33; (repeat' split) <;> omega
      refine sw_aload_n (n := 39) F 2 (some q) rfl rfl rfl dJ8_compareMagnitude_38 rfl ?_
      refine sw_getD (n := 42) F 0 rfl hx (k := 1) ⟨(RJ8, TJ8, 5), rfl, by decide, q261, in_J8, Or.inl rfl⟩ (.int (jI s)) (fun _ => rfl) dJ8_compareMagnitude_39 rfl ?_
      refine sw_i2l (n := 43) F (by omega) dJ8_compareMagnitude_42 rfl ?_
      refine sw_aload_n (n := 44) F 3 (some q2) rfl rfl rfl dJ8_compareMagnitude_43 rfl ?_
      refine sw_getD (n := 47) F 0 rfl hy (k := 1) ⟨(RJ8, TJ8, 5), rfl, by decide, q261, in_J8, Or.inl rfl⟩ (.int (jI t)) (fun _ => rfl) dJ8_compareMagnitude_44 rfl ?_
      refine sw_i2l (n := 48) F (by omega) dJ8_compareMagnitude_47 rfl ?_
      refine sw_lsub (n := 49) F dJ8_compareMagnitude_48 rfl ?_
      refine sw_lstore (n := 51) F (L2 := [(6, .long (jL (s - t))), (4, .long (jL u)), (2, .long (jL w)), (0, .ref q), (1, .ref q2)]) rfl (by decide) dJ8_compareMagnitude_49 rfl ?_
      have K237 : ∀ (X : Int) (Y : Int), ((X = u ∧ Y = w ∧ s = t) ∨ (X = cpt (u * tn (t - s)) ∧ Y = w ∧ s < t) ∨ (X = u ∧ Y = cpt (w * tn (s - t)) ∧ t < s)) → (-9223372036854775808 ≤ X ∧ X ≤ 9223372036854775807) → (-9223372036854775808 ≤ Y ∧ Y ≤ 9223372036854775807) → SW x [pl (xg x) M] 0 0 237 [(0, .ref q), (1, .ref q2), (2, .long (jL Y)), (4, .long (jL X))] [] := by
        intro X Y hXY hXr hYr
        refine sw_lload (n := 239) F 3 rfl dJ8_compareMagnitude_237 rfl ?_
        refine sw_ldc2 (n := 242) F (-9223372036854775808) q250 (by decide) dJ8_compareMagnitude_239 rfl ?_
        refine sw_lcmp (n := 243) F (by omega) (by decide) dJ8_compareMagnitude_242 rfl ?_
        refine sw_if_eq (n := 246) F (by omega) (tgt := 265) dJ8_compareMagnitude_243 (by decide) rfl (fun c_243 => ?_) (fun c_243 => ?_)
        ·
          have c_243 : X = -9223372036854775808 := by revert c_243; (repeat' split) <;> omega
          refine sw_lload_n (n := 266) F 2 rfl rfl dJ8_compareMagnitude_265 rfl ?_
          refine sw_ldc2 (n := 269) F (-9223372036854775808) q250 (by decide) dJ8_compareMagnitude_266 rfl ?_
          refine sw_lcmp (n := 270) F (by omega) (by decide) dJ8_compareMagnitude_269 rfl ?_
          refine sw_if_eq (n := 273) F (by omega) (tgt := 275) dJ8_compareMagnitude_270 (by decide) rfl (fun c_270 => ?_) (fun c_270 => ?_)
          · exfalso; exact (cm_fin hXY hf hf2).2.2.2 ⟨by omega, by omega⟩
          ·
            have c_270 : Y ≠ -9223372036854775808 := by revert c_270; (repeat' split) <;> omega
            refine sw_iconst (n := 274) F (1) (by decide) dJ8_compareMagnitude_273 rfl ?_
            exact sw_iret F _ rfl (by first | rfl | exact jI_nz (by omega) | exact jI_nc (by omega)) dJ8_compareMagnitude_274 (by rw [hPo]; exact ⟨(by rw [← (cm_fin hXY hf hf2).2.2.1 (by omega) (by omega)]), rfl⟩)
        ·
          have c_243 : X ≠ -9223372036854775808 := by revert c_243; (repeat' split) <;> omega
          refine sw_lload_n (n := 247) F 2 rfl rfl dJ8_compareMagnitude_246 rfl ?_
          refine sw_ldc2 (n := 250) F (-9223372036854775808) q250 (by decide) dJ8_compareMagnitude_247 rfl ?_
          refine sw_lcmp (n := 251) F (by omega) (by decide) dJ8_compareMagnitude_250 rfl ?_
          refine sw_if_eq (n := 254) F (by omega) (tgt := 263) dJ8_compareMagnitude_251 (by decide) rfl (fun c_251 => ?_) (fun c_251 => ?_)
          ·
            have c_251 : Y = -9223372036854775808 := by revert c_251; (repeat' split) <;> omega
            refine sw_iconst (n := 264) F (-1) (by decide) dJ8_compareMagnitude_263 rfl ?_
            exact sw_iret F _ rfl (by first | rfl | exact jI_nz (by omega) | exact jI_nc (by omega)) dJ8_compareMagnitude_264 (by rw [hPo]; exact ⟨(by first | (rw [(cm_fin hXY hf hf2).1 (by omega) (by omega)]) | (rw [← (cm_fin hXY hf hf2).2.1 (by omega) (by omega)])), rfl⟩)
          ·
            have c_251 : Y ≠ -9223372036854775808 := by revert c_251; (repeat' split) <;> omega
            refine sw_lload (n := 256) F 3 rfl dJ8_compareMagnitude_254 rfl ?_
            refine sw_lload_n (n := 257) F 2 rfl rfl dJ8_compareMagnitude_256 rfl ?_
            refine sw_callS (n := 260) F (ct_J8_longCompareMagnitude (g := xg x) (l := xl x) X Y (by first | omega | assumption) (by first | omega | assumption)) q1549 q1550 q112 q1551 nd_J8_longCompareMagnitude rfl (by decide) [0] rfl [pl (xg x) M] rfl 0 0 ⟨by omega, by omega⟩ [] rfl (Nat.le_of_ble_eq_true rfl) dJ8_compareMagnitude_257 rfl (fun _ _ h => h.elim) (fun v Ws h => ?_)
            obtain ⟨rfl, rfl⟩ := h
            show SW x [pl (xg x) M] _ _ _ _ [.int (jI (cmpI X.natAbs Y.natAbs))]
            refine sw_goto F (n := 264) dJ8_compareMagnitude_260 (by decide) ?_
            exact sw_iret F _ rfl (by first | rfl | exact jI_nz (by omega) | exact jI_nc (by omega)) dJ8_compareMagnitude_264 (by rw [hPo]; exact ⟨(by first | (rw [(cm_fin hXY hf hf2).1 (by omega) (by omega)]) | (rw [← (cm_fin hXY hf hf2).2.1 (by omega) (by omega)])), rfl⟩)
      refine sw_lload (n := 53) F 0 rfl dJ8_compareMagnitude_51 rfl ?_
      refine sw_lconst (n := 54) F 0 (by decide) dJ8_compareMagnitude_53 rfl ?_
      refine sw_lcmp (n := 55) F (by omega) (by decide) dJ8_compareMagnitude_54 rfl ?_
      refine sw_if_eq (n := 58) F (by omega) (tgt := 237) dJ8_compareMagnitude_55 (by decide) rfl (fun c_55 => ?_) (fun c_55 => ?_)
      ·
        have c_55 : s - t = 0 := by revert c_55; (repeat' split) <;> omega
        refine sw_loc [3, 4, 2, 1] (L2 := [(0, .ref q), (1, .ref q2), (2, .long (jL w)), (4, .long (jL u))]) rfl ?_
        exact K237 u w (by first | (left; exact ⟨rfl, rfl, by omega⟩) | (right; left; exact ⟨rfl, rfl, by omega⟩) | (right; right; exact ⟨rfl, rfl, by omega⟩)) (by first | omega | assumption) (by first | omega | assumption)
      ·
        have c_55 : s - t ≠ 0 := by revert c_55; (repeat' split) <;> omega
        refine sw_aload_n (n := 59) F 3 (some q) rfl rfl rfl dJ8_compareMagnitude_58 rfl ?_
        refine sw_callV (n := 62) F (ct_J8_precision (g := xg x) (l := xl x) M q u s o hx hf) (rcvD F 0 rfl hx) q1520 q1521 q1522 q112 q1523 nd_J8_precision rfl (by decide) [0] rfl [] rfl 0 0 ⟨by omega, by omega⟩ [] rfl (Nat.le_of_ble_eq_true rfl) dJ8_compareMagnitude_59 rfl (fun _ _ h => h.elim) (fun v Ws h => ?_)
        obtain ⟨rfl, rfl⟩ := h
        show SW x [pl (xg x) M] _ _ _ _ [.int (jI (↑(dgc u.natAbs)))]
        refine sw_i2l (n := 63) F (by omega) dJ8_compareMagnitude_62 rfl ?_
        refine sw_aload_n (n := 64) F 3 (some q) rfl rfl rfl dJ8_compareMagnitude_63 rfl ?_
        refine sw_getD (n := 67) F 0 rfl hx (k := 1) ⟨(RJ8, TJ8, 5), rfl, by decide, q261, in_J8, Or.inl rfl⟩ (.int (jI s)) (fun _ => rfl) dJ8_compareMagnitude_64 rfl ?_
        refine sw_i2l (n := 68) F (by omega) dJ8_compareMagnitude_67 rfl ?_
        refine sw_lsub (n := 69) F dJ8_compareMagnitude_68 rfl ?_
        refine sw_lstore (n := 71) F (L2 := [(8, .long (jL ((↑(dgc u.natAbs)) - s))), (6, .long (jL (s - t))), (4, .long (jL u)), (2, .long (jL w)), (0, .ref q), (1, .ref q2)]) rfl (by decide) dJ8_compareMagnitude_69 rfl ?_
        refine sw_aload_n (n := 72) F 5 (some q2) rfl rfl rfl dJ8_compareMagnitude_71 rfl ?_
        refine sw_callV (n := 75) F (ct_J8_precision (g := xg x) (l := xl x) M q2 w t o2 hy hf2) (rcvD F 0 rfl hy) q1520 q1521 q1522 q112 q1523 nd_J8_precision rfl (by decide) [0] rfl [] rfl 0 0 ⟨by omega, by omega⟩ [] rfl (Nat.le_of_ble_eq_true rfl) dJ8_compareMagnitude_72 rfl (fun _ _ h => h.elim) (fun v Ws h => ?_)
        obtain ⟨rfl, rfl⟩ := h
        show SW x [pl (xg x) M] _ _ _ _ [.int (jI (↑(dgc w.natAbs)))]
        refine sw_i2l (n := 76) F (by omega) dJ8_compareMagnitude_75 rfl ?_
        refine sw_aload_n (n := 77) F 5 (some q2) rfl rfl rfl dJ8_compareMagnitude_76 rfl ?_
        refine sw_getD (n := 80) F 0 rfl hy (k := 1) ⟨(RJ8, TJ8, 5), rfl, by decide, q261, in_J8, Or.inl rfl⟩ (.int (jI t)) (fun _ => rfl) dJ8_compareMagnitude_77 rfl ?_
        refine sw_i2l (n := 81) F (by omega) dJ8_compareMagnitude_80 rfl ?_
        refine sw_lsub (n := 82) F dJ8_compareMagnitude_81 rfl ?_
        refine sw_lstore (n := 84) F (L2 := [(10, .long (jL ((↑(dgc w.natAbs)) - t))), (8, .long (jL ((↑(dgc u.natAbs)) - s))), (6, .long (jL (s - t))), (4, .long (jL u)), (2, .long (jL w)), (0, .ref q), (1, .ref q2)]) rfl (by decide) dJ8_compareMagnitude_82 rfl ?_
        refine sw_lload (n := 86) F 1 rfl dJ8_compareMagnitude_84 rfl ?_
        refine sw_lload (n := 88) F 0 rfl dJ8_compareMagnitude_86 rfl ?_
        refine sw_lcmp (n := 89) F (by omega) (by omega) dJ8_compareMagnitude_88 rfl ?_
        refine sw_if_ge (n := 92) F (by omega) (tgt := 94) dJ8_compareMagnitude_89 (by decide) rfl (fun c_89 => ?_) (fun c_89 => ?_)
        ·
          have c_89 : (↑(dgc u.natAbs)) - s ≥ (↑(dgc w.natAbs)) - t := by revert c_89; (repeat' split) <;> omega
          refine sw_lload (n := 96) F 1 rfl dJ8_compareMagnitude_94 rfl ?_
          refine sw_lload (n := 98) F 0 rfl dJ8_compareMagnitude_96 rfl ?_
          refine sw_lcmp (n := 99) F (by omega) (by omega) dJ8_compareMagnitude_98 rfl ?_
          refine sw_if_le (n := 102) F (by omega) (tgt := 104) dJ8_compareMagnitude_99 (by decide) rfl (fun c_99 => ?_) (fun c_99 => ?_)
          ·
            have c_99 : (↑(dgc u.natAbs)) - s ≤ (↑(dgc w.natAbs)) - t := by revert c_99; (repeat' split) <;> omega
            refine sw_lload (n := 106) F 2 rfl dJ8_compareMagnitude_104 rfl ?_
            refine sw_lconst (n := 107) F 0 (by decide) dJ8_compareMagnitude_106 rfl ?_
            refine sw_lcmp (n := 108) F (by omega) (by decide) dJ8_compareMagnitude_107 rfl ?_
            refine sw_if_ge (n := 111) F (by omega) (tgt := 176) dJ8_compareMagnitude_108 (by decide) rfl (fun c_108 => ?_) (fun c_108 => ?_)
            ·
              have c_108 : s - t ≥ 0 := by revert c_108; (repeat' split) <;> omega
              refine sw_lload (n := 178) F 2 rfl dJ8_compareMagnitude_176 rfl ?_
              refine sw_ldc2 (n := 181) F (2147483647) q1289 (by decide) dJ8_compareMagnitude_178 rfl ?_
              refine sw_lcmp (n := 182) F (by omega) (by decide) dJ8_compareMagnitude_181 rfl ?_
              refine sw_if_gt (n := 185) F (by omega) (tgt := 237) dJ8_compareMagnitude_182 (by decide) rfl (fun c_182 => ?_) (fun c_182 => ?_)
              · exfalso; omega
              ·
                have c_182 : s - t ≤ 2147483647 := by revert c_182; (repeat' split) <;> omega
                refine sw_lload_n (n := 186) F 4 rfl rfl dJ8_compareMagnitude_185 rfl ?_
                refine sw_ldc2 (n := 189) F (-9223372036854775808) q250 (by decide) dJ8_compareMagnitude_186 rfl ?_
                refine sw_lcmp (n := 190) F (by omega) (by decide) dJ8_compareMagnitude_189 rfl ?_
                refine sw_if_eq (n := 193) F (by omega) (tgt := 209) dJ8_compareMagnitude_190 (by decide) rfl (fun c_190 => ?_) (fun c_190 => ?_)
                · exfalso; omega
                ·
                  have c_190 : w ≠ -9223372036854775808 := by revert c_190; (repeat' split) <;> omega
                  refine sw_lload_n (n := 194) F 4 rfl rfl dJ8_compareMagnitude_193 rfl ?_
                  refine sw_lload (n := 196) F 2 rfl dJ8_compareMagnitude_194 rfl ?_
                  refine sw_l2i (n := 197) F dJ8_compareMagnitude_196 rfl ?_
                  have hcr4 := cpt_rng (w * tn (s - t))
                  refine sw_callS (n := 200) F (ct_J8_longMultiplyPowerTen (g := xg x) (l := xl x) w (s - t) (by first | omega | assumption) (by first | omega | assumption)) q1296 q1297 q112 q1298 nd_J8_longMultiplyPowerTen rfl (by decide) [0] rfl [pl (xg x) M] rfl 0 0 ⟨by omega, by omega⟩ [] rfl (Nat.le_of_ble_eq_true rfl) dJ8_compareMagnitude_197 rfl (fun _ _ h => h.elim) (fun v Ws h => ?_)
                  obtain ⟨rfl, rfl⟩ := h
                  show SW x [pl (xg x) M] _ _ _ _ [.long (jL (cpt (w * ((10 ^ (s - t).toNat : Nat) : Int))))]
                  refine sw_top (topL (show (cpt (w * ((10 ^ (s - t).toNat : Nat) : Int)) : Int) = cpt (w * tn (s - t)) by rfl)) ?_
                  refine sw_dup2 (n := 201) F rfl dJ8_compareMagnitude_200 rfl ?_
                  refine sw_lstore_n (n := 202) F (L2 := [(2, .long (jL (cpt (w * tn (s - t))))), (10, .long (jL ((↑(dgc w.natAbs)) - t))), (8, .long (jL ((↑(dgc u.natAbs)) - s))), (6, .long (jL (s - t))), (4, .long (jL u)), (0, .ref q), (1, .ref q2)]) rfl (by decide) rfl dJ8_compareMagnitude_201 rfl ?_
                  refine sw_ldc2 (n := 205) F (-9223372036854775808) q250 (by decide) dJ8_compareMagnitude_202 rfl ?_
                  refine sw_lcmp (n := 206) F (by omega) (by decide) dJ8_compareMagnitude_205 rfl ?_
                  refine sw_if_ne (n := 209) F (by omega) (tgt := 237) dJ8_compareMagnitude_206 (by decide) rfl (fun c_206 => ?_) (fun c_206 => ?_)
                  ·
                    have c_206 : cpt (w * tn (s - t)) ≠ -9223372036854775808 := by revert c_206; (repeat' split) <;> omega
                    refine sw_loc [5, 6, 0, 4] (L2 := [(0, .ref q), (1, .ref q2), (2, .long (jL (cpt (w * tn (s - t))))), (4, .long (jL u))]) rfl ?_
                    exact K237 u (cpt (w * tn (s - t))) (by first | (left; exact ⟨rfl, rfl, by omega⟩) | (right; left; exact ⟨rfl, rfl, by omega⟩) | (right; right; exact ⟨rfl, rfl, by omega⟩)) (by first | omega | assumption) (by first | omega | assumption)
                  ·
                    have c_206 : cpt (w * tn (s - t)) = -9223372036854775808 := by revert c_206; (repeat' split) <;> omega
                    refine sw_lload (n := 211) F 4 rfl dJ8_compareMagnitude_209 rfl ?_
                    refine sw_ldc2 (n := 214) F (-9223372036854775808) q250 (by decide) dJ8_compareMagnitude_211 rfl ?_
                    refine sw_lcmp (n := 215) F (by omega) (by decide) dJ8_compareMagnitude_214 rfl ?_
                    refine sw_if_ne (n := 218) F (by omega) (tgt := 237) dJ8_compareMagnitude_215 (by decide) rfl (fun c_215 => ?_) (fun c_215 => ?_)
                    ·
                      have c_215 : u ≠ -9223372036854775808 := by revert c_215; (repeat' split) <;> omega
                      refine sw_loc [5, 6, 0, 4] (L2 := [(0, .ref q), (1, .ref q2), (2, .long (jL (cpt (w * tn (s - t))))), (4, .long (jL u))]) rfl ?_
                      exact K237 u (cpt (w * tn (s - t))) (by first | (left; exact ⟨rfl, rfl, by omega⟩) | (right; left; exact ⟨rfl, rfl, by omega⟩) | (right; right; exact ⟨rfl, rfl, by omega⟩)) (by first | omega | assumption) (by first | omega | assumption)
                    · exfalso; omega
            ·
              have c_108 : s - t < 0 := by revert c_108; (repeat' split) <;> omega
              refine sw_lload (n := 113) F 2 rfl dJ8_compareMagnitude_111 rfl ?_
              refine sw_ldc2 (n := 116) F (-2147483648) q1540 (by decide) dJ8_compareMagnitude_113 rfl ?_
              refine sw_lcmp (n := 117) F (by omega) (by decide) dJ8_compareMagnitude_116 rfl ?_
              refine sw_if_le (n := 120) F (by omega) (tgt := 237) dJ8_compareMagnitude_117 (by decide) rfl (fun c_117 => ?_) (fun c_117 => ?_)
              · exfalso; omega
              ·
                have c_117 : s - t > -2147483648 := by revert c_117; (repeat' split) <;> omega
                refine sw_lload (n := 122) F 3 rfl dJ8_compareMagnitude_120 rfl ?_
                refine sw_ldc2 (n := 125) F (-9223372036854775808) q250 (by decide) dJ8_compareMagnitude_122 rfl ?_
                refine sw_lcmp (n := 126) F (by omega) (by decide) dJ8_compareMagnitude_125 rfl ?_
                refine sw_if_eq (n := 129) F (by omega) (tgt := 148) dJ8_compareMagnitude_126 (by decide) rfl (fun c_126 => ?_) (fun c_126 => ?_)
                · exfalso; omega
                ·
                  have c_126 : u ≠ -9223372036854775808 := by revert c_126; (repeat' split) <;> omega
                  refine sw_lload (n := 131) F 3 rfl dJ8_compareMagnitude_129 rfl ?_
                  refine sw_lload (n := 133) F 2 rfl dJ8_compareMagnitude_131 rfl ?_
                  refine sw_lneg (n := 134) F dJ8_compareMagnitude_133 rfl ?_
                  refine sw_l2i (n := 135) F dJ8_compareMagnitude_134 rfl ?_
                  have hcr3 := cpt_rng (u * tn (t - s))
                  refine sw_top (topI (show (-(s - t) : Int) = t - s by omega)) ?_
                  refine sw_callS (n := 138) F (ct_J8_longMultiplyPowerTen (g := xg x) (l := xl x) u (t - s) (by first | omega | assumption) (by first | omega | assumption)) q1296 q1297 q112 q1298 nd_J8_longMultiplyPowerTen rfl (by decide) [0] rfl [pl (xg x) M] rfl 0 0 ⟨by omega, by omega⟩ [] rfl (Nat.le_of_ble_eq_true rfl) dJ8_compareMagnitude_135 rfl (fun _ _ h => h.elim) (fun v Ws h => ?_)
                  obtain ⟨rfl, rfl⟩ := h
                  show SW x [pl (xg x) M] _ _ _ _ [.long (jL (cpt (u * ((10 ^ (t - s).toNat : Nat) : Int))))]
                  refine sw_top (topL (show (cpt (u * ((10 ^ (t - s).toNat : Nat) : Int)) : Int) = cpt (u * tn (t - s)) by rfl)) ?_
                  refine sw_dup2 (n := 139) F rfl dJ8_compareMagnitude_138 rfl ?_
                  refine sw_lstore (n := 141) F (L2 := [(4, .long (jL (cpt (u * tn (t - s))))), (10, .long (jL ((↑(dgc w.natAbs)) - t))), (8, .long (jL ((↑(dgc u.natAbs)) - s))), (6, .long (jL (s - t))), (2, .long (jL w)), (0, .ref q), (1, .ref q2)]) rfl (by decide) dJ8_compareMagnitude_139 rfl ?_
                  refine sw_ldc2 (n := 144) F (-9223372036854775808) q250 (by decide) dJ8_compareMagnitude_141 rfl ?_
                  refine sw_lcmp (n := 145) F (by omega) (by decide) dJ8_compareMagnitude_144 rfl ?_
                  refine sw_if_ne (n := 148) F (by omega) (tgt := 237) dJ8_compareMagnitude_145 (by decide) rfl (fun c_145 => ?_) (fun c_145 => ?_)
                  ·
                    have c_145 : cpt (u * tn (t - s)) ≠ -9223372036854775808 := by revert c_145; (repeat' split) <;> omega
                    refine sw_loc [5, 6, 4, 0] (L2 := [(0, .ref q), (1, .ref q2), (2, .long (jL w)), (4, .long (jL (cpt (u * tn (t - s)))))]) rfl ?_
                    exact K237 (cpt (u * tn (t - s))) w (by first | (left; exact ⟨rfl, rfl, by omega⟩) | (right; left; exact ⟨rfl, rfl, by omega⟩) | (right; right; exact ⟨rfl, rfl, by omega⟩)) (by first | omega | assumption) (by first | omega | assumption)
                  ·
                    have c_145 : cpt (u * tn (t - s)) = -9223372036854775808 := by revert c_145; (repeat' split) <;> omega
                    refine sw_lload_n (n := 149) F 4 rfl rfl dJ8_compareMagnitude_148 rfl ?_
                    refine sw_ldc2 (n := 152) F (-9223372036854775808) q250 (by decide) dJ8_compareMagnitude_149 rfl ?_
                    refine sw_lcmp (n := 153) F (by omega) (by decide) dJ8_compareMagnitude_152 rfl ?_
                    refine sw_if_ne (n := 156) F (by omega) (tgt := 237) dJ8_compareMagnitude_153 (by decide) rfl (fun c_153 => ?_) (fun c_153 => ?_)
                    ·
                      have c_153 : w ≠ -9223372036854775808 := by revert c_153; (repeat' split) <;> omega
                      refine sw_loc [5, 6, 4, 0] (L2 := [(0, .ref q), (1, .ref q2), (2, .long (jL w)), (4, .long (jL (cpt (u * tn (t - s)))))]) rfl ?_
                      exact K237 (cpt (u * tn (t - s))) w (by first | (left; exact ⟨rfl, rfl, by omega⟩) | (right; left; exact ⟨rfl, rfl, by omega⟩) | (right; right; exact ⟨rfl, rfl, by omega⟩)) (by first | omega | assumption) (by first | omega | assumption)
                    · exfalso; omega
          ·
            have c_99 : (↑(dgc u.natAbs)) - s > (↑(dgc w.natAbs)) - t := by revert c_99; (repeat' split) <;> omega
            refine sw_iconst (n := 103) F (1) (by decide) dJ8_compareMagnitude_102 rfl ?_
            exact sw_iret F _ rfl (by first | rfl | exact jI_nz (by omega) | exact jI_nc (by omega)) dJ8_compareMagnitude_103 (by rw [hPo]; exact ⟨(by rw [cmM_g (by omega) (by omega)]), rfl⟩)
        ·
          have c_89 : (↑(dgc u.natAbs)) - s < (↑(dgc w.natAbs)) - t := by revert c_89; (repeat' split) <;> omega
          refine sw_iconst (n := 93) F (-1) (by decide) dJ8_compareMagnitude_92 rfl ?_
          exact sw_iret F _ rfl (by first | rfl | exact jI_nz (by omega) | exact jI_nc (by omega)) dJ8_compareMagnitude_93 (by rw [hPo]; exact ⟨(by rw [cmM_l (by omega) (by omega)]), rfl⟩)
    ·
      have c_33 : w = 0 := by revert c_33; (repeat' split) <;> omega
      refine sw_iconst (n := 37) F (1) (by decide) dJ8_compareMagnitude_36 rfl ?_
      exact sw_iret F _ rfl (by first | rfl | exact jI_nz (by omega) | exact jI_nc (by omega)) dJ8_compareMagnitude_37 (by rw [hPo]; exact ⟨(by rw [show w = 0 by omega, cmM_w0 (by omega)]), rfl⟩)
  ·
    have c_15 : u = 0 := by revert c_15; (repeat' split) <;> omega
    refine sw_lload_n (n := 19) F 1 rfl rfl dJ8_compareMagnitude_18 rfl ?_
    refine sw_lconst (n := 20) F 0 (by decide) dJ8_compareMagnitude_19 rfl ?_
    refine sw_lcmp (n := 21) F (by omega) (by decide) dJ8_compareMagnitude_20 rfl ?_
    refine sw_if_ne (n := 24) F (by omega) (tgt := 28) dJ8_compareMagnitude_21 (by decide) rfl (fun c_21 => ?_) (fun c_21 => ?_)
    ·
      have c_21 : w ≠ 0 := by revert c_21; (repeat' split) <;> omega
      refine sw_iconst (n := 29) F (-1) (by decide) dJ8_compareMagnitude_28 rfl ?_
      exact sw_iret F _ rfl (by first | rfl | exact jI_nz (by omega) | exact jI_nc (by omega)) dJ8_compareMagnitude_29 (by rw [hPo]; exact ⟨(by first | (rw [show u = 0 by omega, show w = 0 by omega, cmM_00]) | (rw [show u = 0 by omega, cmM_u0 (by omega)])), rfl⟩)
    ·
      have c_21 : w = 0 := by revert c_21; (repeat' split) <;> omega
      refine sw_iconst (n := 25) F (0) (by decide) dJ8_compareMagnitude_24 rfl ?_
      refine sw_goto F (n := 29) dJ8_compareMagnitude_25 (by decide) ?_
      exact sw_iret F _ rfl (by first | rfl | exact jI_nz (by omega) | exact jI_nc (by omega)) dJ8_compareMagnitude_29 (by rw [hPo]; exact ⟨(by first | (rw [show u = 0 by omega, show w = 0 by omega, cmM_00]) | (rw [show u = 0 by omega, cmM_u0 (by omega)])), rfl⟩)
theorem nd_J8_compareTo : yJ8_compareTo.cls ≠ "java/lang/invoke/MethodHandle" ∧ yJ8_compareTo.cls ≠ "java/lang/invoke/VarHandle" ∧ (parseMethodDescriptor yJ8_compareTo.desc).map (fun d => d.parameters.length) = some 1 := by decide +kernel
set_option maxRecDepth 100000 in
set_option maxHeartbeats 16000000 in
theorem ct_J8_compareTo {g : GG} {l : Launch} (M : Nat → Option PV) (q : Nat) (u : Int) (s : Int) (o : Option Nat) (q2 : Nat) (w : Int) (t : Int) (o2 : Option Nat) (hx : at_ g M q (vD u s o)) (hy : at_ g M q2 (vD w t o2)) (hf : fit u) (hf2 : fit w) (hs : -2147483648 ≤ s ∧ s ≤ 2147483647) (ht : -2147483648 ≤ t ∧ t ≤ 2147483647) (hd : -18 ≤ s - t ∧ s - t ≤ 18) : Ct g l yJ8_compareTo (ws_ yJ8_compareTo cJ8_compareTo 6 (Option.some Jvm.ClassFile.FieldType.int)) 6 133 0 0 [.ref q, .ref q2] [pl g M] (fun v9 Ws9 => v9 = some (.int (jI (cmD u s w t))) ∧ Ws9 = [pl g M]) (nox) := by
  refine Ct.of (cc := cJ8_compareTo) (nL := 6) (ret := (Option.some Jvm.ClassFile.FieldType.int)) (by decide) rfl (Nat.le_of_ble_eq_true rfl) ?_
  intro x hg hl hPo hPx hmc hms F
  subst hg; subst hl
  refine SW.cast (L' := [(0, .ref q), (1, .ref q2)]) ?_ rfl rfl rfl
  have hcr := cpt_rng u
  have hcr2 := cpt_rng w
  have hr9 := hf
  unfold fit at hr9
  have hr8 := hf2
  unfold fit at hr8
  have hs9 := sgI_cases u
  have hs8 := sgI_cases w
  have hcm := cmM_rng u s w t
  refine sw_aload_n (n := 1) F 0 (some q) rfl rfl rfl dJ8_compareTo_0 rfl ?_
  refine sw_getD (n := 4) F 0 rfl hx (k := 1) ⟨(RJ8, TJ8, 5), rfl, by decide, q261, in_J8, Or.inl rfl⟩ (.int (jI s)) (fun _ => rfl) dJ8_compareTo_1 rfl ?_
  refine sw_aload_n (n := 5) F 1 (some q2) rfl rfl rfl dJ8_compareTo_4 rfl ?_
  refine sw_getD (n := 8) F 0 rfl hy (k := 1) ⟨(RJ8, TJ8, 5), rfl, by decide, q261, in_J8, Or.inl rfl⟩ (.int (jI t)) (fun _ => rfl) dJ8_compareTo_5 rfl ?_
  refine sw_icmp_ne (n := 11) F (by omega) (by omega) (tgt := 63) dJ8_compareTo_8 (by decide) rfl (fun c_8 => ?_) (fun c_8 => ?_)
  ·
    refine sw_aload_n (n := 64) F 0 (some q) rfl rfl rfl dJ8_compareTo_63 rfl ?_
    refine sw_callV (n := 67) F (ct_J8_signum (g := xg x) (l := xl x) M q u s o hx) (rcvD F 0 rfl hx) q1512 q1513 q1514 q112 q1515 nd_J8_signum rfl (by decide) [0] rfl [] rfl 0 0 ⟨by omega, by omega⟩ [] rfl (Nat.le_of_ble_eq_true rfl) dJ8_compareTo_64 rfl (fun _ _ h => h.elim) (fun v Ws h => ?_)
    obtain ⟨rfl, rfl⟩ := h
    show SW x [pl (xg x) M] _ _ _ _ [.int (jI (sgI u))]
    refine sw_istore_n (n := 68) F (L2 := [(2, .int (jI (sgI u))), (0, .ref q), (1, .ref q2)]) rfl (by decide) rfl dJ8_compareTo_67 rfl ?_
    refine sw_aload_n (n := 69) F 2 (some q2) rfl rfl rfl dJ8_compareTo_68 rfl ?_
    refine sw_callV (n := 72) F (ct_J8_signum (g := xg x) (l := xl x) M q2 w t o2 hy) (rcvD F 0 rfl hy) q1512 q1513 q1514 q112 q1515 nd_J8_signum rfl (by decide) [0] rfl [] rfl 0 0 ⟨by omega, by omega⟩ [] rfl (Nat.le_of_ble_eq_true rfl) dJ8_compareTo_69 rfl (fun _ _ h => h.elim) (fun v Ws h => ?_)
    obtain ⟨rfl, rfl⟩ := h
    show SW x [pl (xg x) M] _ _ _ _ [.int (jI (sgI w))]
    refine sw_istore_n (n := 73) F (L2 := [(3, .int (jI (sgI w))), (2, .int (jI (sgI u))), (0, .ref q), (1, .ref q2)]) rfl (by decide) rfl dJ8_compareTo_72 rfl ?_
    refine sw_iload_n (n := 74) F 1 rfl rfl dJ8_compareTo_73 rfl ?_
    refine sw_iload_n (n := 75) F 0 rfl rfl dJ8_compareTo_74 rfl ?_
    refine sw_icmp_eq (n := 78) F (by omega) (by omega) (tgt := 89) dJ8_compareTo_75 (by decide) rfl (fun c_75 => ?_) (fun c_75 => ?_)
    ·
      refine sw_iload_n (n := 90) F 1 rfl rfl dJ8_compareTo_89 rfl ?_
      refine sw_if_ne (n := 93) F (by omega) (tgt := 95) dJ8_compareTo_90 (by decide) rfl (fun c_90 => ?_) (fun c_90 => ?_)
      ·
        refine sw_aload_n (n := 96) F 2 (some q) rfl rfl rfl dJ8_compareTo_95 rfl ?_
        refine sw_aload_n (n := 97) F 3 (some q2) rfl rfl rfl dJ8_compareTo_96 rfl ?_
        refine sw_callV (n := 100) F (ct_J8_compareMagnitude (g := xg x) (l := xl x) M q u s o q2 w t o2 hx hy hf hf2 hs ht hd) (rcvD F 0 rfl hx) q1516 q1518 qs12 q112 q1519 nd_J8_compareMagnitude rfl (by decide) [0] rfl [] rfl 0 0 ⟨by omega, by omega⟩ [] rfl (Nat.le_of_ble_eq_true rfl) dJ8_compareTo_97 rfl (fun _ _ h => h.elim) (fun v Ws h => ?_)
        obtain ⟨rfl, rfl⟩ := h
        show SW x [pl (xg x) M] _ _ _ _ [.int (jI (cmM u s w t))]
        refine sw_istore (n := 102) F (L2 := [(4, .int (jI (cmM u s w t))), (3, .int (jI (sgI w))), (2, .int (jI (sgI u))), (0, .ref q), (1, .ref q2)]) rfl (by decide) dJ8_compareTo_100 rfl ?_
        refine sw_iload_n (n := 103) F 2 rfl rfl dJ8_compareTo_102 rfl ?_
        refine sw_if_le (n := 106) F (by omega) (tgt := 111) dJ8_compareTo_103 (by decide) rfl (fun c_103 => ?_) (fun c_103 => ?_)
        ·
          refine sw_iload (n := 113) F 0 rfl dJ8_compareTo_111 rfl ?_
          refine sw_ineg (n := 114) F dJ8_compareTo_113 rfl ?_
          exact sw_iret F _ rfl (by first | rfl | exact jI_nz (by omega) | exact jI_nc (by omega)) dJ8_compareTo_114 (by rw [hPo]; exact ⟨(by first | (rw [cmD_sg.1 (by omega)]) | (rw [cmD_sg.2.1 (by omega)]) | (rw [cmD_sg.2.2.1 (by omega) (by omega)]) | (rw [cmD_sg.2.2.2.1 (by omega) (by omega)]) | (rw [cmD_sg.2.2.2.2 (by omega) (by omega)])), rfl⟩)
        ·
          refine sw_iload (n := 108) F 0 rfl dJ8_compareTo_106 rfl ?_
          refine sw_goto F (n := 114) dJ8_compareTo_108 (by decide) ?_
          exact sw_iret F _ rfl (by first | rfl | exact jI_nz (by omega) | exact jI_nc (by omega)) dJ8_compareTo_114 (by rw [hPo]; exact ⟨(by first | (rw [cmD_sg.1 (by omega)]) | (rw [cmD_sg.2.1 (by omega)]) | (rw [cmD_sg.2.2.1 (by omega) (by omega)]) | (rw [cmD_sg.2.2.2.1 (by omega) (by omega)]) | (rw [cmD_sg.2.2.2.2 (by omega) (by omega)])), rfl⟩)
      ·
        refine sw_iconst (n := 94) F (0) (by decide) dJ8_compareTo_93 rfl ?_
        exact sw_iret F _ rfl (by first | rfl | exact jI_nz (by omega) | exact jI_nc (by omega)) dJ8_compareTo_94 (by rw [hPo]; exact ⟨(by first | (rw [cmD_sg.1 (by omega)]) | (rw [cmD_sg.2.1 (by omega)]) | (rw [cmD_sg.2.2.1 (by omega) (by omega)]) | (rw [cmD_sg.2.2.2.1 (by omega) (by omega)]) | (rw [cmD_sg.2.2.2.2 (by omega) (by omega)])), rfl⟩)
    ·
      refine sw_iload_n (n := 79) F 1 rfl rfl dJ8_compareTo_78 rfl ?_
      refine sw_iload_n (n := 80) F 0 rfl rfl dJ8_compareTo_79 rfl ?_
      refine sw_icmp_le (n := 83) F (by omega) (by omega) (tgt := 87) dJ8_compareTo_80 (by decide) rfl (fun c_80 => ?_) (fun c_80 => ?_)
      ·
        refine sw_iconst (n := 88) F (-1) (by decide) dJ8_compareTo_87 rfl ?_
        exact sw_iret F _ rfl (by first | rfl | exact jI_nz (by omega) | exact jI_nc (by omega)) dJ8_compareTo_88 (by rw [hPo]; exact ⟨(by first | (rw [cmD_sg.1 (by omega)]) | (rw [cmD_sg.2.1 (by omega)]) | (rw [cmD_sg.2.2.1 (by omega) (by omega)]) | (rw [cmD_sg.2.2.2.1 (by omega) (by omega)]) | (rw [cmD_sg.2.2.2.2 (by omega) (by omega)])), rfl⟩)
      ·
        refine sw_iconst (n := 84) F (1) (by decide) dJ8_compareTo_83 rfl ?_
        refine sw_goto F (n := 88) dJ8_compareTo_84 (by decide) ?_
        exact sw_iret F _ rfl (by first | rfl | exact jI_nz (by omega) | exact jI_nc (by omega)) dJ8_compareTo_88 (by rw [hPo]; exact ⟨(by first | (rw [cmD_sg.1 (by omega)]) | (rw [cmD_sg.2.1 (by omega)]) | (rw [cmD_sg.2.2.1 (by omega) (by omega)]) | (rw [cmD_sg.2.2.2.1 (by omega) (by omega)]) | (rw [cmD_sg.2.2.2.2 (by omega) (by omega)])), rfl⟩)
  ·
    refine sw_aload_n (n := 12) F 0 (some q) rfl rfl rfl dJ8_compareTo_11 rfl ?_
    refine sw_getD (n := 15) F 0 rfl hx (k := 4) ⟨(RJ8, TJ8, 5), rfl, by decide, q264, in_J8, Or.inl rfl⟩ (.long (jL (cpt u))) (fun _ => rfl) dJ8_compareTo_12 rfl ?_
    refine SW.cast (st' := [.long (jL u)]) ?_ rfl rfl (by first | rfl | simp only [cpt_1 hf, cpt_1 hf2])
    refine sw_lstore_n (n := 16) F (L2 := [(2, .long (jL u)), (0, .ref q), (1, .ref q2)]) rfl (by decide) rfl dJ8_compareTo_15 rfl ?_
    refine sw_aload_n (n := 17) F 2 (some q2) rfl rfl rfl dJ8_compareTo_16 rfl ?_
    refine sw_getD (n := 20) F 0 rfl hy (k := 4) ⟨(RJ8, TJ8, 5), rfl, by decide, q264, in_J8, Or.inl rfl⟩ (.long (jL (cpt w))) (fun _ => rfl) dJ8_compareTo_17 rfl ?_
    refine SW.cast (st' := [.long (jL w)]) ?_ rfl rfl (by first | rfl | simp only [cpt_1 hf, cpt_1 hf2])
    refine sw_lstore (n := 22) F (L2 := [(4, .long (jL w)), (2, .long (jL u)), (0, .ref q), (1, .ref q2)]) rfl (by decide) dJ8_compareTo_20 rfl ?_
    refine sw_lload_n (n := 23) F 1 rfl rfl dJ8_compareTo_22 rfl ?_
    refine sw_ldc2 (n := 26) F (-9223372036854775808) q250 (by decide) dJ8_compareTo_23 rfl ?_
    refine sw_lcmp (n := 27) F (by omega) (by decide) dJ8_compareTo_26 rfl ?_
    refine sw_if_eq (n := 30) F (by omega) (tgt := 63) dJ8_compareTo_27 (by decide) rfl (fun c_27 => ?_) (fun c_27 => ?_)
    · exfalso; omega
    ·
      have c_27 : u ≠ -9223372036854775808 := by revert c_27; (repeat' split) <;> omega
      refine sw_lload (n := 32) F 0 rfl dJ8_compareTo_30 rfl ?_
      refine sw_ldc2 (n := 35) F (-9223372036854775808) q250 (by decide) dJ8_compareTo_32 rfl ?_
      refine sw_lcmp (n := 36) F (by omega) (by decide) dJ8_compareTo_35 rfl ?_
      refine sw_if_eq (n := 39) F (by omega) (tgt := 63) dJ8_compareTo_36 (by decide) rfl (fun c_36 => ?_) (fun c_36 => ?_)
      · exfalso; omega
      ·
        have c_36 : w ≠ -9223372036854775808 := by revert c_36; (repeat' split) <;> omega
        refine sw_lload_n (n := 40) F 1 rfl rfl dJ8_compareTo_39 rfl ?_
        refine sw_lload (n := 42) F 0 rfl dJ8_compareTo_40 rfl ?_
        refine sw_lcmp (n := 43) F (by omega) (by omega) dJ8_compareTo_42 rfl ?_
        refine sw_if_eq (n := 46) F (by omega) (tgt := 61) dJ8_compareTo_43 (by decide) rfl (fun c_43 => ?_) (fun c_43 => ?_)
        ·
          have c_43 : u = w := by revert c_43; (repeat' split) <;> omega
          refine sw_iconst (n := 62) F (0) (by decide) dJ8_compareTo_61 rfl ?_
          exact sw_iret F _ rfl (by first | rfl | exact jI_nz (by omega) | exact jI_nc (by omega)) dJ8_compareTo_62 (by rw [hPo]; exact ⟨(by rw [cmD_e (by omega)]; congr 3; have := ciI_cases u w; omega), rfl⟩)
        ·
          have c_43 : u ≠ w := by revert c_43; (repeat' split) <;> omega
          refine sw_lload_n (n := 47) F 1 rfl rfl dJ8_compareTo_46 rfl ?_
          refine sw_lload (n := 49) F 0 rfl dJ8_compareTo_47 rfl ?_
          refine sw_lcmp (n := 50) F (by omega) (by omega) dJ8_compareTo_49 rfl ?_
          refine sw_if_le (n := 53) F (by omega) (tgt := 57) dJ8_compareTo_50 (by decide) rfl (fun c_50 => ?_) (fun c_50 => ?_)
          ·
            have c_50 : u ≤ w := by revert c_50; (repeat' split) <;> omega
            refine sw_iconst (n := 58) F (-1) (by decide) dJ8_compareTo_57 rfl ?_
            refine sw_goto F (n := 62) dJ8_compareTo_58 (by decide) ?_
            exact sw_iret F _ rfl (by first | rfl | exact jI_nz (by omega) | exact jI_nc (by omega)) dJ8_compareTo_62 (by rw [hPo]; exact ⟨(by rw [cmD_e (by omega)]; congr 3; have := ciI_cases u w; omega), rfl⟩)
          ·
            have c_50 : u > w := by revert c_50; (repeat' split) <;> omega
            refine sw_iconst (n := 54) F (1) (by decide) dJ8_compareTo_53 rfl ?_
            refine sw_goto F (n := 62) dJ8_compareTo_54 (by decide) ?_
            exact sw_iret F _ rfl (by first | rfl | exact jI_nz (by omega) | exact jI_nc (by omega)) dJ8_compareTo_62 (by rw [hPo]; exact ⟨(by rw [cmD_e (by omega)]; congr 3; have := ciI_cases u w; omega), rfl⟩)
theorem nd_J8_min : yJ8_min.cls ≠ "java/lang/invoke/MethodHandle" ∧ yJ8_min.cls ≠ "java/lang/invoke/VarHandle" ∧ (parseMethodDescriptor yJ8_min.desc).map (fun d => d.parameters.length) = some 1 := by decide +kernel
set_option maxRecDepth 100000 in
set_option maxHeartbeats 16000000 in
theorem ct_J8_min {g : GG} {l : Launch} (M : Nat → Option PV) (q : Nat) (u : Int) (s : Int) (o : Option Nat) (q2 : Nat) (w : Int) (t : Int) (o2 : Option Nat) (hx : at_ g M q (vD u s o)) (hy : at_ g M q2 (vD w t o2)) (hf : fit u) (hf2 : fit w) (hs : -2147483648 ≤ s ∧ s ≤ 2147483647) (hst : t = s) : Ct g l yJ8_min (ws_ yJ8_min cJ8_min 2 (Option.some (Jvm.ClassFile.FieldType.object "java/math/BigDecimal"))) 7 158 0 0 [.ref q, .ref q2] [pl g M] (fun v9 Ws9 => ∃ M1 : Nat → Option PV, ∃ r1 : Nat, ∃ o1 : Option Nat, v9 = some (.ref r1) ∧ (le_ M M1) ∧ (at_ g M1 r1 (vD (if u ≤ w then u else w) s o1)) ∧ Ws9 = [pl g M1]) (nox) := by
  refine Ct.of (cc := cJ8_min) (nL := 2) (ret := (Option.some (Jvm.ClassFile.FieldType.object "java/math/BigDecimal"))) (by decide) rfl (Nat.le_of_ble_eq_true rfl) ?_
  intro x hg hl hPo hPx hmc hms F
  subst hg; subst hl
  refine SW.cast (L' := [(0, .ref q), (1, .ref q2)]) ?_ rfl rfl rfl
  refine sw_aload_n (n := 1) F 0 (some q) rfl rfl rfl dJ8_min_0 rfl ?_
  refine sw_aload_n (n := 2) F 1 (some q2) rfl rfl rfl dJ8_min_1 rfl ?_
  refine sw_callV (n := 5) F (ct_J8_compareTo (g := xg x) (l := xl x) M q u s o q2 w t o2 hx hy hf hf2 hs (by first | omega | assumption) (by first | omega | assumption)) (rcvD F 0 rfl hx) q3108 q1509 q1510 q112 q1511 nd_J8_compareTo rfl (by decide) [0] rfl [] rfl 0 0 ⟨by omega, by omega⟩ [] rfl (Nat.le_of_ble_eq_true rfl) dJ8_min_2 rfl (fun _ _ h => h.elim) (fun v Ws h => ?_)
  obtain ⟨rfl, rfl⟩ := h
  show SW x [pl (xg x) M] _ _ _ _ [.int (jI (cmD u s w t))]
  have hcd := cmD_e (u := u) (w := w) (s := s) (t := t) (by omega)
  have hci := ciI_cases u w
  refine sw_if_gt (n := 8) F (by omega) (tgt := 12) dJ8_min_5 (by decide) rfl (fun c_5 => ?_) (fun c_5 => ?_)
  ·
    refine sw_aload_n (n := 13) F 1 (some q2) rfl rfl rfl dJ8_min_12 rfl ?_
    exact sw_aret F (some q2) _ rfl rfl (by first | exact Or.inl ⟨_, rfl⟩ | exact Or.inr ⟨_, rfl⟩) dJ8_min_13 (by rw [hPo]; exact ⟨M, q2, o2, rfl, le_.rf, (by first | (rw [if_pos (by omega)]; assumption) | (rw [if_neg (by omega)]; rw [hst] at hy; exact hy)), rfl⟩)
  ·
    refine sw_aload_n (n := 9) F 0 (some q) rfl rfl rfl dJ8_min_8 rfl ?_
    refine sw_goto F (n := 13) dJ8_min_9 (by decide) ?_
    exact sw_aret F (some q) _ rfl rfl (by first | exact Or.inl ⟨_, rfl⟩ | exact Or.inr ⟨_, rfl⟩) dJ8_min_13 (by rw [hPo]; exact ⟨M, q, o, rfl, le_.rf, (by first | (rw [if_pos (by omega)]; assumption) | (rw [if_neg (by omega)]; rw [hst] at hy; exact hy)), rfl⟩)
theorem nd_J8_equals : yJ8_equals.cls ≠ "java/lang/invoke/MethodHandle" ∧ yJ8_equals.cls ≠ "java/lang/invoke/VarHandle" ∧ (parseMethodDescriptor yJ8_equals.desc).map (fun d => d.parameters.length) = some 1 := by decide +kernel
set_option maxRecDepth 100000 in
set_option maxHeartbeats 16000000 in
theorem ct_J8_equals {g : GG} {l : Launch} (M : Nat → Option PV) (q : Nat) (u : Int) (s : Int) (o : Option Nat) (q2 : Nat) (w : Int) (t : Int) (o2 : Option Nat) (hx : at_ g M q (vD u s o)) (hy : at_ g M q2 (vD w t o2)) (hf : fit u) (hf2 : fit w) (hs : -2147483648 ≤ s ∧ s ≤ 2147483647) (ht : -2147483648 ≤ t ∧ t ≤ 2147483647) : Ct g l yJ8_equals (ws_ yJ8_equals cJ8_equals 7 (Option.some Jvm.ClassFile.FieldType.boolean)) 1 12 0 0 [.ref q, .ref q2] [pl g M] (fun v9 Ws9 => v9 = some (.int (jI (if u = w ∧ s = t then 1 else 0))) ∧ Ws9 = [pl g M]) (nox) := by
  refine Ct.of (cc := cJ8_equals) (nL := 7) (ret := (Option.some Jvm.ClassFile.FieldType.boolean)) (by decide) rfl (Nat.le_of_ble_eq_true rfl) ?_
  intro x hg hl hPo hPx hmc hms F
  subst hg; subst hl
  refine SW.cast (L' := [(0, .ref q), (1, .ref q2)]) ?_ rfl rfl rfl
  have hcr := cpt_rng u
  have hcr2 := cpt_rng w
  have hr9 := hf
  unfold fit at hr9
  have hr8 := hf2
  unfold fit at hr8
  refine sw_aload_n (n := 1) F 1 (some q2) rfl rfl rfl dJ8_equals_0 rfl ?_
  refine sw_instO (n := 4) F (rcvD F 0 rfl hy) q251 dJ8_equals_1 rfl ?_
  refine sw_if_eq (n := 7) F (by decide) (tgt := 15) dJ8_equals_4 (by decide) rfl (fun c_4 => ?_) (fun c_4 => ?_)
  · exfalso; exact absurd c_4 (by decide)
  ·
    refine sw_aload_n (n := 8) F 1 (some q2) rfl rfl rfl dJ8_equals_7 rfl ?_
    refine sw_castO (n := 11) F (rcvD F 0 rfl hy) q251 dJ8_equals_8 rfl ?_
    refine sw_astore_n (n := 12) F (some q2) (L2 := [(2, .ref q2), (0, .ref q), (1, .ref q2)]) rfl rfl (by decide) rfl dJ8_equals_11 rfl ?_
    refine sw_goto F (n := 17) dJ8_equals_12 (by decide) ?_
    refine sw_aload_n (n := 18) F 2 (some q2) rfl rfl rfl dJ8_equals_17 rfl ?_
    refine sw_aload_n (n := 19) F 1 (some q) rfl rfl rfl dJ8_equals_18 rfl ?_
    refine sw_acmp_ne (n := 22) F (rx := (some q2)) (ry := (some q)) rfl rfl (tgt := 24) dJ8_equals_19 (by decide) rfl (fun c_19 => ?_) (fun c_19 => ?_)
    ·
      refine sw_aload_n (n := 25) F 1 (some q) rfl rfl rfl dJ8_equals_24 rfl ?_
      refine sw_getD (n := 28) F 0 rfl hx (k := 1) ⟨(RJ8, TJ8, 5), rfl, by decide, q261, in_J8, Or.inl rfl⟩ (.int (jI s)) (fun _ => rfl) dJ8_equals_25 rfl ?_
      refine sw_aload_n (n := 29) F 0 (some q2) rfl rfl rfl dJ8_equals_28 rfl ?_
      refine sw_getD (n := 32) F 0 rfl hy (k := 1) ⟨(RJ8, TJ8, 5), rfl, by decide, q261, in_J8, Or.inl rfl⟩ (.int (jI t)) (fun _ => rfl) dJ8_equals_29 rfl ?_
      refine sw_icmp_eq (n := 35) F (by omega) (by omega) (tgt := 37) dJ8_equals_32 (by decide) rfl (fun c_32 => ?_) (fun c_32 => ?_)
      ·
        refine sw_aload_n (n := 38) F 1 (some q) rfl rfl rfl dJ8_equals_37 rfl ?_
        refine sw_getD (n := 41) F 0 rfl hx (k := 4) ⟨(RJ8, TJ8, 5), rfl, by decide, q264, in_J8, Or.inl rfl⟩ (.long (jL (cpt u))) (fun _ => rfl) dJ8_equals_38 rfl ?_
        refine SW.cast (st' := [.long (jL u)]) ?_ rfl rfl (by first | rfl | simp only [cpt_1 hf, cpt_1 hf2])
        refine sw_lstore_n (n := 42) F (L2 := [(3, .long (jL u)), (2, .ref q2), (0, .ref q), (1, .ref q2)]) rfl (by decide) rfl dJ8_equals_41 rfl ?_
        refine sw_aload_n (n := 43) F 1 (some q2) rfl rfl rfl dJ8_equals_42 rfl ?_
        refine sw_getD (n := 46) F 0 rfl hy (k := 4) ⟨(RJ8, TJ8, 5), rfl, by decide, q264, in_J8, Or.inl rfl⟩ (.long (jL (cpt w))) (fun _ => rfl) dJ8_equals_43 rfl ?_
        refine SW.cast (st' := [.long (jL w)]) ?_ rfl rfl (by first | rfl | simp only [cpt_1 hf, cpt_1 hf2])
        refine sw_lstore (n := 48) F (L2 := [(5, .long (jL w)), (3, .long (jL u)), (2, .ref q2), (0, .ref q), (1, .ref q2)]) rfl (by decide) dJ8_equals_46 rfl ?_
        refine sw_lload_n (n := 49) F 1 rfl rfl dJ8_equals_48 rfl ?_
        refine sw_ldc2 (n := 52) F (-9223372036854775808) q250 (by decide) dJ8_equals_49 rfl ?_
        refine sw_lcmp (n := 53) F (by omega) (by decide) dJ8_equals_52 rfl ?_
        refine sw_if_eq (n := 56) F (by omega) (tgt := 87) dJ8_equals_53 (by decide) rfl (fun c_53 => ?_) (fun c_53 => ?_)
        · exfalso; omega
        ·
          have c_53 : u ≠ -9223372036854775808 := by revert c_53; (repeat' split) <;> omega
          refine sw_lload (n := 58) F 0 rfl dJ8_equals_56 rfl ?_
          refine sw_ldc2 (n := 61) F (-9223372036854775808) q250 (by decide) dJ8_equals_58 rfl ?_
          refine sw_lcmp (n := 62) F (by omega) (by decide) dJ8_equals_61 rfl ?_
          refine sw_if_ne (n := 65) F (by omega) (tgt := 74) dJ8_equals_62 (by decide) rfl (fun c_62 => ?_) (fun c_62 => ?_)
          ·
            have c_62 : w ≠ -9223372036854775808 := by revert c_62; (repeat' split) <;> omega
            refine sw_lload (n := 76) F 0 rfl dJ8_equals_74 rfl ?_
            refine sw_lload_n (n := 77) F 1 rfl rfl dJ8_equals_76 rfl ?_
            refine sw_lcmp (n := 78) F (by omega) (by omega) dJ8_equals_77 rfl ?_
            refine sw_if_ne (n := 81) F (by omega) (tgt := 85) dJ8_equals_78 (by decide) rfl (fun c_78 => ?_) (fun c_78 => ?_)
            ·
              have c_78 : w ≠ u := by revert c_78; (repeat' split) <;> omega
              refine sw_iconst (n := 86) F (0) (by decide) dJ8_equals_85 rfl ?_
              exact sw_iret F _ rfl (by first | rfl | exact jI_nz (by omega) | exact jI_nc (by omega)) dJ8_equals_86 (by rw [hPo]; exact ⟨(by first | (rw [if_pos (by omega)]) | (rw [if_neg (by omega)])), rfl⟩)
            ·
              have c_78 : w = u := by revert c_78; (repeat' split) <;> omega
              refine sw_iconst (n := 82) F (1) (by decide) dJ8_equals_81 rfl ?_
              refine sw_goto F (n := 86) dJ8_equals_82 (by decide) ?_
              exact sw_iret F _ rfl (by first | rfl | exact jI_nz (by omega) | exact jI_nc (by omega)) dJ8_equals_86 (by rw [hPo]; exact ⟨(by first | (rw [if_pos (by omega)]) | (rw [if_neg (by omega)])), rfl⟩)
          · exfalso; omega
      ·
        refine sw_iconst (n := 36) F (0) (by decide) dJ8_equals_35 rfl ?_
        exact sw_iret F _ rfl (by first | rfl | exact jI_nz (by omega) | exact jI_nc (by omega)) dJ8_equals_36 (by rw [hPo]; exact ⟨(by first | (rw [if_pos (by omega)]) | (rw [if_neg (by omega)])), rfl⟩)
    ·
      refine sw_iconst (n := 23) F (1) (by decide) dJ8_equals_22 rfl ?_
      exact sw_iret F _ rfl (by first | rfl | exact jI_nz (by omega) | exact jI_nc (by omega)) dJ8_equals_23 (by rw [hPo]; exact ⟨(by have hq9 := at_uni hx ((Option.some.inj c_19) ▸ hy) hf hf2 hs ht; rw [if_pos hq9]), rfl⟩)
theorem nd_J8_movePointLeft : yJ8_movePointLeft.cls ≠ "java/lang/invoke/MethodHandle" ∧ yJ8_movePointLeft.cls ≠ "java/lang/invoke/VarHandle" ∧ (parseMethodDescriptor yJ8_movePointLeft.desc).map (fun d => d.parameters.length) = some 1 := by decide +kernel
set_option maxRecDepth 100000 in
set_option maxHeartbeats 16000000 in
theorem ct_J8_movePointLeft {g : GG} {l : Launch} (M : Nat → Option PV) (q : Nat) (u : Int) (s : Int) (o : Option Nat) (k9 : Int) (hx : at_ g M q (vD u s o)) (hf : fit u) (hs : -2147483648 ≤ s ∧ s ≤ 2147483647) (hk : k9 ≠ 0 ∧ -100 ≤ k9 ∧ k9 ≤ 100) (hsk : 0 ≤ s + k9 ∧ s + k9 ≤ 1000) : Ct g l yJ8_movePointLeft (ws_ yJ8_movePointLeft cJ8_movePointLeft 4 (Option.some (Jvm.ClassFile.FieldType.object "java/math/BigDecimal"))) 3 57 1 5 [.ref q, .int (jI k9)] [pl g M] (fun v9 Ws9 => ∃ M1 : Nat → Option PV, ∃ r1 : Nat, ∃ o1 : Option Nat, v9 = some (.ref r1) ∧ (le_ M M1) ∧ (at_ g M1 r1 (vD u (s + k9) o1)) ∧ Ws9 = [pl g M1]) (nox) := by
  refine Ct.of (cc := cJ8_movePointLeft) (nL := 4) (ret := (Option.some (Jvm.ClassFile.FieldType.object "java/math/BigDecimal"))) (by decide) rfl (Nat.le_of_ble_eq_true rfl) ?_
  intro x hg hl hPo hPx hmc hms F
  subst hg; subst hl
  refine SW.cast (L' := [(0, .ref q), (1, .int (jI k9))]) ?_ rfl rfl rfl
  refine sw_factD 0 rfl hx (fun hfo hfb => ?_)
  refine sw_iload_n (n := 1) F 1 rfl rfl dJ8_movePointLeft_0 rfl ?_
  refine sw_if_ne (n := 4) F (by omega) (tgt := 13) dJ8_movePointLeft_1 (by decide) rfl (fun c_1 => ?_) (fun c_1 => ?_)
  ·
    refine sw_aload_n (n := 14) F 0 (some q) rfl rfl rfl dJ8_movePointLeft_13 rfl ?_
    refine sw_aload_n (n := 15) F 0 (some q) rfl rfl rfl dJ8_movePointLeft_14 rfl ?_
    refine sw_getD (n := 18) F 0 rfl hx (k := 1) ⟨(RJ8, TJ8, 5), rfl, by decide, q261, in_J8, Or.inl rfl⟩ (.int (jI s)) (fun _ => rfl) dJ8_movePointLeft_15 rfl ?_
    refine sw_i2l (n := 19) F (by omega) dJ8_movePointLeft_18 rfl ?_
    refine sw_iload_n (n := 20) F 1 rfl rfl dJ8_movePointLeft_19 rfl ?_
    refine sw_i2l (n := 21) F (by omega) dJ8_movePointLeft_20 rfl ?_
    refine sw_ladd (n := 22) F dJ8_movePointLeft_21 rfl ?_
    refine sw_callV (n := 25) F (ct_J8_checkScale_3 (g := xg x) (l := xl x) q (s + k9) (by first | omega | assumption)) (rcvD F 0 rfl hx) q2566 q2568 qs41 q112 q2569 nd_J8_checkScale_3 rfl (by decide) [0] rfl [pl (xg x) M] rfl 1 5 ⟨by omega, by omega⟩ [] rfl (Nat.le_of_ble_eq_true rfl) dJ8_movePointLeft_22 rfl (fun _ _ h => h.elim) (fun v Ws h => ?_)
    obtain ⟨rfl, rfl⟩ := h
    show SW x [pl (xg x) M] _ _ _ _ [.int (jI (s + k9))]
    refine sw_istore_n (n := 26) F (L2 := [(2, .int (jI (s + k9))), (0, .ref q), (1, .int (jI k9))]) rfl (by decide) rfl dJ8_movePointLeft_25 rfl ?_
    refine sw_new (n := 29) F (ci := 13) (N := 5) RJ8 TJ8 tyJ8 rfl q251 q252 q112 in_J8 tyJ8_ok (fs := [.null, .int (jI 0), .int (jI 0), .null, .long (jL 0)]) rfl 0 0 ⟨by omega, by omega⟩ dJ8_movePointLeft_26 rfl (fun q_1 => ?_)
    refine sw_dup (n := 30) F rfl dJ8_movePointLeft_29 rfl ?_
    refine sw_aload_n (n := 31) F 1 (some q) rfl rfl rfl dJ8_movePointLeft_30 rfl ?_
    refine sw_getD (n := 34) F 1 rfl hx (k := 0) ⟨(RJ8, TJ8, 5), rfl, by decide, q260, in_J8, Or.inl rfl⟩ (va_rf o) (fun _ => rfl) dJ8_movePointLeft_31 rfl ?_
    refine sw_aload_n (n := 35) F 1 (some q) rfl rfl rfl dJ8_movePointLeft_34 rfl ?_
    refine sw_getD (n := 38) F 1 rfl hx (k := 4) ⟨(RJ8, TJ8, 5), rfl, by decide, q264, in_J8, Or.inl rfl⟩ (.long (jL (cpt u))) (fun _ => rfl) dJ8_movePointLeft_35 rfl ?_
    refine sw_iload_n (n := 39) F 0 rfl rfl dJ8_movePointLeft_38 rfl ?_
    refine sw_iconst (n := 40) F (0) (by decide) dJ8_movePointLeft_39 rfl ?_
    refine sw_callI (n := 43) F (ct_J8_init (g := xg x) (l := xl x) q_1 o (cpt u) (s + k9) 0 ) q253 q254 q112 q255 rfl nd_J8_init rfl (by decide) [0, 1] rfl [pl (xg x) M] rfl 0 0 ⟨by omega, by omega⟩ [.ref q_1] rfl (Nat.le_of_ble_eq_true rfl) dJ8_movePointLeft_40 rfl (fun _ _ h => h.elim) (fun v Ws h => ?_)
    obtain ⟨rfl, rfl⟩ := h
    show SW x [ob (xg x) q_1 13 [va_rf o, .int (jI (s + k9)), .int (jI 0), .null, .long (jL (cpt u))], pl (xg x) M] _ _ _ _ [.ref q_1]
    refine sw_astore_n (n := 44) F (some q_1) (L2 := [(3, .ref q_1), (2, .int (jI (s + k9))), (0, .ref q), (1, .int (jI k9))]) rfl rfl (by decide) rfl dJ8_movePointLeft_43 rfl ?_
    refine sw_aload_n (n := 45) F 0 (some q_1) rfl rfl rfl dJ8_movePointLeft_44 rfl ?_
    refine sw_get (n := 48) F 0 rfl (k := 1) ⟨(RJ8, TJ8, 5), rfl, by decide, q261, in_J8, Or.inl rfl⟩ rfl dJ8_movePointLeft_45 rfl ?_
    refine sw_if_ge (n := 51) F (by omega) (tgt := 61) dJ8_movePointLeft_48 (by decide) rfl (fun c_48 => ?_) (fun c_48 => ?_)
    ·
      refine sw_aload_n (n := 62) F 0 (some q_1) rfl rfl rfl dJ8_movePointLeft_61 rfl ?_
      refine SW.cast (Ps' := ob (xg x) q_1 13 (flD u (s + k9) o 0) :: [pl (xg x) M]) ?_ (by rfl) rfl rfl
      refine sw_absD F (Or.inr rfl) (hfo) (hfb) (fun M_2 hle_3 hat_4 => ?_)
      show SW x [pl (xg x) M_2] _ _ _ _ [.ref q_1]
      exact sw_aret F (some q_1) _ rfl rfl (by first | exact Or.inl ⟨_, rfl⟩ | exact Or.inr ⟨_, rfl⟩) dJ8_movePointLeft_62 (by rw [hPo]; exact ⟨M_2, q_1, o, rfl, hle_3, hat_4, rfl⟩)
    · exfalso; omega
  · exfalso; omega
