set_option maxRecDepth 100000
def dkwJ8_needIncrement_2_3 : List UInt8 := [172]
abbrev dktJ8_needIncrement_2_3 : List UInt8 := dkwJ8_needIncrement_2_3 ++ []
def dkwJ8_needIncrement_2_2 : List UInt8 := [20, 1, 62, 22, 5, 105, 30, 184, 2, 120, 54, 7, 28, 29, 21, 7, 25, 4, 182, 3, 200, 184, 3, 169]
abbrev dktJ8_needIncrement_2_2 : List UInt8 := dkwJ8_needIncrement_2_2 ++ dktJ8_needIncrement_2_3
def dkwJ8_needIncrement_2_1 : List UInt8 := [20, 3, 165, 148, 158, 0, 12, 22, 5, 20, 3, 167, 148, 158, 0, 9, 4, 54, 7, 167, 0, 15]
abbrev dktJ8_needIncrement_2_1 : List UInt8 := dkwJ8_needIncrement_2_1 ++ dktJ8_needIncrement_2_2
def dkwJ8_needIncrement_2_0 : List UInt8 := [178, 1, 55, 154, 0, 18, 22, 5, 9, 148, 154, 0, 11, 187, 1, 59, 89, 183, 1, 61, 191, 22, 5]
abbrev dktJ8_needIncrement_2_0 : List UInt8 := dkwJ8_needIncrement_2_0 ++ dktJ8_needIncrement_2_1
theorem dksJ8_needIncrement_2_0 : cJ8_needIncrement_2.data.toList.drop 0 = dktJ8_needIncrement_2_0 := by decide +kernel
theorem dksJ8_needIncrement_2_1 : cJ8_needIncrement_2.data.toList.drop 23 = dktJ8_needIncrement_2_1 := dk_seg dksJ8_needIncrement_2_0 23 rfl rfl
theorem dksJ8_needIncrement_2_2 : cJ8_needIncrement_2.data.toList.drop 45 = dktJ8_needIncrement_2_2 := dk_seg dksJ8_needIncrement_2_1 22 rfl rfl
theorem dksJ8_needIncrement_2_3 : cJ8_needIncrement_2.data.toList.drop 69 = dktJ8_needIncrement_2_3 := dk_seg dksJ8_needIncrement_2_2 24 rfl rfl
theorem dJ8_needIncrement_2_0 : decode cJ8_needIncrement_2 0 = .ok (.getstatic 311, 3) := dk_178 1 55 (dk_at dksJ8_needIncrement_2_0 0 rfl rfl)
theorem dJ8_needIncrement_2_3 : decode cJ8_needIncrement_2 3 = .ok (.ifCond .ne 18, 3) := dk_154 0 18 (dk_at dksJ8_needIncrement_2_0 3 rfl rfl)
theorem dJ8_needIncrement_2_6 : decode cJ8_needIncrement_2 6 = .ok (.lload 5, 2) := dk_22 5 (dk_at dksJ8_needIncrement_2_0 6 rfl rfl)
theorem dJ8_needIncrement_2_8 : decode cJ8_needIncrement_2 8 = .ok (.lconst 0, 1) := dk_9 (dk_at dksJ8_needIncrement_2_0 8 rfl rfl)
theorem dJ8_needIncrement_2_9 : decode cJ8_needIncrement_2 9 = .ok (.lcmp, 1) := dk_148 (dk_at dksJ8_needIncrement_2_0 9 rfl rfl)
theorem dJ8_needIncrement_2_10 : decode cJ8_needIncrement_2 10 = .ok (.ifCond .ne 11, 3) := dk_154 0 11 (dk_at dksJ8_needIncrement_2_0 10 rfl rfl)
theorem dJ8_needIncrement_2_13 : decode cJ8_needIncrement_2 13 = .ok (.new 315, 3) := dk_187 1 59 (dk_at dksJ8_needIncrement_2_0 13 rfl rfl)
theorem dJ8_needIncrement_2_16 : decode cJ8_needIncrement_2 16 = .ok (.dup, 1) := dk_89 (dk_at dksJ8_needIncrement_2_0 16 rfl rfl)
theorem dJ8_needIncrement_2_17 : decode cJ8_needIncrement_2 17 = .ok (.invokespecial 317, 3) := dk_183 1 61 (dk_at dksJ8_needIncrement_2_0 17 rfl rfl)
theorem dJ8_needIncrement_2_20 : decode cJ8_needIncrement_2 20 = .ok (.athrow, 1) := dk_191 (dk_at dksJ8_needIncrement_2_0 20 rfl rfl)
theorem dJ8_needIncrement_2_21 : decode cJ8_needIncrement_2 21 = .ok (.lload 5, 2) := dk_22 5 (dk_at dksJ8_needIncrement_2_0 21 rfl rfl)
theorem dJ8_needIncrement_2_23 : decode cJ8_needIncrement_2 23 = .ok (.ldc2_w 933, 3) := dk_20 3 165 (dk_at dksJ8_needIncrement_2_1 0 rfl rfl)
theorem dJ8_needIncrement_2_26 : decode cJ8_needIncrement_2 26 = .ok (.lcmp, 1) := dk_148 (dk_at dksJ8_needIncrement_2_1 3 rfl rfl)
theorem dJ8_needIncrement_2_27 : decode cJ8_needIncrement_2 27 = .ok (.ifCond .le 12, 3) := dk_158 0 12 (dk_at dksJ8_needIncrement_2_1 4 rfl rfl)
theorem dJ8_needIncrement_2_30 : decode cJ8_needIncrement_2 30 = .ok (.lload 5, 2) := dk_22 5 (dk_at dksJ8_needIncrement_2_1 7 rfl rfl)
theorem dJ8_needIncrement_2_32 : decode cJ8_needIncrement_2 32 = .ok (.ldc2_w 935, 3) := dk_20 3 167 (dk_at dksJ8_needIncrement_2_1 9 rfl rfl)
theorem dJ8_needIncrement_2_35 : decode cJ8_needIncrement_2 35 = .ok (.lcmp, 1) := dk_148 (dk_at dksJ8_needIncrement_2_1 12 rfl rfl)
theorem dJ8_needIncrement_2_36 : decode cJ8_needIncrement_2 36 = .ok (.ifCond .le 9, 3) := dk_158 0 9 (dk_at dksJ8_needIncrement_2_1 13 rfl rfl)
theorem dJ8_needIncrement_2_39 : decode cJ8_needIncrement_2 39 = .ok (.iconst 1, 1) := dk_4 (dk_at dksJ8_needIncrement_2_1 16 rfl rfl)
theorem dJ8_needIncrement_2_40 : decode cJ8_needIncrement_2 40 = .ok (.istore 7, 2) := dk_54 7 (dk_at dksJ8_needIncrement_2_1 17 rfl rfl)
theorem dJ8_needIncrement_2_42 : decode cJ8_needIncrement_2 42 = .ok (.goto 15, 3) := dk_167 0 15 (dk_at dksJ8_needIncrement_2_1 19 rfl rfl)
theorem dJ8_needIncrement_2_45 : decode cJ8_needIncrement_2 45 = .ok (.ldc2_w 318, 3) := dk_20 1 62 (dk_at dksJ8_needIncrement_2_2 0 rfl rfl)
theorem dJ8_needIncrement_2_48 : decode cJ8_needIncrement_2 48 = .ok (.lload 5, 2) := dk_22 5 (dk_at dksJ8_needIncrement_2_2 3 rfl rfl)
theorem dJ8_needIncrement_2_50 : decode cJ8_needIncrement_2 50 = .ok (.lmul, 1) := dk_105 (dk_at dksJ8_needIncrement_2_2 5 rfl rfl)
theorem dJ8_needIncrement_2_51 : decode cJ8_needIncrement_2 51 = .ok (.lload_n 0, 1) := dk_30 (dk_at dksJ8_needIncrement_2_2 6 rfl rfl)
theorem dJ8_needIncrement_2_52 : decode cJ8_needIncrement_2 52 = .ok (.invokestatic 632, 3) := dk_184 2 120 (dk_at dksJ8_needIncrement_2_2 7 rfl rfl)
theorem dJ8_needIncrement_2_55 : decode cJ8_needIncrement_2 55 = .ok (.istore 7, 2) := dk_54 7 (dk_at dksJ8_needIncrement_2_2 10 rfl rfl)
theorem dJ8_needIncrement_2_57 : decode cJ8_needIncrement_2 57 = .ok (.iload_n 2, 1) := dk_28 (dk_at dksJ8_needIncrement_2_2 12 rfl rfl)
theorem dJ8_needIncrement_2_58 : decode cJ8_needIncrement_2 58 = .ok (.iload_n 3, 1) := dk_29 (dk_at dksJ8_needIncrement_2_2 13 rfl rfl)
theorem dJ8_needIncrement_2_59 : decode cJ8_needIncrement_2 59 = .ok (.iload 7, 2) := dk_21 7 (dk_at dksJ8_needIncrement_2_2 14 rfl rfl)
theorem dJ8_needIncrement_2_61 : decode cJ8_needIncrement_2 61 = .ok (.aload 4, 2) := dk_25 4 (dk_at dksJ8_needIncrement_2_2 16 rfl rfl)
theorem dJ8_needIncrement_2_63 : decode cJ8_needIncrement_2 63 = .ok (.invokevirtual 968, 3) := dk_182 3 200 (dk_at dksJ8_needIncrement_2_2 18 rfl rfl)
theorem dJ8_needIncrement_2_66 : decode cJ8_needIncrement_2 66 = .ok (.invokestatic 937, 3) := dk_184 3 169 (dk_at dksJ8_needIncrement_2_2 21 rfl rfl)
theorem dJ8_needIncrement_2_69 : decode cJ8_needIncrement_2 69 = .ok (.ireturn, 1) := dk_172 (dk_at dksJ8_needIncrement_2_3 0 rfl rfl)
def dkwJ8_divideAndRound_6_6 : List UInt8 := [58, 14, 25, 14, 29, 21, 5, 133, 184, 2, 113, 176, 25, 7, 21, 11, 29, 182, 3, 193, 176]
abbrev dktJ8_divideAndRound_6_6 : List UInt8 := dkwJ8_divideAndRound_6_6 ++ []
def dkwJ8_divideAndRound_6_5 : List UInt8 := [20, 0, 125, 148, 153, 0, 13, 22, 12, 29, 21, 5, 133, 184, 2, 109, 176, 25, 7, 21, 11, 182, 3, 191]
abbrev dktJ8_divideAndRound_6_5 : List UInt8 := dkwJ8_divideAndRound_6_5 ++ dktJ8_divideAndRound_6_6
def dkwJ8_divideAndRound_6_4 : List UInt8 := [21, 11, 29, 182, 3, 193, 176, 21, 5, 29, 159, 0, 50, 25, 7, 21, 11, 182, 3, 196, 55, 12, 22, 12]
abbrev dktJ8_divideAndRound_6_4 : List UInt8 := dkwJ8_divideAndRound_6_4 ++ dktJ8_divideAndRound_6_5
def dkwJ8_divideAndRound_6_3 : List UInt8 := [21, 4, 21, 11, 25, 7, 22, 8, 184, 3, 182, 153, 0, 11, 25, 7, 178, 3, 185, 182, 3, 188, 25, 7]
abbrev dktJ8_divideAndRound_6_3 : List UInt8 := dkwJ8_divideAndRound_6_3 ++ dktJ8_divideAndRound_6_4
def dkwJ8_divideAndRound_6_2 : List UInt8 := [148, 156, 0, 11, 42, 180, 3, 102, 116, 167, 0, 7, 42, 180, 3, 102, 54, 11, 21, 10, 154, 0, 35, 31]
abbrev dktJ8_divideAndRound_6_2 : List UInt8 := dkwJ8_divideAndRound_6_2 ++ dktJ8_divideAndRound_6_3
def dkwJ8_divideAndRound_6_1 : List UInt8 := [31, 25, 7, 182, 3, 179, 55, 8, 22, 8, 9, 148, 154, 0, 7, 4, 167, 0, 4, 3, 54, 10, 31, 9]
abbrev dktJ8_divideAndRound_6_1 : List UInt8 := dkwJ8_divideAndRound_6_1 ++ dktJ8_divideAndRound_6_2
def dkwJ8_divideAndRound_6_0 : List UInt8 := [187, 3, 173, 89, 42, 180, 3, 110, 183, 3, 175, 58, 6, 187, 3, 173, 89, 183, 3, 178, 58, 7, 25, 6]
abbrev dktJ8_divideAndRound_6_0 : List UInt8 := dkwJ8_divideAndRound_6_0 ++ dktJ8_divideAndRound_6_1
theorem dksJ8_divideAndRound_6_0 : cJ8_divideAndRound_6.data.toList.drop 0 = dktJ8_divideAndRound_6_0 := by decide +kernel
theorem dksJ8_divideAndRound_6_1 : cJ8_divideAndRound_6.data.toList.drop 24 = dktJ8_divideAndRound_6_1 := dk_seg dksJ8_divideAndRound_6_0 24 rfl rfl
theorem dksJ8_divideAndRound_6_2 : cJ8_divideAndRound_6.data.toList.drop 48 = dktJ8_divideAndRound_6_2 := dk_seg dksJ8_divideAndRound_6_1 24 rfl rfl
theorem dksJ8_divideAndRound_6_3 : cJ8_divideAndRound_6.data.toList.drop 72 = dktJ8_divideAndRound_6_3 := dk_seg dksJ8_divideAndRound_6_2 24 rfl rfl
theorem dksJ8_divideAndRound_6_4 : cJ8_divideAndRound_6.data.toList.drop 96 = dktJ8_divideAndRound_6_4 := dk_seg dksJ8_divideAndRound_6_3 24 rfl rfl
theorem dksJ8_divideAndRound_6_5 : cJ8_divideAndRound_6.data.toList.drop 120 = dktJ8_divideAndRound_6_5 := dk_seg dksJ8_divideAndRound_6_4 24 rfl rfl
theorem dksJ8_divideAndRound_6_6 : cJ8_divideAndRound_6.data.toList.drop 144 = dktJ8_divideAndRound_6_6 := dk_seg dksJ8_divideAndRound_6_5 24 rfl rfl
theorem dJ8_divideAndRound_6_0 : decode cJ8_divideAndRound_6 0 = .ok (.new 941, 3) := dk_187 3 173 (dk_at dksJ8_divideAndRound_6_0 0 rfl rfl)
theorem dJ8_divideAndRound_6_3 : decode cJ8_divideAndRound_6 3 = .ok (.dup, 1) := dk_89 (dk_at dksJ8_divideAndRound_6_0 3 rfl rfl)
theorem dJ8_divideAndRound_6_4 : decode cJ8_divideAndRound_6 4 = .ok (.aload_n 0, 1) := dk_42 (dk_at dksJ8_divideAndRound_6_0 4 rfl rfl)
theorem dJ8_divideAndRound_6_5 : decode cJ8_divideAndRound_6 5 = .ok (.getfield 878, 3) := dk_180 3 110 (dk_at dksJ8_divideAndRound_6_0 5 rfl rfl)
theorem dJ8_divideAndRound_6_8 : decode cJ8_divideAndRound_6 8 = .ok (.invokespecial 943, 3) := dk_183 3 175 (dk_at dksJ8_divideAndRound_6_0 8 rfl rfl)
theorem dJ8_divideAndRound_6_11 : decode cJ8_divideAndRound_6 11 = .ok (.astore 6, 2) := dk_58 6 (dk_at dksJ8_divideAndRound_6_0 11 rfl rfl)
theorem dJ8_divideAndRound_6_13 : decode cJ8_divideAndRound_6 13 = .ok (.new 941, 3) := dk_187 3 173 (dk_at dksJ8_divideAndRound_6_0 13 rfl rfl)
theorem dJ8_divideAndRound_6_16 : decode cJ8_divideAndRound_6 16 = .ok (.dup, 1) := dk_89 (dk_at dksJ8_divideAndRound_6_0 16 rfl rfl)
theorem dJ8_divideAndRound_6_17 : decode cJ8_divideAndRound_6 17 = .ok (.invokespecial 946, 3) := dk_183 3 178 (dk_at dksJ8_divideAndRound_6_0 17 rfl rfl)
theorem dJ8_divideAndRound_6_20 : decode cJ8_divideAndRound_6 20 = .ok (.astore 7, 2) := dk_58 7 (dk_at dksJ8_divideAndRound_6_0 20 rfl rfl)
theorem dJ8_divideAndRound_6_22 : decode cJ8_divideAndRound_6 22 = .ok (.aload 6, 2) := dk_25 6 (dk_at dksJ8_divideAndRound_6_0 22 rfl rfl)
theorem dJ8_divideAndRound_6_24 : decode cJ8_divideAndRound_6 24 = .ok (.lload_n 1, 1) := dk_31 (dk_at dksJ8_divideAndRound_6_1 0 rfl rfl)
theorem dJ8_divideAndRound_6_25 : decode cJ8_divideAndRound_6 25 = .ok (.aload 7, 2) := dk_25 7 (dk_at dksJ8_divideAndRound_6_1 1 rfl rfl)
theorem dJ8_divideAndRound_6_27 : decode cJ8_divideAndRound_6 27 = .ok (.invokevirtual 947, 3) := dk_182 3 179 (dk_at dksJ8_divideAndRound_6_1 3 rfl rfl)
theorem dJ8_divideAndRound_6_30 : decode cJ8_divideAndRound_6 30 = .ok (.lstore 8, 2) := dk_55 8 (dk_at dksJ8_divideAndRound_6_1 6 rfl rfl)
theorem dJ8_divideAndRound_6_32 : decode cJ8_divideAndRound_6 32 = .ok (.lload 8, 2) := dk_22 8 (dk_at dksJ8_divideAndRound_6_1 8 rfl rfl)
theorem dJ8_divideAndRound_6_34 : decode cJ8_divideAndRound_6 34 = .ok (.lconst 0, 1) := dk_9 (dk_at dksJ8_divideAndRound_6_1 10 rfl rfl)
theorem dJ8_divideAndRound_6_35 : decode cJ8_divideAndRound_6 35 = .ok (.lcmp, 1) := dk_148 (dk_at dksJ8_divideAndRound_6_1 11 rfl rfl)
theorem dJ8_divideAndRound_6_36 : decode cJ8_divideAndRound_6 36 = .ok (.ifCond .ne 7, 3) := dk_154 0 7 (dk_at dksJ8_divideAndRound_6_1 12 rfl rfl)
theorem dJ8_divideAndRound_6_39 : decode cJ8_divideAndRound_6 39 = .ok (.iconst 1, 1) := dk_4 (dk_at dksJ8_divideAndRound_6_1 15 rfl rfl)
theorem dJ8_divideAndRound_6_40 : decode cJ8_divideAndRound_6 40 = .ok (.goto 4, 3) := dk_167 0 4 (dk_at dksJ8_divideAndRound_6_1 16 rfl rfl)
theorem dJ8_divideAndRound_6_43 : decode cJ8_divideAndRound_6 43 = .ok (.iconst 0, 1) := dk_3 (dk_at dksJ8_divideAndRound_6_1 19 rfl rfl)
theorem dJ8_divideAndRound_6_44 : decode cJ8_divideAndRound_6 44 = .ok (.istore 10, 2) := dk_54 10 (dk_at dksJ8_divideAndRound_6_1 20 rfl rfl)
theorem dJ8_divideAndRound_6_46 : decode cJ8_divideAndRound_6 46 = .ok (.lload_n 1, 1) := dk_31 (dk_at dksJ8_divideAndRound_6_1 22 rfl rfl)
theorem dJ8_divideAndRound_6_47 : decode cJ8_divideAndRound_6 47 = .ok (.lconst 0, 1) := dk_9 (dk_at dksJ8_divideAndRound_6_1 23 rfl rfl)
theorem dJ8_divideAndRound_6_48 : decode cJ8_divideAndRound_6 48 = .ok (.lcmp, 1) := dk_148 (dk_at dksJ8_divideAndRound_6_2 0 rfl rfl)
theorem dJ8_divideAndRound_6_49 : decode cJ8_divideAndRound_6 49 = .ok (.ifCond .ge 11, 3) := dk_156 0 11 (dk_at dksJ8_divideAndRound_6_2 1 rfl rfl)
theorem dJ8_divideAndRound_6_52 : decode cJ8_divideAndRound_6 52 = .ok (.aload_n 0, 1) := dk_42 (dk_at dksJ8_divideAndRound_6_2 4 rfl rfl)
theorem dJ8_divideAndRound_6_53 : decode cJ8_divideAndRound_6 53 = .ok (.getfield 870, 3) := dk_180 3 102 (dk_at dksJ8_divideAndRound_6_2 5 rfl rfl)
theorem dJ8_divideAndRound_6_56 : decode cJ8_divideAndRound_6 56 = .ok (.ineg, 1) := dk_116 (dk_at dksJ8_divideAndRound_6_2 8 rfl rfl)
theorem dJ8_divideAndRound_6_57 : decode cJ8_divideAndRound_6 57 = .ok (.goto 7, 3) := dk_167 0 7 (dk_at dksJ8_divideAndRound_6_2 9 rfl rfl)
theorem dJ8_divideAndRound_6_60 : decode cJ8_divideAndRound_6 60 = .ok (.aload_n 0, 1) := dk_42 (dk_at dksJ8_divideAndRound_6_2 12 rfl rfl)
theorem dJ8_divideAndRound_6_61 : decode cJ8_divideAndRound_6 61 = .ok (.getfield 870, 3) := dk_180 3 102 (dk_at dksJ8_divideAndRound_6_2 13 rfl rfl)
theorem dJ8_divideAndRound_6_64 : decode cJ8_divideAndRound_6 64 = .ok (.istore 11, 2) := dk_54 11 (dk_at dksJ8_divideAndRound_6_2 16 rfl rfl)
theorem dJ8_divideAndRound_6_66 : decode cJ8_divideAndRound_6 66 = .ok (.iload 10, 2) := dk_21 10 (dk_at dksJ8_divideAndRound_6_2 18 rfl rfl)
theorem dJ8_divideAndRound_6_68 : decode cJ8_divideAndRound_6 68 = .ok (.ifCond .ne 35, 3) := dk_154 0 35 (dk_at dksJ8_divideAndRound_6_2 20 rfl rfl)
theorem dJ8_divideAndRound_6_71 : decode cJ8_divideAndRound_6 71 = .ok (.lload_n 1, 1) := dk_31 (dk_at dksJ8_divideAndRound_6_2 23 rfl rfl)
theorem dJ8_divideAndRound_6_72 : decode cJ8_divideAndRound_6 72 = .ok (.iload 4, 2) := dk_21 4 (dk_at dksJ8_divideAndRound_6_3 0 rfl rfl)
theorem dJ8_divideAndRound_6_74 : decode cJ8_divideAndRound_6 74 = .ok (.iload 11, 2) := dk_21 11 (dk_at dksJ8_divideAndRound_6_3 2 rfl rfl)
theorem dJ8_divideAndRound_6_76 : decode cJ8_divideAndRound_6 76 = .ok (.aload 7, 2) := dk_25 7 (dk_at dksJ8_divideAndRound_6_3 4 rfl rfl)
theorem dJ8_divideAndRound_6_78 : decode cJ8_divideAndRound_6 78 = .ok (.lload 8, 2) := dk_22 8 (dk_at dksJ8_divideAndRound_6_3 6 rfl rfl)
theorem dJ8_divideAndRound_6_80 : decode cJ8_divideAndRound_6 80 = .ok (.invokestatic 950, 3) := dk_184 3 182 (dk_at dksJ8_divideAndRound_6_3 8 rfl rfl)
theorem dJ8_divideAndRound_6_83 : decode cJ8_divideAndRound_6 83 = .ok (.ifCond .eq 11, 3) := dk_153 0 11 (dk_at dksJ8_divideAndRound_6_3 11 rfl rfl)
theorem dJ8_divideAndRound_6_86 : decode cJ8_divideAndRound_6 86 = .ok (.aload 7, 2) := dk_25 7 (dk_at dksJ8_divideAndRound_6_3 14 rfl rfl)
theorem dJ8_divideAndRound_6_88 : decode cJ8_divideAndRound_6 88 = .ok (.getstatic 953, 3) := dk_178 3 185 (dk_at dksJ8_divideAndRound_6_3 16 rfl rfl)
theorem dJ8_divideAndRound_6_91 : decode cJ8_divideAndRound_6 91 = .ok (.invokevirtual 956, 3) := dk_182 3 188 (dk_at dksJ8_divideAndRound_6_3 19 rfl rfl)
theorem dJ8_divideAndRound_6_94 : decode cJ8_divideAndRound_6 94 = .ok (.aload 7, 2) := dk_25 7 (dk_at dksJ8_divideAndRound_6_3 22 rfl rfl)
theorem dJ8_divideAndRound_6_96 : decode cJ8_divideAndRound_6 96 = .ok (.iload 11, 2) := dk_21 11 (dk_at dksJ8_divideAndRound_6_4 0 rfl rfl)
theorem dJ8_divideAndRound_6_98 : decode cJ8_divideAndRound_6 98 = .ok (.iload_n 3, 1) := dk_29 (dk_at dksJ8_divideAndRound_6_4 2 rfl rfl)
theorem dJ8_divideAndRound_6_99 : decode cJ8_divideAndRound_6 99 = .ok (.invokevirtual 961, 3) := dk_182 3 193 (dk_at dksJ8_divideAndRound_6_4 3 rfl rfl)
theorem dJ8_divideAndRound_6_102 : decode cJ8_divideAndRound_6 102 = .ok (.areturn, 1) := dk_176 (dk_at dksJ8_divideAndRound_6_4 6 rfl rfl)
theorem dJ8_divideAndRound_6_103 : decode cJ8_divideAndRound_6 103 = .ok (.iload 5, 2) := dk_21 5 (dk_at dksJ8_divideAndRound_6_4 7 rfl rfl)
theorem dJ8_divideAndRound_6_105 : decode cJ8_divideAndRound_6 105 = .ok (.iload_n 3, 1) := dk_29 (dk_at dksJ8_divideAndRound_6_4 9 rfl rfl)
theorem dJ8_divideAndRound_6_106 : decode cJ8_divideAndRound_6 106 = .ok (.if_icmp .eq 50, 3) := dk_159 0 50 (dk_at dksJ8_divideAndRound_6_4 10 rfl rfl)
theorem dJ8_divideAndRound_6_109 : decode cJ8_divideAndRound_6 109 = .ok (.aload 7, 2) := dk_25 7 (dk_at dksJ8_divideAndRound_6_4 13 rfl rfl)
theorem dJ8_divideAndRound_6_111 : decode cJ8_divideAndRound_6 111 = .ok (.iload 11, 2) := dk_21 11 (dk_at dksJ8_divideAndRound_6_4 15 rfl rfl)
theorem dJ8_divideAndRound_6_113 : decode cJ8_divideAndRound_6 113 = .ok (.invokevirtual 964, 3) := dk_182 3 196 (dk_at dksJ8_divideAndRound_6_4 17 rfl rfl)
theorem dJ8_divideAndRound_6_116 : decode cJ8_divideAndRound_6 116 = .ok (.lstore 12, 2) := dk_55 12 (dk_at dksJ8_divideAndRound_6_4 20 rfl rfl)
theorem dJ8_divideAndRound_6_118 : decode cJ8_divideAndRound_6 118 = .ok (.lload 12, 2) := dk_22 12 (dk_at dksJ8_divideAndRound_6_4 22 rfl rfl)
theorem dJ8_divideAndRound_6_120 : decode cJ8_divideAndRound_6 120 = .ok (.ldc2_w 125, 3) := dk_20 0 125 (dk_at dksJ8_divideAndRound_6_5 0 rfl rfl)
theorem dJ8_divideAndRound_6_123 : decode cJ8_divideAndRound_6 123 = .ok (.lcmp, 1) := dk_148 (dk_at dksJ8_divideAndRound_6_5 3 rfl rfl)
theorem dJ8_divideAndRound_6_124 : decode cJ8_divideAndRound_6 124 = .ok (.ifCond .eq 13, 3) := dk_153 0 13 (dk_at dksJ8_divideAndRound_6_5 4 rfl rfl)
theorem dJ8_divideAndRound_6_127 : decode cJ8_divideAndRound_6 127 = .ok (.lload 12, 2) := dk_22 12 (dk_at dksJ8_divideAndRound_6_5 7 rfl rfl)
theorem dJ8_divideAndRound_6_129 : decode cJ8_divideAndRound_6 129 = .ok (.iload_n 3, 1) := dk_29 (dk_at dksJ8_divideAndRound_6_5 9 rfl rfl)
theorem dJ8_divideAndRound_6_130 : decode cJ8_divideAndRound_6 130 = .ok (.iload 5, 2) := dk_21 5 (dk_at dksJ8_divideAndRound_6_5 10 rfl rfl)
theorem dJ8_divideAndRound_6_132 : decode cJ8_divideAndRound_6 132 = .ok (.i2l, 1) := dk_133 (dk_at dksJ8_divideAndRound_6_5 12 rfl rfl)
theorem dJ8_divideAndRound_6_133 : decode cJ8_divideAndRound_6 133 = .ok (.invokestatic 621, 3) := dk_184 2 109 (dk_at dksJ8_divideAndRound_6_5 13 rfl rfl)
theorem dJ8_divideAndRound_6_136 : decode cJ8_divideAndRound_6 136 = .ok (.areturn, 1) := dk_176 (dk_at dksJ8_divideAndRound_6_5 16 rfl rfl)
theorem dJ8_divideAndRound_6_137 : decode cJ8_divideAndRound_6 137 = .ok (.aload 7, 2) := dk_25 7 (dk_at dksJ8_divideAndRound_6_5 17 rfl rfl)
theorem dJ8_divideAndRound_6_139 : decode cJ8_divideAndRound_6 139 = .ok (.iload 11, 2) := dk_21 11 (dk_at dksJ8_divideAndRound_6_5 19 rfl rfl)
theorem dJ8_divideAndRound_6_141 : decode cJ8_divideAndRound_6 141 = .ok (.invokevirtual 959, 3) := dk_182 3 191 (dk_at dksJ8_divideAndRound_6_5 21 rfl rfl)
theorem dJ8_divideAndRound_6_144 : decode cJ8_divideAndRound_6 144 = .ok (.astore 14, 2) := dk_58 14 (dk_at dksJ8_divideAndRound_6_6 0 rfl rfl)
theorem dJ8_divideAndRound_6_146 : decode cJ8_divideAndRound_6 146 = .ok (.aload 14, 2) := dk_25 14 (dk_at dksJ8_divideAndRound_6_6 2 rfl rfl)
theorem dJ8_divideAndRound_6_148 : decode cJ8_divideAndRound_6 148 = .ok (.iload_n 3, 1) := dk_29 (dk_at dksJ8_divideAndRound_6_6 4 rfl rfl)
theorem dJ8_divideAndRound_6_149 : decode cJ8_divideAndRound_6 149 = .ok (.iload 5, 2) := dk_21 5 (dk_at dksJ8_divideAndRound_6_6 5 rfl rfl)
theorem dJ8_divideAndRound_6_151 : decode cJ8_divideAndRound_6 151 = .ok (.i2l, 1) := dk_133 (dk_at dksJ8_divideAndRound_6_6 7 rfl rfl)
theorem dJ8_divideAndRound_6_152 : decode cJ8_divideAndRound_6 152 = .ok (.invokestatic 625, 3) := dk_184 2 113 (dk_at dksJ8_divideAndRound_6_6 8 rfl rfl)
theorem dJ8_divideAndRound_6_155 : decode cJ8_divideAndRound_6 155 = .ok (.areturn, 1) := dk_176 (dk_at dksJ8_divideAndRound_6_6 11 rfl rfl)
theorem dJ8_divideAndRound_6_156 : decode cJ8_divideAndRound_6 156 = .ok (.aload 7, 2) := dk_25 7 (dk_at dksJ8_divideAndRound_6_6 12 rfl rfl)
theorem dJ8_divideAndRound_6_158 : decode cJ8_divideAndRound_6 158 = .ok (.iload 11, 2) := dk_21 11 (dk_at dksJ8_divideAndRound_6_6 14 rfl rfl)
theorem dJ8_divideAndRound_6_160 : decode cJ8_divideAndRound_6 160 = .ok (.iload_n 3, 1) := dk_29 (dk_at dksJ8_divideAndRound_6_6 16 rfl rfl)
theorem dJ8_divideAndRound_6_161 : decode cJ8_divideAndRound_6 161 = .ok (.invokevirtual 961, 3) := dk_182 3 193 (dk_at dksJ8_divideAndRound_6_6 17 rfl rfl)
theorem dJ8_divideAndRound_6_164 : decode cJ8_divideAndRound_6 164 = .ok (.areturn, 1) := dk_176 (dk_at dksJ8_divideAndRound_6_6 20 rfl rfl)
theorem nd_J35_divide : yJ35_divide.cls ≠ "java/lang/invoke/MethodHandle" ∧ yJ35_divide.cls ≠ "java/lang/invoke/VarHandle" ∧ (parseMethodDescriptor yJ35_divide.desc).map (fun d => d.parameters.length) = some 2 := by decide +kernel
set_option maxRecDepth 100000 in
set_option maxHeartbeats 16000000 in
theorem ct_J35_divide {g : GG} {l : Launch} (M : Nat → Option PV) (q : Nat) (a : Nat) (n : Nat) (f : Nat → Nat) (q2 : Nat) (a2 : Nat) (fz : Nat → Nat) (d : Int) (hx : at_ g M a (vA n f)) (hw : wOK n f) (hn : 2 ≤ n ∧ n ≤ 6) (hd : -9223372036854775807 ≤ d ∧ d ≤ 9223372036854775807) (hd0 : d ≠ 0) : Ct g l yJ35_divide (ws_ yJ35_divide cJ35_divide 5 (Option.some Jvm.ClassFile.FieldType.long)) 5 125 4 26 [.ref q, .long (jL d), .ref q2] [ob g q 19 [.ref a, .int (jI (↑n)), .int (jI 0)], pl g M, ob g q2 19 [.ref a2, .int (jI 0), .int (jI 0)], aN g 0 a2 1 fz] (fun v9 Ws9 => ∃ a1 : Nat, ∃ N1 : Nat, ∃ f1 : Nat → Nat, ∃ n1 : Nat, ∃ o1 : Nat, v9 = some (.long (jL (↑(wv f n % d.natAbs)))) ∧ (o1 + n1 ≤ N1 ∧ 0 < N1 ∧ N1 ≤ n) ∧ (∀ k, k < N1 → f1 k < 4294967296) ∧ (wOK n1 (fun j => f1 (o1 + j))) ∧ (mw f1 o1 n1 = wv f n / d.natAbs) ∧ Ws9 = [ob g q 19 [.ref a, .int (jI (↑n)), .int (jI 0)], pl g M, ob g q2 19 [.ref a1, .int (jI (↑n1)), .int (jI (↑o1))], aN g 0 a1 N1 f1]) (nox) := by
  refine Ct.of (cc := cJ35_divide) (nL := 5) (ret := (Option.some Jvm.ClassFile.FieldType.long)) (by decide) rfl (Nat.le_of_ble_eq_true rfl) ?_
  intro x hg hl hPo hPx hmc hms F
  subst hg; subst hl
  refine SW.cast (L' := [(0, .ref q), (1, .long (jL d)), (3, .ref q2)]) ?_ rfl rfl rfl
  obtain ⟨dn, hdn⟩ : ∃ z : Nat, z = d.natAbs := ⟨_, rfl⟩
  refine sw_lload_n (n := 1) F 1 rfl rfl dJ35_divide_0 rfl ?_
  refine sw_lconst (n := 2) F 0 (by decide) dJ35_divide_1 rfl ?_
  refine sw_lcmp (n := 3) F (by omega) (by decide) dJ35_divide_2 rfl ?_
  refine sw_if_ne (n := 6) F (lc_rng _ _) (tgt := 16) dJ35_divide_3 (by decide) rfl (fun c_3 => ?_) (fun c_3 => ?_)
  ·
    have c_3 := lc_ne c_3
    refine sw_aload_n (n := 17) F 0 (some q) rfl rfl rfl dJ35_divide_16 rfl ?_
    refine sw_get (n := 20) F 0 rfl (k := 1) ⟨(RJ35, TJ35, 3), rfl, by decide, q1837, in_J35, Or.inl rfl⟩ rfl dJ35_divide_17 rfl ?_
    refine sw_if_ne (n := 23) F (by omega) (tgt := 35) dJ35_divide_20 (by decide) rfl (fun c_20 => ?_) (fun c_20 => ?_)
    ·
      refine sw_lload_n (n := 36) F 1 rfl rfl dJ35_divide_35 rfl ?_
      have K44 : SW x [ob (xg x) q 19 [.ref a, .int (jI (↑n)), .int (jI 0)], pl (xg x) M, ob (xg x) q2 19 [.ref a2, .int (jI 0), .int (jI 0)], aN (xg x) 0 a2 1 fz] 4 26 44 [(0, .ref q), (1, .long (jL (↑dn))), (3, .ref q2)] [] := by
        refine sw_lload_n (n := 45) F 1 rfl rfl dJ35_divide_44 rfl ?_
        refine sw_bipush (n := 47) F (32) (by decide) dJ35_divide_45 rfl ?_
        refine sw_lushr (n := 48) F _ (jL_ushr32 _) dJ35_divide_47 rfl ?_
        refine sw_top (topL (show ((↑dn) % 18446744073709551616 / 4294967296 : Int) = ↑(dn / 4294967296) by omega)) ?_
        refine sw_l2i (n := 49) F dJ35_divide_48 rfl ?_
        refine sw_istore (n := 51) F (L2 := [(4, .int (jI (↑(dn / 4294967296)))), (0, .ref q), (1, .long (jL (↑dn))), (3, .ref q2)]) rfl (by decide) dJ35_divide_49 rfl ?_
        refine sw_aload_n (n := 52) F 3 (some q2) rfl rfl rfl dJ35_divide_51 rfl ?_
        refine sw_callV (n := 55) F (ct_J35_clear (g := xg x) (l := xl x) q2 a2 1 fz 0 0 (by first | omega | assumption)) (rcv_ob F 2 rfl rfl) q1857 q1858 q1859 q144 q1860 nd_J35_clear rfl (by decide) [2, 3, 0, 1] (perm_ok _ 4 (by decide +kernel) rfl) [ob (xg x) q 19 [.ref a, .int (jI (↑n)), .int (jI 0)], pl (xg x) M] rfl 4 26 ⟨by omega, by omega⟩ [] rfl (Nat.le_of_ble_eq_true rfl) dJ35_divide_52 rfl (fun _ _ h => h.elim) (fun v Ws h => ?_)
        obtain ⟨f1_1, rfl, hf1_2, rfl⟩ := h
        show SW x [ob (xg x) q2 19 [.ref a2, .int (jI 0), .int (jI 0)], aN (xg x) 0 a2 1 f1_1, ob (xg x) q 19 [.ref a, .int (jI (↑n)), .int (jI 0)], pl (xg x) M] _ _ _ _ []
        have hz9 : f1_1 0 = 0 := hf1_2 0 (by decide)
        refine sw_iload (n := 57) F 0 rfl dJ35_divide_55 rfl ?_
        refine sw_if_ne (n := 60) F (by omega) (tgt := 73) dJ35_divide_57 (by decide) rfl (fun c_57 => ?_) (fun c_57 => ?_)
        ·
          refine sw_aload_n (n := 74) F 1 (some q) rfl rfl rfl dJ35_divide_73 rfl ?_
          refine sw_lload_n (n := 75) F 2 rfl rfl dJ35_divide_74 rfl ?_
          refine sw_aload_n (n := 76) F 3 (some q2) rfl rfl rfl dJ35_divide_75 rfl ?_
          refine sw_callV (n := 79) F (ct_J35_divideLongMagnitude (g := xg x) (l := xl x) M q a n f q2 a2 f1_1 dn hx hw hn (by first | omega | assumption) (by exact hz9)) (rcv_ob F 2 rfl rfl) q1874 q1876 qs17 q144 q1877 nd_J35_divideLongMagnitude rfl (by decide) [2, 3, 0, 1] (perm_ok _ 4 (by decide +kernel) rfl) [] rfl 0 0 ⟨by omega, by omega⟩ [] rfl (Nat.le_of_ble_eq_true rfl) dJ35_divide_76 rfl (fun _ _ h => h.elim) (fun v Ws h => ?_)
          obtain ⟨a1_3, N1_4, f1_5, n1_6, o1_7, r1_8, a3_9, f3_10, n3_11, o3_12, rfl, hN1_13, hf1_14, hw1_15, hv1_16, hN3_17, hf3_18, hw3_19, hv3_20, rfl⟩ := h
          show SW x [ob (xg x) q 19 [.ref a, .int (jI (↑n)), .int (jI 0)], pl (xg x) M, ob (xg x) q2 19 [.ref a1_3, .int (jI (↑n1_6)), .int (jI (↑o1_7))], aN (xg x) 0 a1_3 N1_4 f1_5, ob (xg x) r1_8 19 [.ref a3_9, .int (jI (↑n3_11)), .int (jI (↑o3_12))], aN (xg x) 0 a3_9 (n + 1) f3_10] _ _ _ _ [.ref r1_8]
          have hn9 : n3_11 ≤ 2 := wOK_len hw3_19 (show mw f3_10 o3_12 n3_11 < bw 2 by rw [hv3_20, bw_2]; have := Nat.mod_lt (wv f n) (show 0 < dn by omega); omega)
          have hv9 := hv3_20
          refine sw_callV (n := 82) F (ct_J35_toLong (g := xg x) (l := xl x) r1_8 a3_9 (n + 1) f3_10 n3_11 o3_12 (by first | omega | assumption) hf3_18 hn9) (rcv_ob F 4 rfl rfl) q1917 q1919 qs23 q144 q1920 nd_J35_toLong rfl (by decide) [4, 5, 0, 1, 2, 3] (perm_ok _ 6 (by decide +kernel) rfl) [ob (xg x) q 19 [.ref a, .int (jI (↑n)), .int (jI 0)], pl (xg x) M, ob (xg x) q2 19 [.ref a1_3, .int (jI (↑n1_6)), .int (jI (↑o1_7))], aN (xg x) 0 a1_3 N1_4 f1_5] rfl 0 0 ⟨by omega, by omega⟩ [] rfl (Nat.le_of_ble_eq_true rfl) dJ35_divide_79 rfl (fun _ _ h => h.elim) (fun v Ws h => ?_)
          obtain ⟨rfl, rfl⟩ := h
          show SW x [ob (xg x) r1_8 19 [.ref a3_9, .int (jI (↑n3_11)), .int (jI (↑o3_12))], aN (xg x) 0 a3_9 (n + 1) f3_10, ob (xg x) q 19 [.ref a, .int (jI (↑n)), .int (jI 0)], pl (xg x) M, ob (xg x) q2 19 [.ref a1_3, .int (jI (↑n1_6)), .int (jI (↑o1_7))], aN (xg x) 0 a1_3 N1_4 f1_5] _ _ _ _ [.long (jL (↑(mw f3_10 o3_12 n3_11)))]
          refine sw_drop [2, 3, 4, 5, 0, 1] 4 (perm_ok _ 6 (by decide +kernel) rfl) [ob (xg x) q 19 [.ref a, .int (jI (↑n)), .int (jI 0)], pl (xg x) M, ob (xg x) q2 19 [.ref a1_3, .int (jI (↑n1_6)), .int (jI (↑o1_7))], aN (xg x) 0 a1_3 N1_4 f1_5] rfl ?_
          exact sw_lret F rfl dJ35_divide_82 (by rw [hPo]; exact ⟨a1_3, N1_4, f1_5, n1_6, o1_7, (by rw [hv9, hdn]), hN1_13, hf1_14, hw1_15, (by rw [← hdn]; assumption), rfl⟩)
        ·
          refine sw_aload_n (n := 61) F 1 (some q) rfl rfl rfl dJ35_divide_60 rfl ?_
          refine sw_lload_n (n := 62) F 2 rfl rfl dJ35_divide_61 rfl ?_
          refine sw_l2i (n := 63) F dJ35_divide_62 rfl ?_
          refine sw_aload_n (n := 64) F 3 (some q2) rfl rfl rfl dJ35_divide_63 rfl ?_
          refine sw_callV (n := 67) F (ct_J35_divideOneWord (g := xg x) (l := xl x) M q a n f q2 a2 f1_1 dn hx hw hn (by first | omega | assumption) (by exact hz9)) (rcv_ob F 2 rfl rfl) q1861 q1862 q1863 q144 q1864 nd_J35_divideOneWord rfl (by decide) [2, 3, 0, 1] (perm_ok _ 4 (by decide +kernel) rfl) [] rfl 3 20 ⟨by omega, by omega⟩ [] rfl (Nat.le_of_ble_eq_true rfl) dJ35_divide_64 rfl (fun _ _ h => h.elim) (fun v Ws h => ?_)
          obtain ⟨a1_21, N1_22, f1_23, n1_24, o1_25, rfl, hN1_26, hf1_27, hw1_28, hv1_29, rfl⟩ := h
          show SW x [ob (xg x) q 19 [.ref a, .int (jI (↑n)), .int (jI 0)], pl (xg x) M, ob (xg x) q2 19 [.ref a1_21, .int (jI (↑n1_24)), .int (jI (↑o1_25))], aN (xg x) 0 a1_21 N1_22 f1_23] _ _ _ _ [.int (jI (↑(wv f n % dn)))]
          have hml9 := Nat.mod_lt (wv f n) (show 0 < dn by omega)
          refine sw_i2lr (n := 68) F dJ35_divide_67 rfl ?_
          refine sw_ldc2 (n := 71) F (4294967295) q1865 (by decide) dJ35_divide_68 rfl ?_
          refine sw_land (n := 72) F (jL (↑(wv f n % dn))) (jI_wordE (by omega)) dJ35_divide_71 rfl ?_
          exact sw_lret F rfl dJ35_divide_72 (by rw [hPo]; exact ⟨a1_21, N1_22, f1_23, n1_24, o1_25, (by rw [hdn]), hN1_26, hf1_27, hw1_28, (by rw [← hdn]; assumption), rfl⟩)
      refine sw_lconst (n := 37) F 0 (by decide) dJ35_divide_36 rfl ?_
      refine sw_lcmp (n := 38) F (by omega) (by decide) dJ35_divide_37 rfl ?_
      refine sw_if_ge (n := 41) F (lc_rng _ _) (tgt := 44) dJ35_divide_38 (by decide) rfl (fun c_38 => ?_) (fun c_38 => ?_)
      ·
        have c_38 := lc_ge c_38
        refine SW.cast (L' := [(0, .ref q), (1, .long (jL (↑dn))), (3, .ref q2)]) ?_ rfl (by rw [show Value.long (jL d) = Value.long (jL (↑dn)) from topL (by omega)]) rfl
        exact K44  
      ·
        have c_38 := lc_lt c_38
        refine sw_lload_n (n := 42) F 1 rfl rfl dJ35_divide_41 rfl ?_
        refine sw_lneg (n := 43) F dJ35_divide_42 rfl ?_
        refine sw_lstore_n (n := 44) F (L2 := [(1, .long (jL (-d))), (0, .ref q), (3, .ref q2)]) rfl (by decide) rfl dJ35_divide_43 rfl ?_
        refine SW.cast (L' := [(1, .long (jL (↑dn))), (0, .ref q), (3, .ref q2)]) ?_ rfl (by rw [show Value.long (jL (-d)) = Value.long (jL (↑dn)) from topL (by omega)]) rfl
        refine sw_loc [1, 0, 2] (L2 := [(0, .ref q), (1, .long (jL (↑dn))), (3, .ref q2)]) rfl ?_
        exact K44  
    · exfalso; omega
  · exfalso; omega
theorem sm_mw {g : Nat → Nat} {N m : Nat} (h : m ≤ N) : sm g N m = mw g (N - m) m := by
  unfold mw
  rw [wv_sm]
  have e : ∀ i, i ≤ m → sm g N i = sm (fun j => g (N - m + j)) m i := by
    intro i
    induction i with
    | zero => intro _; rfl
    | succ i ih =>
      intro hi
      rw [sm_s, sm_s, ih (by omega), show N - m + (m - 1 - i) = N - 1 - i by omega]
  exact e m (Nat.le_refl _)
theorem add_stepM {g f : Nat → Nat} {N e k c p : Nat} (h : sm g N k + c * bw k = sm f e k + 1) (hp : p = f (e - 1 - k) + c) (hk : k < N) : sm (va_up g (N - 1 - k) (p % 4294967296)) N (k + 1) + p / 4294967296 * bw (k + 1) = sm f e (k + 1) + 1 := by
  rw [sm_lay hk rfl, sm_s f e k, bw_s]
  have e1 : p % 4294967296 * bw k + p / 4294967296 * (bw k * 4294967296) = p * bw k := by
    rw [← Nat.mul_assoc, Nat.mul_comm (p / 4294967296 * bw k), ← Nat.mul_assoc, ← Nat.add_mul]
    congr 1
    omega
  have e2 : p * bw k = f (e - 1 - k) * bw k + c * bw k := by rw [hp, Nat.add_mul]
  omega
theorem add_rest {g f : Nat → Nat} {N k : Nat} (hr : ∀ j, j < N - k → g j = f j) (h : sm g N k = sm f N k + 1) : ∀ t, k + t ≤ N → sm g N (k + t) = sm f N (k + t) + 1 := by
  intro t
  induction t with
  | zero => intro _; exact h
  | succ t ih =>
    intro ht
    have h1 := ih (by omega)
    rw [show k + (t + 1) = k + t + 1 from rfl, sm_s, sm_s, h1, hr (N - 1 - (k + t)) (by omega)]
    omega
theorem inc_ok {f : Nat → Nat} {n X : Nat} (hf : ∀ k, k < n → f k < 4294967296) (hv : wv f n = X) (h : 0 < n → bw (n - 1) ≤ X) : wOK n f := wOK_of hf (fun hn => by rw [hv]; exact h hn)
theorem inc_t {g : Nat → Nat} {N : Nat} : wv (va_up (va_cpy g (fun _ => 0) 0 1 N) 0 1) (N + 1) = bw N + wv g N := by
  have e := mw_app (va_up (va_cpy g (fun _ => 0) 0 1 N) 0 1) 0 1 N
  rw [Nat.add_comm 1 N, mw_0, mw_1, vu_eq rfl, Nat.one_mul] at e
  rw [e]
  congr 1
  exact wv_cong fun j hj => by
    rw [vu_ne (by omega)]; unfold va_cpy; rw [if_pos (by omega)]; congr 1; omega
theorem cpy_lt2 {g : Nat → Nat} {n B : Nat} (hf : ∀ k, k < n → g k < B) (hB : 0 < B) : ∀ k, k < n + 1 → va_cpy g (fun _ => 0) 0 1 n k < B := cpy_lt (g := g) hf hB
theorem nd_J35_add : yJ35_add.cls ≠ "java/lang/invoke/MethodHandle" ∧ yJ35_add.cls ≠ "java/lang/invoke/VarHandle" ∧ (parseMethodDescriptor yJ35_add.desc).map (fun d => d.parameters.length) = some 1 := by decide +kernel
set_option maxRecDepth 100000 in
set_option maxHeartbeats 16000000 in
theorem ct_J35_add {g : GG} {l : Launch} (q : Nat) (a : Nat) (N : Nat) (f : Nat → Nat) (n : Nat) (o : Nat) (b : Nat) (hb : b = tR g sONE) (hN : o + n ≤ N ∧ 0 < N ∧ N ≤ 7) (hf : ∀ k, k < N → f k < 4294967296) (hw : wOK n (fun j => f (o + j))) : Ct g l yJ35_add (ws_ yJ35_add cJ35_add 12 (Option.none : Option Jvm.ClassFile.FieldType)) 1 30 1 8 [.ref q, .ref b] [ob g q 19 [.ref a, .int (jI (↑n)), .int (jI (↑o))], aN g 0 a N f] (fun v9 Ws9 => ∃ a1 : Nat, ∃ N1 : Nat, ∃ f1 : Nat → Nat, ∃ n1 : Nat, ∃ o1 : Nat, v9 = none ∧ (o1 + n1 ≤ N1 ∧ 0 < N1 ∧ N1 ≤ 8) ∧ (∀ k, k < N1 → f1 k < 4294967296) ∧ (wOK n1 (fun j => f1 (o1 + j))) ∧ (mw f1 o1 n1 = mw f o n + 1) ∧ Ws9 = [ob g q 19 [.ref a1, .int (jI (↑n1)), .int (jI (↑o1))], aN g 0 a1 N1 f1]) (nox) := by
  refine Ct.of (cc := cJ35_add) (nL := 12) (ret := (Option.none : Option Jvm.ClassFile.FieldType)) (by decide) rfl (Nat.le_of_ble_eq_true rfl) ?_
  intro x hg hl hPo hPx hmc hms F
  subst hg; subst hl
  refine SW.cast (L' := [(0, .ref q), (1, .ref b)]) ?_ rfl rfl rfl
  subst hb
  refine sw_aload_n (n := 1) F 0 (some q) rfl rfl rfl dJ35_add_0 rfl ?_
  refine sw_get (n := 4) F 0 rfl (k := 1) ⟨(RJ35, TJ35, 3), rfl, by decide, q1837, in_J35, Or.inl rfl⟩ rfl dJ35_add_1 rfl ?_
  refine sw_istore_n (n := 5) F (L2 := [(2, .int (jI (↑n))), (0, .ref q), (1, .ref (tR (xg x) sONE))]) rfl (by decide) rfl dJ35_add_4 rfl ?_
  refine sw_aload_n (n := 6) F 2 (some (tR (xg x) sONE)) rfl rfl rfl dJ35_add_5 rfl ?_
  refine sw_getK (n := 9) F ((kONE F.gx.1).2.1.O F) (k := 1) ⟨(RJ35, TJ35, 3), rfl, by decide, q1837, in_J35, Or.inl rfl⟩ rfl dJ35_add_6 rfl ?_
  refine sw_istore_n (n := 10) F (L2 := [(3, .int (jI 1)), (2, .int (jI (↑n))), (0, .ref q), (1, .ref (tR (xg x) sONE))]) rfl (by decide) rfl dJ35_add_9 rfl ?_
  refine sw_aload_n (n := 11) F 2 (some q) rfl rfl rfl dJ35_add_10 rfl ?_
  refine sw_get (n := 14) F 0 rfl (k := 1) ⟨(RJ35, TJ35, 3), rfl, by decide, q1837, in_J35, Or.inl rfl⟩ rfl dJ35_add_11 rfl ?_
  refine sw_aload_n (n := 15) F 3 (some (tR (xg x) sONE)) rfl rfl rfl dJ35_add_14 rfl ?_
  refine sw_getK (n := 18) F ((kONE F.gx.1).2.1.O F) (k := 1) ⟨(RJ35, TJ35, 3), rfl, by decide, q1837, in_J35, Or.inl rfl⟩ rfl dJ35_add_15 rfl ?_
  have K32 : ∀ (m : Nat), ((1 ≤ n ∧ m = n) ∨ (n = 0 ∧ m = 1)) → SW x [ob (xg x) q 19 [.ref a, .int (jI (↑n)), .int (jI (↑o))], aN (xg x) 0 a N f] 1 8 32 [(3, .int (jI 1)), (2, .int (jI (↑n))), (0, .ref q), (1, .ref (tR (xg x) sONE))] [.int (jI (↑m))] := by
    intro m hm
    refine sw_istore (n := 34) F (L2 := [(4, .int (jI (↑m))), (3, .int (jI 1)), (2, .int (jI (↑n))), (0, .ref q), (1, .ref (tR (xg x) sONE))]) rfl (by decide) dJ35_add_32 rfl ?_
    refine sw_aload_n (n := 35) F 3 (some q) rfl rfl rfl dJ35_add_34 rfl ?_
    refine sw_get (n := 38) F 0 rfl (k := 0) ⟨(RJ35, TJ35, 3), rfl, by decide, q1836, in_J35, Or.inl rfl⟩ rfl dJ35_add_35 rfl ?_
    refine sw_alen (n := 39) F 1 rfl (fun _ => rfl) dJ35_add_38 rfl ?_
    refine sw_iload (n := 41) F 0 rfl dJ35_add_39 rfl ?_
    refine sw_icmp_ge (n := 44) F (by omega) (by omega) (tgt := 51) dJ35_add_41 (by decide) rfl (fun c_41 => ?_) (fun c_41 => ?_)
    ·
      refine sw_aload_n (n := 52) F 3 (some q) rfl rfl rfl dJ35_add_51 rfl ?_
      refine sw_get (n := 55) F 0 rfl (k := 0) ⟨(RJ35, TJ35, 3), rfl, by decide, q1836, in_J35, Or.inl rfl⟩ rfl dJ35_add_52 rfl ?_
      refine sw_astore (n := 57) F (some a) (L2 := [(5, .ref a), (4, .int (jI (↑m))), (3, .int (jI 1)), (2, .int (jI (↑n))), (0, .ref q), (1, .ref (tR (xg x) sONE))]) rfl rfl (by decide) dJ35_add_55 rfl ?_
      refine sw_aload (n := 59) F 0 (some a) rfl rfl dJ35_add_57 rfl ?_
      refine sw_alen (n := 60) F 1 rfl (fun _ => rfl) dJ35_add_59 rfl ?_
      refine sw_iconst (n := 61) F (1) (by decide) dJ35_add_60 rfl ?_
      refine sw_isub (n := 62) F dJ35_add_61 rfl ?_
      refine sw_istore (n := 64) F (L2 := [(6, .int (jI ((↑N) - 1))), (5, .ref a), (4, .int (jI (↑m))), (3, .int (jI 1)), (2, .int (jI (↑n))), (0, .ref q), (1, .ref (tR (xg x) sONE))]) rfl (by decide) dJ35_add_62 rfl ?_
      refine sw_lconst (n := 65) F 0 (by decide) dJ35_add_64 rfl ?_
      have K67 : ∀ N67 : Nat, ∀ (k : Nat) (y : Nat) (c : Nat) (g : Nat → Nat), ((y = 1 ∧ k = 0) ∨ (y = 0 ∧ k = 1 ∧ 1 ≤ n)) → (c ≤ 1) → (y = 1 → c = 0) → (∀ k, k < N → g k < 4294967296) → (sm g N k + (c + y) * bw k = sm f (o + n) k + 1) → (∀ j, j < N - k → g j = f j) → ((y) < N67) → SW x [ob (xg x) q 19 [.ref a, .int (jI (↑n)), .int (jI (↑o))], aN (xg x) 0 a N g] 1 8 67 [(0, .ref q), (1, .ref (tR (xg x) sONE)), (2, .int (jI (↑n - ↑k))), (3, .int (jI (↑y))), (4, .int (jI (↑m))), (5, .ref a), (6, .int (jI (↑N - 1 - ↑k))), (9, .long (jL (↑c)))] [] := by
        intro N67; induction N67 with
        | zero => intro k y c g hk hc hc0 hgb hI hr hmu67; omega
        | succ N67 ih67 =>
          intro k y c g hk hc hc0 hgb hI hr hmu67
          refine sw_iload_n (n := 68) F 2 rfl rfl dJ35_add_67 rfl ?_
          have K140 : ∀ N140 : Nat, ∀ (k : Nat) (y : Nat) (c : Nat) (g : Nat → Nat), (k ≤ n ∧ ((y = 0 ∧ 1 ≤ k) ∨ (y = 1 ∧ k = 0 ∧ n = 0))) → (c ≤ 1) → (y = 1 → c = 0) → (∀ k, k < N → g k < 4294967296) → (sm g N k + (c + y) * bw k = sm f (o + n) k + 1) → (∀ j, j < N - k → g j = f j) → ((n - k) < N140) → SW x [ob (xg x) q 19 [.ref a, .int (jI (↑n)), .int (jI (↑o))], aN (xg x) 0 a N g] 1 8 140 [(0, .ref q), (1, .ref (tR (xg x) sONE)), (2, .int (jI (↑n - ↑k))), (3, .int (jI (↑y))), (4, .int (jI (↑m))), (5, .ref a), (6, .int (jI (↑N - 1 - ↑k))), (9, .long (jL (↑c)))] [] := by
            intro N140; induction N140 with
            | zero => intro k y c g hk2 hc hc0 hgb hI hr hmu140; omega
            | succ N140 ih140 =>
              intro k y c g hk2 hc hc0 hgb hI hr hmu140
              refine sw_iload_n (n := 141) F 2 rfl rfl dJ35_add_140 rfl ?_
              have K217 : ∀ N217 : Nat, ∀ (k : Nat) (y : Nat) (c : Nat) (g : Nat → Nat), ((y = 0 ∧ k = n ∧ 1 ≤ n) ∨ (y = 0 ∧ k = 1 ∧ n = 0) ∨ (y = 1 ∧ k = 0 ∧ n = 0)) → (c ≤ 1) → (y = 1 → c = 0) → (∀ k, k < N → g k < 4294967296) → (y = 0 → sm g N k + c * bw k = mw f o n + 1) → ((y) < N217) → SW x [ob (xg x) q 19 [.ref a, .int (jI (↑n)), .int (jI (↑o))], aN (xg x) 0 a N g] 1 8 217 [(0, .ref q), (1, .ref (tR (xg x) sONE)), (3, .int (jI (↑y))), (4, .int (jI (↑m))), (5, .ref a), (6, .int (jI (↑N - 1 - ↑k))), (9, .long (jL (↑c)))] [] := by
                intro N217; induction N217 with
                | zero => intro k y c g hk3 hc hc0 hgb hE hmu217; omega
                | succ N217 ih217 =>
                  intro k y c g hk3 hc hc0 hgb hE hmu217
                  refine sw_iload_n (n := 218) F 2 rfl rfl dJ35_add_217 rfl ?_
                  refine sw_if_le (n := 221) F (by omega) (tgt := 266) dJ35_add_218 (by decide) rfl (fun c_218 => ?_) (fun c_218 => ?_)
                  ·
                    refine sw_lload (n := 268) F 6 rfl dJ35_add_266 rfl ?_
                    refine sw_lconst (n := 269) F 0 (by decide) dJ35_add_268 rfl ?_
                    refine sw_lcmp (n := 270) F (by omega) (by decide) dJ35_add_269 rfl ?_
                    refine sw_if_le (n := 273) F (lc_rng _ _) (tgt := 323) dJ35_add_270 (by decide) rfl (fun c_270 => ?_) (fun c_270 => ?_)
                    ·
                      have c_270 := lc_le c_270
                      refine sw_aload_n (n := 324) F 0 (some q) rfl rfl rfl dJ35_add_323 rfl ?_
                      refine sw_aload (n := 326) F 4 (some a) rfl rfl dJ35_add_324 rfl ?_
                      refine sw_put (n := 329) F 0 rfl (k := 0) ⟨(RJ35, TJ35, 3), rfl, by decide, q1836, in_J35, Or.inl rfl⟩ (tyJ35 0) ⟨(RJ35, TJ35, 3), rfl, rfl, tyJ35_ok 0 (by decide), nmJ35, tyJ35, tyJ35_ok⟩ rfl rfl (Nat.le_of_ble_eq_true rfl) rfl [ob (xg x) q 19 [.ref a, .int (jI (↑n)), .int (jI (↑o))], aN (xg x) 0 a N g] rfl dJ35_add_326 rfl ?_
                      refine sw_aload_n (n := 330) F 0 (some q) rfl rfl rfl dJ35_add_329 rfl ?_
                      refine sw_iload (n := 332) F 3 rfl dJ35_add_330 rfl ?_
                      refine sw_put (n := 335) F 0 rfl (k := 1) ⟨(RJ35, TJ35, 3), rfl, by decide, q1837, in_J35, Or.inl rfl⟩ .int ⟨(RJ35, TJ35, 3), rfl, rfl, tyJ35_ok 1 (by decide), nmJ35, tyJ35, tyJ35_ok⟩ rfl rfl (Nat.le_of_ble_eq_true rfl) rfl [ob (xg x) q 19 [.ref a, .int (jI (↑m)), .int (jI (↑o))], aN (xg x) 0 a N g] rfl dJ35_add_332 rfl ?_
                      refine sw_aload_n (n := 336) F 0 (some q) rfl rfl rfl dJ35_add_335 rfl ?_
                      refine sw_aload (n := 338) F 4 (some a) rfl rfl dJ35_add_336 rfl ?_
                      refine sw_alen (n := 339) F 1 rfl (fun _ => rfl) dJ35_add_338 rfl ?_
                      refine sw_iload (n := 341) F 3 rfl dJ35_add_339 rfl ?_
                      refine sw_isub (n := 342) F dJ35_add_341 rfl ?_
                      refine sw_top (topI (show ((↑N) - (↑m) : Int) = ↑(N - (m)) by omega)) ?_
                      refine sw_put (n := 345) F 0 rfl (k := 2) ⟨(RJ35, TJ35, 3), rfl, by decide, q1838, in_J35, Or.inl rfl⟩ .int ⟨(RJ35, TJ35, 3), rfl, rfl, tyJ35_ok 2 (by decide), nmJ35, tyJ35, tyJ35_ok⟩ rfl rfl (Nat.le_of_ble_eq_true rfl) rfl [ob (xg x) q 19 [.ref a, .int (jI (↑m)), .int (jI (↑(N - (m))))], aN (xg x) 0 a N g] rfl dJ35_add_342 rfl ?_
                      have hE9 := hE (by omega)
                      have hkm : m = k := by omega
                      have hXl : 0 < n → bw (n - 1) ≤ mw f o n := fun hn => wOK_ge hw hn
                      have hvE : mw g (N - (m)) (m) = mw f o n + 1 := by rw [← sm_mw (by omega), hkm]; rw [show c = 0 by omega, Nat.zero_mul, Nat.add_zero] at hE9; exact hE9
                      have hfE := hgb
                      have hsz : 0 < m → bw (m - 1) ≤ mw f o n + 1 := fun _ => by
                        rcases Nat.eq_zero_or_pos n with e | e
                        · rw [show m - 1 = 0 by omega, bw_0]; omega
                        · rw [show m - 1 = n - 1 by omega]; have := hXl e; omega
                      have hwE := inc_ok (f := fun j => g (N - (m) + j)) (fun i hi => hfE _ (by omega)) hvE hsz
                      exact sw_vret F rfl dJ35_add_345 (by rw [hPo]; exact ⟨a, N, g, m, N - (m), rfl, (by omega), (by first | exact hfE | exact hgb), (by exact hwE), (by first | exact hvE | exact hR9), rfl⟩)
                    ·
                      have c_270 := lc_gt c_270
                      refine sw_iinc (n := 276) F 3 (L2 := [(4, .int (jI (↑m + 1))), (0, .ref q), (1, .ref (tR (xg x) sONE)), (3, .int (jI (↑y))), (5, .ref a), (6, .int (jI (↑N - 1 - ↑k))), (9, .long (jL (↑c)))]) rfl rfl (by decide) dJ35_add_273 rfl ?_
                      refine sw_aload (n := 278) F 4 (some a) rfl rfl dJ35_add_276 rfl ?_
                      refine sw_alen (n := 279) F 1 rfl (fun _ => rfl) dJ35_add_278 rfl ?_
                      refine sw_iload (n := 281) F 0 rfl dJ35_add_279 rfl ?_
                      refine sw_icmp_ge (n := 284) F (by omega) (by omega) (tgt := 314) dJ35_add_281 (by decide) rfl (fun c_281 => ?_) (fun c_281 => ?_)
                      ·
                        refine sw_aload (n := 316) F 4 (some a) rfl rfl dJ35_add_314 rfl ?_
                        refine sw_iload (n := 318) F 5 rfl dJ35_add_316 rfl ?_
                        refine sw_iinc (n := 321) F 5 (L2 := [(6, .int (jI (↑N - 1 - ↑k + (-1)))), (4, .int (jI (↑m + 1))), (0, .ref q), (1, .ref (tR (xg x) sONE)), (3, .int (jI (↑y))), (5, .ref a), (9, .long (jL (↑c)))]) rfl rfl (by decide) dJ35_add_318 rfl ?_
                        refine sw_iconst (n := 322) F (1) (by decide) dJ35_add_321 rfl ?_
                        refine sw_iastoreW (n := 323) F 1 rfl (fun _ => rfl) (N - 1 - k) (by omega) (by omega) 1 (by first | omega | rfl) [ob (xg x) q 19 [.ref a, .int (jI (↑n)), .int (jI (↑o))], aN (xg x) 0 a N (va_up g (N - 1 - k) 1)] (by rfl) dJ35_add_322 rfl ?_
                        refine sw_aload_n (n := 324) F 2 (some q) rfl rfl rfl dJ35_add_323 rfl ?_
                        refine sw_aload (n := 326) F 5 (some a) rfl rfl dJ35_add_324 rfl ?_
                        refine sw_put (n := 329) F 0 rfl (k := 0) ⟨(RJ35, TJ35, 3), rfl, by decide, q1836, in_J35, Or.inl rfl⟩ (tyJ35 0) ⟨(RJ35, TJ35, 3), rfl, rfl, tyJ35_ok 0 (by decide), nmJ35, tyJ35, tyJ35_ok⟩ rfl rfl (Nat.le_of_ble_eq_true rfl) rfl [ob (xg x) q 19 [.ref a, .int (jI (↑n)), .int (jI (↑o))], aN (xg x) 0 a N (va_up g (N - 1 - k) 1)] rfl dJ35_add_326 rfl ?_
                        refine sw_aload_n (n := 330) F 2 (some q) rfl rfl rfl dJ35_add_329 rfl ?_
                        refine sw_iload (n := 332) F 1 rfl dJ35_add_330 rfl ?_
                        refine sw_put (n := 335) F 0 rfl (k := 1) ⟨(RJ35, TJ35, 3), rfl, by decide, q1837, in_J35, Or.inl rfl⟩ .int ⟨(RJ35, TJ35, 3), rfl, rfl, tyJ35_ok 1 (by decide), nmJ35, tyJ35, tyJ35_ok⟩ rfl rfl (Nat.le_of_ble_eq_true rfl) rfl [ob (xg x) q 19 [.ref a, .int (jI (↑m + 1)), .int (jI (↑o))], aN (xg x) 0 a N (va_up g (N - 1 - k) 1)] rfl dJ35_add_332 rfl ?_
                        refine sw_aload_n (n := 336) F 2 (some q) rfl rfl rfl dJ35_add_335 rfl ?_
                        refine sw_aload (n := 338) F 5 (some a) rfl rfl dJ35_add_336 rfl ?_
                        refine sw_alen (n := 339) F 1 rfl (fun _ => rfl) dJ35_add_338 rfl ?_
                        refine sw_iload (n := 341) F 1 rfl dJ35_add_339 rfl ?_
                        refine sw_isub (n := 342) F dJ35_add_341 rfl ?_
                        refine sw_top (topI (show ((↑N) - (↑m + 1) : Int) = ↑(N - (m + 1)) by omega)) ?_
                        refine sw_put (n := 345) F 0 rfl (k := 2) ⟨(RJ35, TJ35, 3), rfl, by decide, q1838, in_J35, Or.inl rfl⟩ .int ⟨(RJ35, TJ35, 3), rfl, rfl, tyJ35_ok 2 (by decide), nmJ35, tyJ35, tyJ35_ok⟩ rfl rfl (Nat.le_of_ble_eq_true rfl) rfl [ob (xg x) q 19 [.ref a, .int (jI (↑m + 1)), .int (jI (↑(N - (m + 1))))], aN (xg x) 0 a N (va_up g (N - 1 - k) 1)] rfl dJ35_add_342 rfl ?_
                        have hE9 := hE (by omega)
                        have hkm : m = k := by omega
                        have hXl : 0 < n → bw (n - 1) ≤ mw f o n := fun hn => wOK_ge hw hn
                        have hvE : mw (va_up g (N - 1 - k) 1) (N - (m + 1)) (m + 1) = mw f o n + 1 := by rw [← sm_mw (by omega), hkm, sm_lay (by omega) rfl, Nat.one_mul]; rw [show c = 1 by omega, Nat.one_mul] at hE9; omega
                        have hfE := up_lt (j := N - 1 - k) hgb (show 1 < 4294967296 by decide)
                        have hsz : 0 < m + 1 → bw (m + 1 - 1) ≤ mw f o n + 1 := fun _ => by rw [show m + 1 - 1 = k by omega]; rw [show c = 1 by omega, Nat.one_mul] at hE9; omega
                        have hwE := inc_ok (f := fun j => (va_up g (N - 1 - k) 1) (N - (m + 1) + j)) (fun i hi => hfE _ (by omega)) hvE hsz
                        exact sw_vret F rfl dJ35_add_345 (by rw [hPo]; exact ⟨a, N, va_up g (N - 1 - k) 1, m + 1, N - (m + 1), rfl, (by omega), (by first | exact hfE | exact hgb), (by exact hwE), (by first | exact hvE | exact hR9), (by rfl)⟩)
                      ·
                        refine sw_iload (n := 286) F 0 rfl dJ35_add_284 rfl ?_
                        refine sw_newaN (n := 288) F (m + 1) (by first | omega | rfl) (by omega) 0 0 ⟨by omega, by omega⟩ dJ35_add_286 rfl (fun q_1 => ?_)
                        refine sw_astore (n := 290) F (some q_1) (L2 := [(11, .ref q_1), (4, .int (jI (↑m + 1))), (0, .ref q), (1, .ref (tR (xg x) sONE)), (3, .int (jI (↑y))), (5, .ref a), (6, .int (jI (↑N - 1 - ↑k))), (9, .long (jL (↑c)))]) rfl rfl (by decide) dJ35_add_288 rfl ?_
                        refine sw_aload (n := 292) F 5 (some a) rfl rfl dJ35_add_290 rfl ?_
                        refine sw_iconst (n := 293) F (0) (by decide) dJ35_add_292 rfl ?_
                        refine sw_aload (n := 295) F 0 (some q_1) rfl rfl dJ35_add_293 rfl ?_
                        refine sw_iconst (n := 296) F (1) (by decide) dJ35_add_295 rfl ?_
                        refine sw_aload (n := 298) F 5 (some a) rfl rfl dJ35_add_296 rfl ?_
                        refine sw_alen (n := 299) F 2 rfl (fun _ => rfl) dJ35_add_298 rfl ?_
                        refine sw_copyN (n := 302) F 0 (hA_ar (t0 := 0) (ty := .int) (f := fun j => .int (jI (g j : Nat))) F (i := 2) rfl (fun _ => rfl)) rfl 0 1 N (by first | rfl | omega) (by first | rfl | omega) (by first | rfl | omega) (by omega) (by omega) (by omega) q1880 q530 q529 q133 (by decide) [aN (xg x) 0 q_1 (m + 1) (va_cpy g (fun _ => 0) 0 1 N), ob (xg x) q 19 [.ref a, .int (jI (↑n)), .int (jI (↑o))], aN (xg x) 0 a N g] rfl dJ35_add_299 rfl ?_
                        refine sw_aload (n := 304) F 0 (some q_1) rfl rfl dJ35_add_302 rfl ?_
                        refine sw_iconst (n := 305) F (0) (by decide) dJ35_add_304 rfl ?_
                        refine sw_iconst (n := 306) F (1) (by decide) dJ35_add_305 rfl ?_
                        refine sw_iastoreW (n := 307) F 0 rfl (fun _ => rfl) 0 rfl (by omega) 1 (by first | omega | rfl) [aN (xg x) 0 q_1 (m + 1) (va_up (va_cpy g (fun _ => 0) 0 1 N) 0 1), ob (xg x) q 19 [.ref a, .int (jI (↑n)), .int (jI (↑o))], aN (xg x) 0 a N g] (by rfl) dJ35_add_306 rfl ?_
                        refine sw_aload (n := 309) F 0 (some q_1) rfl rfl dJ35_add_307 rfl ?_
                        refine sw_astore (n := 311) F (some q_1) (L2 := [(5, .ref q_1), (11, .ref q_1), (4, .int (jI (↑m + 1))), (0, .ref q), (1, .ref (tR (xg x) sONE)), (3, .int (jI (↑y))), (6, .int (jI (↑N - 1 - ↑k))), (9, .long (jL (↑c)))]) rfl rfl (by decide) dJ35_add_309 rfl ?_
                        refine sw_goto F (n := 323) dJ35_add_311 (by decide) ?_
                        refine sw_aload_n (n := 324) F 3 (some q) rfl rfl rfl dJ35_add_323 rfl ?_
                        refine sw_aload (n := 326) F 0 (some q_1) rfl rfl dJ35_add_324 rfl ?_
                        refine sw_put (n := 329) F 1 rfl (k := 0) ⟨(RJ35, TJ35, 3), rfl, by decide, q1836, in_J35, Or.inl rfl⟩ (tyJ35 0) ⟨(RJ35, TJ35, 3), rfl, rfl, tyJ35_ok 0 (by decide), nmJ35, tyJ35, tyJ35_ok⟩ rfl rfl (Nat.le_of_ble_eq_true rfl) rfl [aN (xg x) 0 q_1 (m + 1) (va_up (va_cpy g (fun _ => 0) 0 1 N) 0 1), ob (xg x) q 19 [.ref q_1, .int (jI (↑n)), .int (jI (↑o))], aN (xg x) 0 a N g] rfl dJ35_add_326 rfl ?_
                        refine sw_aload_n (n := 330) F 3 (some q) rfl rfl rfl dJ35_add_329 rfl ?_
                        refine sw_iload (n := 332) F 2 rfl dJ35_add_330 rfl ?_
                        refine sw_put (n := 335) F 1 rfl (k := 1) ⟨(RJ35, TJ35, 3), rfl, by decide, q1837, in_J35, Or.inl rfl⟩ .int ⟨(RJ35, TJ35, 3), rfl, rfl, tyJ35_ok 1 (by decide), nmJ35, tyJ35, tyJ35_ok⟩ rfl rfl (Nat.le_of_ble_eq_true rfl) rfl [aN (xg x) 0 q_1 (m + 1) (va_up (va_cpy g (fun _ => 0) 0 1 N) 0 1), ob (xg x) q 19 [.ref q_1, .int (jI (↑m + 1)), .int (jI (↑o))], aN (xg x) 0 a N g] rfl dJ35_add_332 rfl ?_
                        refine sw_aload_n (n := 336) F 3 (some q) rfl rfl rfl dJ35_add_335 rfl ?_
                        refine sw_aload (n := 338) F 0 (some q_1) rfl rfl dJ35_add_336 rfl ?_
                        refine sw_alen (n := 339) F 0 rfl (fun _ => rfl) dJ35_add_338 rfl ?_
                        refine sw_iload (n := 341) F 2 rfl dJ35_add_339 rfl ?_
                        refine sw_isub (n := 342) F dJ35_add_341 rfl ?_
                        refine sw_top (topI (show ((↑(m + 1)) - (↑m + 1) : Int) = ↑((m + 1) - (m + 1)) by omega)) ?_
                        refine sw_put (n := 345) F 1 rfl (k := 2) ⟨(RJ35, TJ35, 3), rfl, by decide, q1838, in_J35, Or.inl rfl⟩ .int ⟨(RJ35, TJ35, 3), rfl, rfl, tyJ35_ok 2 (by decide), nmJ35, tyJ35, tyJ35_ok⟩ rfl rfl (Nat.le_of_ble_eq_true rfl) rfl [aN (xg x) 0 q_1 (m + 1) (va_up (va_cpy g (fun _ => 0) 0 1 N) 0 1), ob (xg x) q 19 [.ref q_1, .int (jI (↑m + 1)), .int (jI (↑((m + 1) - (m + 1))))], aN (xg x) 0 a N g] rfl dJ35_add_342 rfl ?_
                        have hE9 := hE (by omega)
                        have hkm : m = k := by omega
                        have hXl : 0 < n → bw (n - 1) ≤ mw f o n := fun hn => wOK_ge hw hn
                        have hNk : N = k := by omega
                        have hvE : mw (va_up (va_cpy g (fun _ => 0) 0 1 N) 0 1) ((m + 1) - (m + 1)) (m + 1) = mw f o n + 1 := by rw [show (m + 1) - (m + 1) = 0 by omega, mw_0, show m + 1 = N + 1 by omega, inc_t, wv_sm]; rw [show c = 1 by omega, Nat.one_mul, ← hNk] at hE9; omega
                        have hfE : ∀ k, k < m + 1 → (va_up (va_cpy g (fun _ => 0) 0 1 N) 0 1) k < 4294967296 := by rw [show m + 1 = N + 1 by omega]; exact up_lt (j := 0) (cpy_lt2 hgb (by decide)) (by decide)
                        have hsz : 0 < m + 1 → bw (m + 1 - 1) ≤ mw f o n + 1 := fun _ => by rw [show m + 1 - 1 = k by omega]; rw [show c = 1 by omega, Nat.one_mul] at hE9; omega
                        have hwE := inc_ok (f := fun j => (va_up (va_cpy g (fun _ => 0) 0 1 N) 0 1) ((m + 1) - (m + 1) + j)) (fun i hi => hfE _ (by omega)) hvE hsz
                        refine sw_drop [1, 0, 2] 2 rfl [ob (xg x) q 19 [.ref q_1, .int (jI (↑m + 1)), .int (jI (↑((m + 1) - (m + 1))))], aN (xg x) 0 q_1 (m + 1) (va_up (va_cpy g (fun _ => 0) 0 1 N) 0 1)] rfl ?_
                        exact sw_vret F rfl dJ35_add_345 (by rw [hPo]; exact ⟨q_1, m + 1, va_up (va_cpy g (fun _ => 0) 0 1 N) 0 1, m + 1, (m + 1) - (m + 1), rfl, (by omega), (by first | exact hfE | exact hgb), (by exact hwE), (by first | exact hvE | exact hR9), (by rfl)⟩)
                  ·
                    refine sw_iinc (n := 224) F 2 (L2 := [(3, .int (jI (↑y + (-1)))), (0, .ref q), (1, .ref (tR (xg x) sONE)), (4, .int (jI (↑m))), (5, .ref a), (6, .int (jI (↑N - 1 - ↑k))), (9, .long (jL (↑c)))]) rfl rfl (by decide) dJ35_add_221 rfl ?_
                    refine sw_aload_n (n := 225) F 2 (some (tR (xg x) sONE)) rfl rfl rfl dJ35_add_224 rfl ?_
                    refine sw_getK (n := 228) F ((kONE F.gx.1).2.1.O F) (k := 0) ⟨(RJ35, TJ35, 3), rfl, by decide, q1836, in_J35, Or.inl rfl⟩ rfl dJ35_add_225 rfl ?_
                    refine sw_iload_n (n := 229) F 0 rfl rfl dJ35_add_228 rfl ?_
                    refine sw_aload_n (n := 230) F 2 (some (tR (xg x) sONE)) rfl rfl rfl dJ35_add_229 rfl ?_
                    refine sw_getK (n := 233) F ((kONE F.gx.1).2.1.O F) (k := 2) ⟨(RJ35, TJ35, 3), rfl, by decide, q1838, in_J35, Or.inl rfl⟩ rfl dJ35_add_230 rfl ?_
                    refine sw_iadd (n := 234) F dJ35_add_233 rfl ?_
                    refine sw_ialoadK (n := 235) F ((kONE F.gx.1).2.2.A F) 0 (by omega) (by omega) dJ35_add_234 rfl ?_
                    show SW x _ _ _ _ _ [.int (jI 1)]
                    refine sw_i2lr (n := 236) F dJ35_add_235 rfl ?_
                    refine sw_ldc2 (n := 239) F (4294967295) q1865 (by decide) dJ35_add_236 rfl ?_
                    refine sw_land (n := 240) F (jL (1)) (jI_wordE (by decide)) dJ35_add_239 rfl ?_
                    refine sw_lload (n := 242) F 6 rfl dJ35_add_240 rfl ?_
                    refine sw_ladd (n := 243) F dJ35_add_242 rfl ?_
                    obtain ⟨p, hp⟩ : ∃ z : Nat, z = 1 + c := ⟨_, rfl⟩
                    refine sw_top (topL (show (1 + (↑c) : Int) = ↑p by omega)) ?_
                    refine sw_lstore (n := 245) F (L2 := [(7, .long (jL (↑p))), (3, .int (jI (↑y + (-1)))), (0, .ref q), (1, .ref (tR (xg x) sONE)), (4, .int (jI (↑m))), (5, .ref a), (6, .int (jI (↑N - 1 - ↑k))), (9, .long (jL (↑c)))]) rfl (by decide) dJ35_add_243 rfl ?_
                    refine sw_aload (n := 247) F 5 (some a) rfl rfl dJ35_add_245 rfl ?_
                    refine sw_iload (n := 249) F 6 rfl dJ35_add_247 rfl ?_
                    refine sw_iinc (n := 252) F 6 (L2 := [(6, .int (jI (↑N - 1 - ↑k + (-1)))), (7, .long (jL (↑p))), (3, .int (jI (↑y + (-1)))), (0, .ref q), (1, .ref (tR (xg x) sONE)), (4, .int (jI (↑m))), (5, .ref a), (9, .long (jL (↑c)))]) rfl rfl (by decide) dJ35_add_249 rfl ?_
                    refine sw_lload (n := 254) F 1 rfl dJ35_add_252 rfl ?_
                    refine sw_l2i (n := 255) F dJ35_add_254 rfl ?_
                    refine sw_iastoreW (n := 256) F 1 rfl (fun _ => rfl) (N - 1 - k) (by omega) (by omega) (p % 4294967296) (by first | omega | rfl) [ob (xg x) q 19 [.ref a, .int (jI (↑n)), .int (jI (↑o))], aN (xg x) 0 a N (va_up g (N - 1 - k) (p % 4294967296))] (by rfl) dJ35_add_255 rfl ?_
                    refine sw_lload (n := 258) F 1 rfl dJ35_add_256 rfl ?_
                    refine sw_bipush (n := 260) F (32) (by decide) dJ35_add_258 rfl ?_
                    refine sw_lushr (n := 261) F _ (jL_ushr32 _) dJ35_add_260 rfl ?_
                    refine sw_top (topL (show ((↑p) % 18446744073709551616 / 4294967296 : Int) = ↑(p / 4294967296) by omega)) ?_
                    refine sw_lstore (n := 263) F (L2 := [(9, .long (jL (↑(p / 4294967296)))), (6, .int (jI (↑N - 1 - ↑k + (-1)))), (7, .long (jL (↑p))), (3, .int (jI (↑y + (-1)))), (0, .ref q), (1, .ref (tR (xg x) sONE)), (4, .int (jI (↑m))), (5, .ref a)]) rfl (by decide) dJ35_add_261 rfl ?_
                    refine sw_goto F (n := 217) dJ35_add_263 (by decide) ?_
                    refine sw_loc [4, 5, 3, 6, 7, 1, 0] (L2 := [(0, .ref q), (1, .ref (tR (xg x) sONE)), (3, .int (jI (↑y + (-1)))), (4, .int (jI (↑m))), (5, .ref a), (6, .int (jI (↑N - 1 - ↑k + (-1)))), (9, .long (jL (↑(p / 4294967296))))]) rfl ?_
                    rw [show (↑y + (-1) : Int) = ↑(y - 1) by omega]
                    rw [show (↑N - 1 - ↑k + (-1) : Int) = ↑N - 1 - ↑(k + 1) by omega]
                    exact ih217 (k + 1) (y - 1) (p / 4294967296) (va_up g (N - 1 - k) (p % 4294967296)) (by first | omega | assumption) (by omega) (by omega) (by first | assumption | exact up_lt hgb (by omega) | exact hf) (by intro _; rw [show k = 0 by omega, sm_lay (by omega) rfl, sm_0, show p = 1 by omega, show n = 0 by omega, bw_0]; rfl) (by omega)
              refine sw_if_le (n := 144) F (by omega) (tgt := 217) dJ35_add_141 (by decide) rfl (fun c_141 => ?_) (fun c_141 => ?_)
              ·
                refine sw_loc [0, 1, 3, 4, 5, 6, 7] (L2 := [(0, .ref q), (1, .ref (tR (xg x) sONE)), (3, .int (jI (↑y))), (4, .int (jI (↑m))), (5, .ref a), (6, .int (jI (↑N - 1 - ↑k))), (9, .long (jL (↑c)))]) rfl ?_
                exact K217 _ k y c g (by first | omega | assumption) (by omega) (by omega) (by first | assumption | exact up_lt hgb (by omega) | exact hf) (by intro hy; have e9 := hI; rw [show c + y = c by omega, show k = n by omega] at e9; have e8 := sm_mw (g := f) (N := o + n) (m := n) (by omega); rw [show o + n - n = o by omega] at e8; rw [e8] at e9; rw [show k = n by omega]; exact e9) (Nat.lt_succ_self _)
              ·
                refine sw_iinc (n := 147) F 2 (L2 := [(2, .int (jI (↑n - ↑k + (-1)))), (0, .ref q), (1, .ref (tR (xg x) sONE)), (3, .int (jI (↑y))), (4, .int (jI (↑m))), (5, .ref a), (6, .int (jI (↑N - 1 - ↑k))), (9, .long (jL (↑c)))]) rfl rfl (by decide) dJ35_add_144 rfl ?_
                refine sw_lload (n := 149) F 7 rfl dJ35_add_147 rfl ?_
                refine sw_lconst (n := 150) F 0 (by decide) dJ35_add_149 rfl ?_
                refine sw_lcmp (n := 151) F (by omega) (by decide) dJ35_add_150 rfl ?_
                refine sw_if_ne (n := 154) F (lc_rng _ _) (tgt := 175) dJ35_add_151 (by decide) rfl (fun c_151 => ?_) (fun c_151 => ?_)
                ·
                  have c_151 := lc_ne c_151
                  refine sw_aload_n (n := 176) F 1 (some q) rfl rfl rfl dJ35_add_175 rfl ?_
                  refine sw_get (n := 179) F 0 rfl (k := 0) ⟨(RJ35, TJ35, 3), rfl, by decide, q1836, in_J35, Or.inl rfl⟩ rfl dJ35_add_176 rfl ?_
                  refine sw_iload_n (n := 180) F 0 rfl rfl dJ35_add_179 rfl ?_
                  refine sw_aload_n (n := 181) F 1 (some q) rfl rfl rfl dJ35_add_180 rfl ?_
                  refine sw_get (n := 184) F 0 rfl (k := 2) ⟨(RJ35, TJ35, 3), rfl, by decide, q1838, in_J35, Or.inl rfl⟩ rfl dJ35_add_181 rfl ?_
                  refine sw_iadd (n := 185) F dJ35_add_184 rfl ?_
                  refine sw_ialoadN (n := 186) F 1 rfl (fun _ => rfl) (o + n - 1 - k) (by omega) (by omega) dJ35_add_185 rfl ?_
                  refine sw_top (topI (show (↑(g (o + n - 1 - k)) : Int) = ↑(f (o + n - 1 - k)) by rw [hr _ (by omega)])) ?_
                  have hb_x : f (o + n - 1 - k) < 4294967296 := hf _ (by omega)
                  refine sw_i2lr (n := 187) F dJ35_add_186 rfl ?_
                  refine sw_ldc2 (n := 190) F (4294967295) q1865 (by decide) dJ35_add_187 rfl ?_
                  refine sw_land (n := 191) F (jL (↑(f (o + n - 1 - k)))) (jI_wordE (by omega)) dJ35_add_190 rfl ?_
                  refine sw_lload (n := 193) F 7 rfl dJ35_add_191 rfl ?_
                  refine sw_ladd (n := 194) F dJ35_add_193 rfl ?_
                  obtain ⟨p, hp⟩ : ∃ z : Nat, z = f (o + n - 1 - k) + (c + y) := ⟨_, rfl⟩
                  refine sw_top (topL (show ((↑(f (o + n - 1 - k))) + (↑c) : Int) = ↑p by omega)) ?_
                  refine sw_lstore (n := 196) F (L2 := [(7, .long (jL (↑p))), (2, .int (jI (↑n - ↑k + (-1)))), (0, .ref q), (1, .ref (tR (xg x) sONE)), (3, .int (jI (↑y))), (4, .int (jI (↑m))), (5, .ref a), (6, .int (jI (↑N - 1 - ↑k))), (9, .long (jL (↑c)))]) rfl (by decide) dJ35_add_194 rfl ?_
                  refine sw_aload (n := 198) F 6 (some a) rfl rfl dJ35_add_196 rfl ?_
                  refine sw_iload (n := 200) F 7 rfl dJ35_add_198 rfl ?_
                  refine sw_iinc (n := 203) F 7 (L2 := [(6, .int (jI (↑N - 1 - ↑k + (-1)))), (7, .long (jL (↑p))), (2, .int (jI (↑n - ↑k + (-1)))), (0, .ref q), (1, .ref (tR (xg x) sONE)), (3, .int (jI (↑y))), (4, .int (jI (↑m))), (5, .ref a), (9, .long (jL (↑c)))]) rfl rfl (by decide) dJ35_add_200 rfl ?_
                  refine sw_lload (n := 205) F 1 rfl dJ35_add_203 rfl ?_
                  refine sw_l2i (n := 206) F dJ35_add_205 rfl ?_
                  refine sw_iastoreW (n := 207) F 1 rfl (fun _ => rfl) (N - 1 - k) (by omega) (by omega) (p % 4294967296) (by first | omega | rfl) [ob (xg x) q 19 [.ref a, .int (jI (↑n)), .int (jI (↑o))], aN (xg x) 0 a N (va_up g (N - 1 - k) (p % 4294967296))] (by rfl) dJ35_add_206 rfl ?_
                  refine sw_lload (n := 209) F 1 rfl dJ35_add_207 rfl ?_
                  refine sw_bipush (n := 211) F (32) (by decide) dJ35_add_209 rfl ?_
                  refine sw_lushr (n := 212) F _ (jL_ushr32 _) dJ35_add_211 rfl ?_
                  refine sw_top (topL (show ((↑p) % 18446744073709551616 / 4294967296 : Int) = ↑(p / 4294967296) by omega)) ?_
                  refine sw_lstore (n := 214) F (L2 := [(9, .long (jL (↑(p / 4294967296)))), (6, .int (jI (↑N - 1 - ↑k + (-1)))), (7, .long (jL (↑p))), (2, .int (jI (↑n - ↑k + (-1)))), (0, .ref q), (1, .ref (tR (xg x) sONE)), (3, .int (jI (↑y))), (4, .int (jI (↑m))), (5, .ref a)]) rfl (by decide) dJ35_add_212 rfl ?_
                  refine sw_goto F (n := 140) dJ35_add_214 (by decide) ?_
                  refine sw_loc [4, 5, 3, 6, 7, 8, 1, 0] (L2 := [(0, .ref q), (1, .ref (tR (xg x) sONE)), (2, .int (jI (↑n - ↑k + (-1)))), (3, .int (jI (↑y))), (4, .int (jI (↑m))), (5, .ref a), (6, .int (jI (↑N - 1 - ↑k + (-1)))), (9, .long (jL (↑(p / 4294967296))))]) rfl ?_
                  rw [show (↑n - ↑k + (-1) : Int) = ↑n - ↑(k + 1) by omega]
                  rw [show (↑N - 1 - ↑k + (-1) : Int) = ↑N - 1 - ↑(k + 1) by omega]
                  exact ih140 (k + 1) y (p / 4294967296) (va_up g (N - 1 - k) (p % 4294967296)) (by first | omega | assumption) (by omega) (by omega) (by first | assumption | exact up_lt hgb (by omega) | exact hf) (by have e9 := add_stepM hI hp (by omega); rw [show y = 0 by omega, Nat.add_zero]; exact e9) (by first | (intro j hj; rfl) | exact hr | (intro j hj; rw [vu_ne (by omega)]; exact hr j (by omega))) (by omega)
                ·
                  have c_151 := lc_eq c_151
                  refine sw_aload (n := 156) F 5 (some a) rfl rfl dJ35_add_154 rfl ?_
                  refine sw_aload_n (n := 157) F 1 (some q) rfl rfl rfl dJ35_add_156 rfl ?_
                  refine sw_get (n := 160) F 0 rfl (k := 0) ⟨(RJ35, TJ35, 3), rfl, by decide, q1836, in_J35, Or.inl rfl⟩ rfl dJ35_add_157 rfl ?_
                  refine sw_acmp_ne (n := 163) F (rx := (some a)) (ry := (some a)) rfl rfl (tgt := 175) dJ35_add_160 (by decide) rfl (fun c_160 => ?_) (fun c_160 => ?_)
                  · exfalso; exact c_160 rfl
                  ·
                    refine sw_iload (n := 165) F 6 rfl dJ35_add_163 rfl ?_
                    refine sw_iload_n (n := 166) F 0 rfl rfl dJ35_add_165 rfl ?_
                    refine sw_aload_n (n := 167) F 1 (some q) rfl rfl rfl dJ35_add_166 rfl ?_
                    refine sw_get (n := 170) F 0 rfl (k := 2) ⟨(RJ35, TJ35, 3), rfl, by decide, q1838, in_J35, Or.inl rfl⟩ rfl dJ35_add_167 rfl ?_
                    refine sw_iadd (n := 171) F dJ35_add_170 rfl ?_
                    refine sw_icmp_ne (n := 174) F (by omega) (by omega) (tgt := 175) dJ35_add_171 (by decide) rfl (fun c_171 => ?_) (fun c_171 => ?_)
                    ·
                      refine sw_aload_n (n := 176) F 1 (some q) rfl rfl rfl dJ35_add_175 rfl ?_
                      refine sw_get (n := 179) F 0 rfl (k := 0) ⟨(RJ35, TJ35, 3), rfl, by decide, q1836, in_J35, Or.inl rfl⟩ rfl dJ35_add_176 rfl ?_
                      refine sw_iload_n (n := 180) F 0 rfl rfl dJ35_add_179 rfl ?_
                      refine sw_aload_n (n := 181) F 1 (some q) rfl rfl rfl dJ35_add_180 rfl ?_
                      refine sw_get (n := 184) F 0 rfl (k := 2) ⟨(RJ35, TJ35, 3), rfl, by decide, q1838, in_J35, Or.inl rfl⟩ rfl dJ35_add_181 rfl ?_
                      refine sw_iadd (n := 185) F dJ35_add_184 rfl ?_
                      refine sw_ialoadN (n := 186) F 1 rfl (fun _ => rfl) (o + n - 1 - k) (by omega) (by omega) dJ35_add_185 rfl ?_
                      refine sw_top (topI (show (↑(g (o + n - 1 - k)) : Int) = ↑(f (o + n - 1 - k)) by rw [hr _ (by omega)])) ?_
                      have hb_x : f (o + n - 1 - k) < 4294967296 := hf _ (by omega)
                      refine sw_i2lr (n := 187) F dJ35_add_186 rfl ?_
                      refine sw_ldc2 (n := 190) F (4294967295) q1865 (by decide) dJ35_add_187 rfl ?_
                      refine sw_land (n := 191) F (jL (↑(f (o + n - 1 - k)))) (jI_wordE (by omega)) dJ35_add_190 rfl ?_
                      refine sw_lload (n := 193) F 7 rfl dJ35_add_191 rfl ?_
                      refine sw_ladd (n := 194) F dJ35_add_193 rfl ?_
                      obtain ⟨p, hp⟩ : ∃ z : Nat, z = f (o + n - 1 - k) + (c + y) := ⟨_, rfl⟩
                      refine sw_top (topL (show ((↑(f (o + n - 1 - k))) + (↑c) : Int) = ↑p by omega)) ?_
                      refine sw_lstore (n := 196) F (L2 := [(7, .long (jL (↑p))), (2, .int (jI (↑n - ↑k + (-1)))), (0, .ref q), (1, .ref (tR (xg x) sONE)), (3, .int (jI (↑y))), (4, .int (jI (↑m))), (5, .ref a), (6, .int (jI (↑N - 1 - ↑k))), (9, .long (jL (↑c)))]) rfl (by decide) dJ35_add_194 rfl ?_
                      refine sw_aload (n := 198) F 6 (some a) rfl rfl dJ35_add_196 rfl ?_
                      refine sw_iload (n := 200) F 7 rfl dJ35_add_198 rfl ?_
                      refine sw_iinc (n := 203) F 7 (L2 := [(6, .int (jI (↑N - 1 - ↑k + (-1)))), (7, .long (jL (↑p))), (2, .int (jI (↑n - ↑k + (-1)))), (0, .ref q), (1, .ref (tR (xg x) sONE)), (3, .int (jI (↑y))), (4, .int (jI (↑m))), (5, .ref a), (9, .long (jL (↑c)))]) rfl rfl (by decide) dJ35_add_200 rfl ?_
                      refine sw_lload (n := 205) F 1 rfl dJ35_add_203 rfl ?_
                      refine sw_l2i (n := 206) F dJ35_add_205 rfl ?_
                      refine sw_iastoreW (n := 207) F 1 rfl (fun _ => rfl) (N - 1 - k) (by omega) (by omega) (p % 4294967296) (by first | omega | rfl) [ob (xg x) q 19 [.ref a, .int (jI (↑n)), .int (jI (↑o))], aN (xg x) 0 a N (va_up g (N - 1 - k) (p % 4294967296))] (by rfl) dJ35_add_206 rfl ?_
                      refine sw_lload (n := 209) F 1 rfl dJ35_add_207 rfl ?_
                      refine sw_bipush (n := 211) F (32) (by decide) dJ35_add_209 rfl ?_
                      refine sw_lushr (n := 212) F _ (jL_ushr32 _) dJ35_add_211 rfl ?_
                      refine sw_top (topL (show ((↑p) % 18446744073709551616 / 4294967296 : Int) = ↑(p / 4294967296) by omega)) ?_
                      refine sw_lstore (n := 214) F (L2 := [(9, .long (jL (↑(p / 4294967296)))), (6, .int (jI (↑N - 1 - ↑k + (-1)))), (7, .long (jL (↑p))), (2, .int (jI (↑n - ↑k + (-1)))), (0, .ref q), (1, .ref (tR (xg x) sONE)), (3, .int (jI (↑y))), (4, .int (jI (↑m))), (5, .ref a)]) rfl (by decide) dJ35_add_212 rfl ?_
                      refine sw_goto F (n := 140) dJ35_add_214 (by decide) ?_
                      refine sw_loc [4, 5, 3, 6, 7, 8, 1, 0] (L2 := [(0, .ref q), (1, .ref (tR (xg x) sONE)), (2, .int (jI (↑n - ↑k + (-1)))), (3, .int (jI (↑y))), (4, .int (jI (↑m))), (5, .ref a), (6, .int (jI (↑N - 1 - ↑k + (-1)))), (9, .long (jL (↑(p / 4294967296))))]) rfl ?_
                      rw [show (↑n - ↑k + (-1) : Int) = ↑n - ↑(k + 1) by omega]
                      rw [show (↑N - 1 - ↑k + (-1) : Int) = ↑N - 1 - ↑(k + 1) by omega]
                      exact ih140 (k + 1) y (p / 4294967296) (va_up g (N - 1 - k) (p % 4294967296)) (by first | omega | assumption) (by omega) (by omega) (by first | assumption | exact up_lt hgb (by omega) | exact hf) (by have e9 := add_stepM hI hp (by omega); rw [show y = 0 by omega, Nat.add_zero]; exact e9) (by first | (intro j hj; rfl) | exact hr | (intro j hj; rw [vu_ne (by omega)]; exact hr j (by omega))) (by omega)
                    ·
                      have hNn : N = o + n := by omega
                      have hI9 : sm g N k = sm f N k + 1 := by have e9 := hI; rw [show c + y = 0 by omega, Nat.zero_mul, Nat.add_zero, ← hNn] at e9; exact e9
                      have hR9 := add_rest hr hI9 (n - k) (by omega)
                      rw [show k + (n - k) = n by omega, sm_mw (by omega), sm_mw (by omega), show N - n = o by omega] at hR9
                      have hwE := inc_ok (f := fun j => g (o + j)) (fun i hi => hgb _ (by omega)) hR9 (fun hn => by have := wOK_ge hw hn; have h8 : wv (fun j => f (o + j)) n = mw f o n := rfl; omega)
                      exact sw_vret F rfl dJ35_add_174 (by rw [hPo]; exact ⟨a, N, g, n, o, rfl, (by omega), (by first | exact hfE | exact hgb), (by exact hwE), (by first | exact hvE | exact hR9), rfl⟩)
          refine sw_if_le (n := 71) F (by omega) (tgt := 140) dJ35_add_68 (by decide) rfl (fun c_68 => ?_) (fun c_68 => ?_)
          ·
            exact K140 _ k y c g (by first | omega | assumption) (by omega) (by omega) (by first | assumption | exact up_lt hgb (by omega) | exact hf) (by exact hI) (by first | (intro j hj; rfl) | exact hr | (intro j hj; rw [vu_ne (by omega)]; exact hr j (by omega))) (Nat.lt_succ_self _)
          ·
            refine sw_iload_n (n := 72) F 3 rfl rfl dJ35_add_71 rfl ?_
            refine sw_if_le (n := 75) F (by omega) (tgt := 140) dJ35_add_72 (by decide) rfl (fun c_72 => ?_) (fun c_72 => ?_)
            ·
              exact K140 _ k y c g (by first | omega | assumption) (by omega) (by omega) (by first | assumption | exact up_lt hgb (by omega) | exact hf) (by exact hI) (by first | (intro j hj; rfl) | exact hr | (intro j hj; rw [vu_ne (by omega)]; exact hr j (by omega))) (Nat.lt_succ_self _)
            ·
              refine sw_iinc (n := 78) F 2 (L2 := [(2, .int (jI (↑n - ↑k + (-1)))), (0, .ref q), (1, .ref (tR (xg x) sONE)), (3, .int (jI (↑y))), (4, .int (jI (↑m))), (5, .ref a), (6, .int (jI (↑N - 1 - ↑k))), (9, .long (jL (↑c)))]) rfl rfl (by decide) dJ35_add_75 rfl ?_
              refine sw_iinc (n := 81) F 3 (L2 := [(3, .int (jI (↑y + (-1)))), (2, .int (jI (↑n - ↑k + (-1)))), (0, .ref q), (1, .ref (tR (xg x) sONE)), (4, .int (jI (↑m))), (5, .ref a), (6, .int (jI (↑N - 1 - ↑k))), (9, .long (jL (↑c)))]) rfl rfl (by decide) dJ35_add_78 rfl ?_
              refine sw_aload_n (n := 82) F 2 (some q) rfl rfl rfl dJ35_add_81 rfl ?_
              refine sw_get (n := 85) F 0 rfl (k := 0) ⟨(RJ35, TJ35, 3), rfl, by decide, q1836, in_J35, Or.inl rfl⟩ rfl dJ35_add_82 rfl ?_
              refine sw_iload_n (n := 86) F 1 rfl rfl dJ35_add_85 rfl ?_
              refine sw_aload_n (n := 87) F 2 (some q) rfl rfl rfl dJ35_add_86 rfl ?_
              refine sw_get (n := 90) F 0 rfl (k := 2) ⟨(RJ35, TJ35, 3), rfl, by decide, q1838, in_J35, Or.inl rfl⟩ rfl dJ35_add_87 rfl ?_
              refine sw_iadd (n := 91) F dJ35_add_90 rfl ?_
              refine sw_ialoadN (n := 92) F 1 rfl (fun _ => rfl) (o + n - 1 - k) (by omega) (by omega) dJ35_add_91 rfl ?_
              refine sw_top (topI (show (↑(g (o + n - 1 - k)) : Int) = ↑(f (o + n - 1 - k)) by rw [hr _ (by omega)])) ?_
              have hb_x : f (o + n - 1 - k) < 4294967296 := hf _ (by omega)
              refine sw_i2lr (n := 93) F dJ35_add_92 rfl ?_
              refine sw_ldc2 (n := 96) F (4294967295) q1865 (by decide) dJ35_add_93 rfl ?_
              refine sw_land (n := 97) F (jL (↑(f (o + n - 1 - k)))) (jI_wordE (by omega)) dJ35_add_96 rfl ?_
              refine sw_aload_n (n := 98) F 3 (some (tR (xg x) sONE)) rfl rfl rfl dJ35_add_97 rfl ?_
              refine sw_getK (n := 101) F ((kONE F.gx.1).2.1.O F) (k := 0) ⟨(RJ35, TJ35, 3), rfl, by decide, q1836, in_J35, Or.inl rfl⟩ rfl dJ35_add_98 rfl ?_
              refine sw_iload_n (n := 102) F 0 rfl rfl dJ35_add_101 rfl ?_
              refine sw_aload_n (n := 103) F 3 (some (tR (xg x) sONE)) rfl rfl rfl dJ35_add_102 rfl ?_
              refine sw_getK (n := 106) F ((kONE F.gx.1).2.1.O F) (k := 2) ⟨(RJ35, TJ35, 3), rfl, by decide, q1838, in_J35, Or.inl rfl⟩ rfl dJ35_add_103 rfl ?_
              refine sw_iadd (n := 107) F dJ35_add_106 rfl ?_
              refine sw_ialoadK (n := 108) F ((kONE F.gx.1).2.2.A F) 0 (by omega) (by omega) dJ35_add_107 rfl ?_
              show SW x _ _ _ _ _ [.int (jI 1), .long (jL (↑(f (o + n - 1 - k))))]
              refine sw_i2lr (n := 109) F dJ35_add_108 rfl ?_
              refine sw_ldc2 (n := 112) F (4294967295) q1865 (by decide) dJ35_add_109 rfl ?_
              refine sw_land (n := 113) F (jL (1)) (jI_wordE (by decide)) dJ35_add_112 rfl ?_
              refine sw_ladd (n := 114) F dJ35_add_113 rfl ?_
              refine sw_lload (n := 116) F 7 rfl dJ35_add_114 rfl ?_
              refine sw_ladd (n := 117) F dJ35_add_116 rfl ?_
              obtain ⟨p, hp⟩ : ∃ z : Nat, z = f (o + n - 1 - k) + (c + y) := ⟨_, rfl⟩
              refine sw_top (topL (show (((↑(f (o + n - 1 - k))) + 1) + (↑c) : Int) = ↑p by omega)) ?_
              refine sw_lstore (n := 119) F (L2 := [(7, .long (jL (↑p))), (3, .int (jI (↑y + (-1)))), (2, .int (jI (↑n - ↑k + (-1)))), (0, .ref q), (1, .ref (tR (xg x) sONE)), (4, .int (jI (↑m))), (5, .ref a), (6, .int (jI (↑N - 1 - ↑k))), (9, .long (jL (↑c)))]) rfl (by decide) dJ35_add_117 rfl ?_
              refine sw_aload (n := 121) F 6 (some a) rfl rfl dJ35_add_119 rfl ?_
              refine sw_iload (n := 123) F 7 rfl dJ35_add_121 rfl ?_
              refine sw_iinc (n := 126) F 7 (L2 := [(6, .int (jI (↑N - 1 - ↑k + (-1)))), (7, .long (jL (↑p))), (3, .int (jI (↑y + (-1)))), (2, .int (jI (↑n - ↑k + (-1)))), (0, .ref q), (1, .ref (tR (xg x) sONE)), (4, .int (jI (↑m))), (5, .ref a), (9, .long (jL (↑c)))]) rfl rfl (by decide) dJ35_add_123 rfl ?_
              refine sw_lload (n := 128) F 1 rfl dJ35_add_126 rfl ?_
              refine sw_l2i (n := 129) F dJ35_add_128 rfl ?_
              refine sw_iastoreW (n := 130) F 1 rfl (fun _ => rfl) (N - 1 - k) (by omega) (by omega) (p % 4294967296) (by first | omega | rfl) [ob (xg x) q 19 [.ref a, .int (jI (↑n)), .int (jI (↑o))], aN (xg x) 0 a N (va_up g (N - 1 - k) (p % 4294967296))] (by rfl) dJ35_add_129 rfl ?_
              refine sw_lload (n := 132) F 1 rfl dJ35_add_130 rfl ?_
              refine sw_bipush (n := 134) F (32) (by decide) dJ35_add_132 rfl ?_
              refine sw_lushr (n := 135) F _ (jL_ushr32 _) dJ35_add_134 rfl ?_
              refine sw_top (topL (show ((↑p) % 18446744073709551616 / 4294967296 : Int) = ↑(p / 4294967296) by omega)) ?_
              refine sw_lstore (n := 137) F (L2 := [(9, .long (jL (↑(p / 4294967296)))), (6, .int (jI (↑N - 1 - ↑k + (-1)))), (7, .long (jL (↑p))), (3, .int (jI (↑y + (-1)))), (2, .int (jI (↑n - ↑k + (-1)))), (0, .ref q), (1, .ref (tR (xg x) sONE)), (4, .int (jI (↑m))), (5, .ref a)]) rfl (by decide) dJ35_add_135 rfl ?_
              refine sw_goto F (n := 67) dJ35_add_137 (by decide) ?_
              refine sw_loc [5, 6, 4, 3, 7, 8, 1, 0] (L2 := [(0, .ref q), (1, .ref (tR (xg x) sONE)), (2, .int (jI (↑n - ↑k + (-1)))), (3, .int (jI (↑y + (-1)))), (4, .int (jI (↑m))), (5, .ref a), (6, .int (jI (↑N - 1 - ↑k + (-1)))), (9, .long (jL (↑(p / 4294967296))))]) rfl ?_
              rw [show (↑n - ↑k + (-1) : Int) = ↑n - ↑(k + 1) by omega]
              rw [show (↑y + (-1) : Int) = ↑(y - 1) by omega]
              rw [show (↑N - 1 - ↑k + (-1) : Int) = ↑N - 1 - ↑(k + 1) by omega]
              exact ih67 (k + 1) (y - 1) (p / 4294967296) (va_up g (N - 1 - k) (p % 4294967296)) (by first | omega | assumption) (by omega) (by omega) (by first | assumption | exact up_lt hgb (by omega) | exact hf) (by have e9 := add_stepM hI hp (by omega); rw [show y - 1 = 0 by omega, Nat.add_zero]; exact e9) (by first | (intro j hj; rfl) | exact hr | (intro j hj; rw [vu_ne (by omega)]; exact hr j (by omega))) (by omega)
      refine sw_lstore (n := 67) F (L2 := [(9, .long (jL 0)), (6, .int (jI ((↑N) - 1))), (5, .ref a), (4, .int (jI (↑m))), (3, .int (jI 1)), (2, .int (jI (↑n))), (0, .ref q), (1, .ref (tR (xg x) sONE))]) rfl (by decide) dJ35_add_65 rfl ?_
      refine SW.cast (L' := [(9, .long (jL 0)), (6, .int (jI ((↑N) - 1))), (5, .ref a), (4, .int (jI (↑m))), (3, .int (jI 1)), (2, .int (jI (↑n - 0))), (0, .ref q), (1, .ref (tR (xg x) sONE))]) ?_ rfl (by rw [show Value.int (jI (↑n)) = Value.int (jI (↑n - 0)) from topI (by omega)]) rfl
      refine SW.cast (L' := [(9, .long (jL 0)), (6, .int (jI (↑N - 1 - 0))), (5, .ref a), (4, .int (jI (↑m))), (3, .int (jI 1)), (2, .int (jI (↑n - 0))), (0, .ref q), (1, .ref (tR (xg x) sONE))]) ?_ rfl (by rw [show Value.int (jI ((↑N) - 1)) = Value.int (jI (↑N - 1 - 0)) from topI (by omega)]) rfl
      refine sw_loc [6, 7, 5, 4, 3, 2, 1, 0] (L2 := [(0, .ref q), (1, .ref (tR (xg x) sONE)), (2, .int (jI (↑n - 0))), (3, .int (jI 1)), (4, .int (jI (↑m))), (5, .ref a), (6, .int (jI (↑N - 1 - 0))), (9, .long (jL 0))]) rfl ?_
      exact K67 _ 0 1 0 f (by first | omega | assumption) (by omega) (by omega) (by first | assumption | exact up_lt hgb (by omega) | exact hf) (by rw [sm_0, sm_0, bw_0]) (by first | (intro j hj; rfl) | exact hr | (intro j hj; rw [vu_ne (by omega)]; exact hr j (by omega))) (Nat.lt_succ_self _)
    · exfalso; omega
  refine sw_icmp_le (n := 21) F (by omega) (by decide) (tgt := 28) dJ35_add_18 (by decide) rfl (fun c_18 => ?_) (fun c_18 => ?_)
  ·
    refine sw_aload_n (n := 29) F 3 (some (tR (xg x) sONE)) rfl rfl rfl dJ35_add_28 rfl ?_
    refine sw_getK (n := 32) F ((kONE F.gx.1).2.1.O F) (k := 1) ⟨(RJ35, TJ35, 3), rfl, by decide, q1837, in_J35, Or.inl rfl⟩ rfl dJ35_add_29 rfl ?_
    exact K32 1 (by omega)
  ·
    refine sw_aload_n (n := 22) F 2 (some q) rfl rfl rfl dJ35_add_21 rfl ?_
    refine sw_get (n := 25) F 0 rfl (k := 1) ⟨(RJ35, TJ35, 3), rfl, by decide, q1837, in_J35, Or.inl rfl⟩ rfl dJ35_add_22 rfl ?_
    refine sw_goto F (n := 32) dJ35_add_25 (by decide) ?_
    exact K32 n (by omega)
theorem wOK_nf {n : Nat} {f : Nat → Nat} {v : Int} (h : wOK n f) (hv : wv f n = v.natAbs) (hf : ¬ fit v) : 2 ≤ n := by
  rcases Nat.lt_or_ge n 2 with c | c
  · exfalso; apply hf
    have h1 := wv_lt h.1
    have h2 := bw_mono (show n ≤ 1 by omega)
    rw [bw_1] at h2
    unfold fit; omega
  · exact c
theorem nf_0 {v : Int} (hf : ¬ fit v) : v ≠ 0 := fun e => hf (by subst e; exact ⟨by decide, by decide⟩)
theorem rq_0 {x d m sg : Int} {Q : Nat} (hQ : Q = x.natAbs / d.natAbs) (h : x.natAbs % d.natAbs = 0) (hs : (sg = 1 ∧ xrI x d = 0) ∨ (sg = -1 ∧ xrI x d = 1)) : sg * (Q : Int) = rdV x d m ∧ rdF x d m = false := by
  subst hQ
  unfold rdV rdF
  rw [rnd_0 h]
  refine ⟨?_, by simp [rfd, h]⟩
  rcases hs with ⟨e, e2⟩ | ⟨e, e2⟩ <;> rw [e, e2]
  · rw [sgn_z]; omega
  · rw [sgn_o]; omega
theorem rq_7 {x d : Int} (h : x.natAbs % d.natAbs ≠ 0) : rdF x d 7 = true := by
  unfold rdF rfd
  simp [mcO, h]
theorem rq_c {x d m sg : Int} {Q r : Nat} (hQ : Q = x.natAbs / d.natAbs) (hr : r = x.natAbs % d.natAbs) (hm : 0 ≤ m ∧ m ≤ 7) (h7 : m ≠ 7) (h : r ≠ 0) (hs : (sg = 1 ∧ xrI x d = 0) ∨ (sg = -1 ∧ xrI x d = 1)) : (cnI m sg (cmpI (2 * r) d.natAbs) ((Q % 2 : Nat) : Int) = 1 → sg * ((Q + 1 : Nat) : Int) = rdV x d m) ∧ (cnI m sg (cmpI (2 * r) d.natAbs) ((Q % 2 : Nat) : Int) = 0 → sg * (Q : Int) = rdV x d m) := by
  subst hQ; subst hr
  rw [cnI_upI (ng := xrI x d) (by omega) hs _ rfl]
  unfold rdV
  refine ⟨fun q => ?_, fun q => ?_⟩
  · rw [rnd_1 h q]
    rcases hs with ⟨e, e2⟩ | ⟨e, e2⟩ <;> rw [e, e2]
    · rw [sgn_z]; omega
    · rw [sgn_o]; omega
  · rw [rnd_2 q]
    rcases hs with ⟨e, e2⟩ | ⟨e, e2⟩ <;> rw [e, e2]
    · rw [sgn_z]; omega
    · rw [sgn_o]; omega
theorem nd_J8_needIncrement_2 : yJ8_needIncrement_2.cls ≠ "java/lang/invoke/MethodHandle" ∧ yJ8_needIncrement_2.cls ≠ "java/lang/invoke/VarHandle" ∧ (parseMethodDescriptor yJ8_needIncrement_2.desc).map (fun d => d.parameters.length) = some 5 := by decide +kernel
set_option maxRecDepth 100000 in
set_option maxHeartbeats 16000000 in
theorem ct_J8_needIncrement_2 {g : GG} {l : Launch} (d : Int) (m : Int) (sg : Int) (q : Nat) (a : Nat) (N : Nat) (f : Nat → Nat) (n : Nat) (o : Nat) (r : Nat) (hd : -9223372036854775807 ≤ d ∧ d ≤ 9223372036854775807) (hm : 0 ≤ m ∧ m ≤ 7) (hsg : sg = 1 ∨ sg = -1) (hN : o + n ≤ N ∧ N ≤ 64) (hf : ∀ k, k < N → f k < 4294967296) (hr : 0 < r ∧ r < d.natAbs) : Ct g l yJ8_needIncrement_2 (ws_ yJ8_needIncrement_2 cJ8_needIncrement_2 8 (Option.some Jvm.ClassFile.FieldType.boolean)) 7 105 1 6 [.long (jL d), .int (jI m), .int (jI sg), .ref q, .long (jL (↑r))] [ob g q 19 [.ref a, .int (jI (↑n)), .int (jI (↑o))], aN g 0 a N f] (fun v9 Ws9 => v9 = some (.int (jI (cnI m sg (cmpI (2 * r) d.natAbs) ↑(mw f o n % 2)))) ∧ (m ≠ 7) ∧ Ws9 = [ob g q 19 [.ref a, .int (jI (↑n)), .int (jI (↑o))], aN g 0 a N f]) (fun E9 Ws9 => (E9 = "java/lang/ArithmeticException" ∧ (m = 7) ∧ Ws9 = [ob g q 19 [.ref a, .int (jI (↑n)), .int (jI (↑o))], aN g 0 a N f])) := by
  refine Ct.of (cc := cJ8_needIncrement_2) (nL := 8) (ret := (Option.some Jvm.ClassFile.FieldType.boolean)) (by decide) rfl (Nat.le_of_ble_eq_true rfl) ?_
  intro x hg hl hPo hPx hmc hms F
  subst hg; subst hl
  refine SW.cast (L' := [(0, .long (jL d)), (2, .int (jI m)), (3, .int (jI sg)), (4, .ref q), (5, .long (jL (↑r)))]) ?_ rfl rfl rfl
  refine sw_gets (n := 3) F (kaBD F.gx.1).1 q1527 (Or.inl rfl) dJ8_needIncrement_2_0 rfl ?_
  refine sw_if_ne (n := 6) F (by decide) (tgt := 21) dJ8_needIncrement_2_3 (by decide) rfl (fun c_3 => ?_) (fun c_3 => ?_)
  ·
    have K57 : ∀ (cf : Int), (cf = cmpI (2 * r) d.natAbs) → SW x [ob (xg x) q 19 [.ref a, .int (jI (↑n)), .int (jI (↑o))], aN (xg x) 0 a N f] 1 6 57 [(2, .int (jI m)), (3, .int (jI sg)), (4, .ref q), (7, .int (jI cf))] [] := by
      intro cf hcf
      have hcr := cmpI_cases (2 * r) d.natAbs
      refine sw_iload_n (n := 58) F 0 rfl rfl dJ8_needIncrement_2_57 rfl ?_
      refine sw_iload_n (n := 59) F 1 rfl rfl dJ8_needIncrement_2_58 rfl ?_
      refine sw_iload (n := 61) F 3 rfl dJ8_needIncrement_2_59 rfl ?_
      refine sw_aload (n := 63) F 2 (some q) rfl rfl dJ8_needIncrement_2_61 rfl ?_
      refine sw_callV (n := 66) F (ct_J35_isOdd (g := xg x) (l := xl x) q a N f n o hN hf) (rcv_ob F 0 rfl rfl) q1926 q1927 q1928 q144 q1929 nd_J35_isOdd rfl (by decide) [0, 1] rfl [] rfl 1 6 ⟨by omega, by omega⟩ [.int (jI cf), .int (jI sg), .int (jI m)] rfl (Nat.le_of_ble_eq_true rfl) dJ8_needIncrement_2_63 rfl (fun _ _ h => h.elim) (fun v Ws h => ?_)
      obtain ⟨rfl, rfl⟩ := h
      show SW x [ob (xg x) q 19 [.ref a, .int (jI (↑n)), .int (jI (↑o))], aN (xg x) 0 a N f] _ _ _ _ [.int (jI (↑(mw f o n % 2))), .int (jI cf), .int (jI sg), .int (jI m)]
      refine sw_callS (n := 69) F (ct_J8_commonNeedIncrement (g := xg x) (l := xl x) m sg cf (↑(mw f o n % 2)) hm hsg (by first | (rw [cmpI_gt (by omega)]) | (congr 1; omega)) (by first | omega | assumption)) q1781 q1782 q112 q1783 nd_J8_commonNeedIncrement rfl (by decide) [0, 1] rfl [ob (xg x) q 19 [.ref a, .int (jI (↑n)), .int (jI (↑o))], aN (xg x) 0 a N f] rfl 0 0 ⟨by omega, by omega⟩ [] rfl (Nat.le_of_ble_eq_true rfl) dJ8_needIncrement_2_66 rfl (fun E Ws h => ?_) (fun v Ws h => ?_)
      ·
        obtain ⟨rfl, h7_2, rfl⟩ := h
        show SX x [ob (xg x) q 19 [.ref a, .int (jI (↑n)), .int (jI (↑o))], aN (xg x) 0 a N f] _ _ _ _ _
        exact sx_out F (by rw [hPx]; exact ⟨rfl, h7_2, rfl⟩)
      ·
        obtain ⟨rfl, h7_1, rfl⟩ := h
        show SW x [ob (xg x) q 19 [.ref a, .int (jI (↑n)), .int (jI (↑o))], aN (xg x) 0 a N f] _ _ _ _ [.int (jI (cnI m sg cf (↑(mw f o n % 2))))]
        exact sw_iret F _ rfl (by exact jI_nz (cnI_01 (by omega))) dJ8_needIncrement_2_69 (by rw [hPo]; exact ⟨(by rw [hcf]), h7_1, rfl⟩)
    refine sw_lload (n := 23) F 4 rfl dJ8_needIncrement_2_21 rfl ?_
    refine sw_ldc2 (n := 26) F (-4611686018427387904) q1778 (by decide) dJ8_needIncrement_2_23 rfl ?_
    refine sw_lcmp (n := 27) F (by omega) (by decide) dJ8_needIncrement_2_26 rfl ?_
    refine sw_if_le (n := 30) F (lc_rng _ _) (tgt := 39) dJ8_needIncrement_2_27 (by decide) rfl (fun c_27 => ?_) (fun c_27 => ?_)
    · exfalso; omega
    ·
      have c_27 := lc_gt c_27
      refine sw_lload (n := 32) F 4 rfl dJ8_needIncrement_2_30 rfl ?_
      refine sw_ldc2 (n := 35) F (4611686018427387903) q1779 (by decide) dJ8_needIncrement_2_32 rfl ?_
      refine sw_lcmp (n := 36) F (by omega) (by decide) dJ8_needIncrement_2_35 rfl ?_
      refine sw_if_le (n := 39) F (by exact lc_rng _ _) (tgt := 45) dJ8_needIncrement_2_36 (by decide) rfl (fun c_36 => ?_) (fun c_36 => ?_)
      ·
        have c_36 := lc_le c_36
        refine sw_ldc2 (n := 48) F (2) q1780 (by decide) dJ8_needIncrement_2_45 rfl ?_
        refine sw_lload (n := 50) F 4 rfl dJ8_needIncrement_2_48 rfl ?_
        refine sw_lmul (n := 51) F dJ8_needIncrement_2_50 rfl ?_
        obtain ⟨rz, hrz⟩ : ∃ z : Int, z = 2 * ↑r := ⟨_, rfl⟩
        refine sw_top (topL (show (2 * (↑r) : Int) = rz by exact hrz.symm)) ?_
        refine sw_lload_n (n := 52) F 0 rfl rfl dJ8_needIncrement_2_51 rfl ?_
        refine sw_callS (n := 55) F (ct_J8_longCompareMagnitude (g := xg x) (l := xl x) rz d (by first | omega | assumption) hd) q1549 q1550 q112 q1551 nd_J8_longCompareMagnitude rfl (by decide) [0, 1] rfl [ob (xg x) q 19 [.ref a, .int (jI (↑n)), .int (jI (↑o))], aN (xg x) 0 a N f] rfl 1 6 ⟨by omega, by omega⟩ [] rfl (Nat.le_of_ble_eq_true rfl) dJ8_needIncrement_2_52 rfl (fun _ _ h => h.elim) (fun v Ws h => ?_)
        obtain ⟨rfl, rfl⟩ := h
        show SW x [ob (xg x) q 19 [.ref a, .int (jI (↑n)), .int (jI (↑o))], aN (xg x) 0 a N f] _ _ _ _ [.int (jI (cmpI rz.natAbs d.natAbs))]
        refine sw_istore (n := 57) F (L2 := [(7, .int (jI (cmpI rz.natAbs d.natAbs))), (0, .long (jL d)), (2, .int (jI m)), (3, .int (jI sg)), (4, .ref q), (5, .long (jL (↑r)))]) rfl (by decide) dJ8_needIncrement_2_55 rfl ?_
        refine sw_loc [2, 3, 4, 0] (L2 := [(2, .int (jI m)), (3, .int (jI sg)), (4, .ref q), (7, .int (jI (cmpI rz.natAbs d.natAbs)))]) rfl ?_
        exact K57 (cmpI rz.natAbs d.natAbs) (by first | (rw [cmpI_gt (by omega)]) | (congr 1; omega))
      ·
        have c_36 := lc_gt c_36
        refine sw_iconst (n := 40) F (1) (by decide) dJ8_needIncrement_2_39 rfl ?_
        refine sw_istore (n := 42) F (L2 := [(7, .int (jI 1)), (0, .long (jL d)), (2, .int (jI m)), (3, .int (jI sg)), (4, .ref q), (5, .long (jL (↑r)))]) rfl (by decide) dJ8_needIncrement_2_40 rfl ?_
        refine sw_goto F (n := 57) dJ8_needIncrement_2_42 (by decide) ?_
        refine sw_loc [2, 3, 4, 0] (L2 := [(2, .int (jI m)), (3, .int (jI sg)), (4, .ref q), (7, .int (jI 1))]) rfl ?_
        exact K57 1 (by first | (rw [cmpI_gt (by omega)]) | (congr 1; omega))
  · exfalso; exact absurd c_3 (by decide)
theorem nd_J8_divideAndRound_6 : yJ8_divideAndRound_6.cls ≠ "java/lang/invoke/MethodHandle" ∧ yJ8_divideAndRound_6.cls ≠ "java/lang/invoke/VarHandle" ∧ (parseMethodDescriptor yJ8_divideAndRound_6.desc).map (fun d => d.parameters.length) = some 5 := by decide +kernel
set_option maxRecDepth 100000 in
set_option maxHeartbeats 16000000 in
theorem ct_J8_divideAndRound_6 {g : GG} {l : Launch} (M : Nat → Option PV) (q : Nat) (v : Int) (a : Nat) (d : Int) (s : Int) (m : Int) (hx : at_ g M q (vI v a)) (hnf : ¬ fit v) (hb : v.natAbs < bw 6) (hd : -9223372036854775807 ≤ d ∧ d ≤ 9223372036854775807) (hd0 : d ≠ 0) (hm : 0 ≤ m ∧ m ≤ 7) (hs : -2147483648 ≤ s ∧ s ≤ 2147483647) : Ct g l yJ8_divideAndRound_6 (ws_ yJ8_divideAndRound_6 cJ8_divideAndRound_6 15 (Option.some (Jvm.ClassFile.FieldType.object "java/math/BigDecimal"))) 8 149 12 66 [.ref q, .long (jL d), .int (jI s), .int (jI m), .int (jI s)] [pl g M] (fun v9 Ws9 => ∃ M1 : Nat → Option PV, ∃ r1 : Nat, ∃ o1 : Option Nat, v9 = some (.ref r1) ∧ (le_ M M1) ∧ (at_ g M1 r1 (vD (rdV v d m) s o1)) ∧ (rdF v d m = false) ∧ Ws9 = [pl g M1]) (fun E9 Ws9 => (E9 = "java/lang/ArithmeticException" ∧ (rdF v d m = true) ∧ Ws9 = [pl g M])) := by
  refine Ct.of (cc := cJ8_divideAndRound_6) (nL := 15) (ret := (Option.some (Jvm.ClassFile.FieldType.object "java/math/BigDecimal"))) (by decide) rfl (Nat.le_of_ble_eq_true rfl) ?_
  intro x hg hl hPo hPx hmc hms F
  subst hg; subst hl
  refine SW.cast (L' := [(0, .ref q), (1, .long (jL d)), (3, .int (jI s)), (4, .int (jI m)), (5, .int (jI s))]) ?_ rfl rfl rfl
  refine sw_factI 0 rfl hx (fun n9 f9 ha9 hw9 hv9 => ?_)
  have hn9 : n9 ≤ 6 := wOK_len hw9 (by rw [hv9]; exact hb)
  have hn2 := wOK_nf hw9 hv9 hnf
  have hv0 := nf_0 hnf
  have hxr := xr_s (x := v) (d := d)
  have hs9 := sgI_cases v
  refine sw_new (n := 3) F (ci := 19) (N := 3) RJ35 TJ35 tyJ35 rfl q1830 q1831 q144 in_J35 tyJ35_ok (fs := [.null, .int (jI 0), .int (jI 0)]) rfl 11 63 ⟨by omega, by omega⟩ dJ8_divideAndRound_6_0 rfl (fun q_1 => ?_)
  refine sw_dup (n := 4) F rfl dJ8_divideAndRound_6_3 rfl ?_
  refine sw_aload_n (n := 5) F 0 (some q) rfl rfl rfl dJ8_divideAndRound_6_4 rfl ?_
  refine sw_getI (n := 8) F 1 rfl hx (k := 1) ⟨(RJ19, TJ19, 6), rfl, by decide, q1074, in_J19, Or.inl rfl⟩ (.ref a) (fun _ _ _ _ => rfl) dJ8_divideAndRound_6_5 rfl ?_
  refine sw_callI (n := 11) F (ct_J35_init (g := xg x) (l := xl x) M q_1 a n9 f9 ha9) q1832 q1833 q144 q1834 rfl nd_J35_init rfl (by decide) [0, 1] rfl [] rfl 11 63 ⟨by omega, by omega⟩ [.ref q_1] rfl (Nat.le_of_ble_eq_true rfl) dJ8_divideAndRound_6_8 rfl (fun _ _ h => h.elim) (fun v Ws h => ?_)
  obtain ⟨rfl, rfl⟩ := h
  show SW x [ob (xg x) q_1 19 [.ref a, .int (jI (↑n9)), .int (jI 0)], pl (xg x) M] _ _ _ _ [.ref q_1]
  refine sw_astore (n := 13) F (some q_1) (L2 := [(6, .ref q_1), (0, .ref q), (1, .long (jL d)), (3, .int (jI s)), (4, .int (jI m)), (5, .int (jI s))]) rfl rfl (by decide) dJ8_divideAndRound_6_11 rfl ?_
  refine sw_new (n := 16) F (ci := 19) (N := 3) RJ35 TJ35 tyJ35 rfl q1830 q1831 q144 in_J35 tyJ35_ok (fs := [.null, .int (jI 0), .int (jI 0)]) rfl 10 60 ⟨by omega, by omega⟩ dJ8_divideAndRound_6_13 rfl (fun q_2 => ?_)
  refine sw_dup (n := 17) F rfl dJ8_divideAndRound_6_16 rfl ?_
  refine sw_callI (n := 20) F (ct_J35_init_2 (g := xg x) (l := xl x) q_2 ) q1847 q1848 q144 q1849 rfl nd_J35_init_2 rfl (by decide) [0, 1, 2] rfl [ob (xg x) q_1 19 [.ref a, .int (jI (↑n9)), .int (jI 0)], pl (xg x) M] rfl 9 59 ⟨by omega, by omega⟩ [.ref q_2] rfl (Nat.le_of_ble_eq_true rfl) dJ8_divideAndRound_6_17 rfl (fun _ _ h => h.elim) (fun v Ws h => ?_)
  obtain ⟨a1_3, rfl, rfl⟩ := h
  show SW x [ob (xg x) q_2 19 [.ref a1_3, .int (jI 0), .int (jI 0)], aN (xg x) 0 a1_3 1 (fun _ => 0), ob (xg x) q_1 19 [.ref a, .int (jI (↑n9)), .int (jI 0)], pl (xg x) M] _ _ _ _ [.ref q_2]
  refine sw_astore (n := 22) F (some q_2) (L2 := [(7, .ref q_2), (6, .ref q_1), (0, .ref q), (1, .long (jL d)), (3, .int (jI s)), (4, .int (jI m)), (5, .int (jI s))]) rfl rfl (by decide) dJ8_divideAndRound_6_20 rfl ?_
  refine sw_aload (n := 24) F 1 (some q_1) rfl rfl dJ8_divideAndRound_6_22 rfl ?_
  refine sw_lload_n (n := 25) F 3 rfl rfl dJ8_divideAndRound_6_24 rfl ?_
  refine sw_aload (n := 27) F 0 (some q_2) rfl rfl dJ8_divideAndRound_6_25 rfl ?_
  refine sw_callV (n := 30) F (ct_J35_divide (g := xg x) (l := xl x) M q_1 a n9 f9 q_2 a1_3 (fun _ => 0) d ha9 hw9 (by first | omega | assumption) hd hd0) (rcv_ob F 2 rfl rfl) q1850 q1851 q1852 q144 q1853 nd_J35_divide rfl (by decide) [2, 3, 0, 1] (perm_ok _ 4 (by decide +kernel) rfl) [] rfl 5 33 ⟨by omega, by omega⟩ [] rfl (Nat.le_of_ble_eq_true rfl) dJ8_divideAndRound_6_27 rfl (fun _ _ h => h.elim) (fun v Ws h => ?_)
  obtain ⟨a1_4, N1_5, f1_6, n1_7, o1_8, rfl, hN1_9, hf1_10, hw1_11, hv1_12, rfl⟩ := h
  show SW x [ob (xg x) q_1 19 [.ref a, .int (jI (↑n9)), .int (jI 0)], pl (xg x) M, ob (xg x) q_2 19 [.ref a1_4, .int (jI (↑n1_7)), .int (jI (↑o1_8))], aN (xg x) 0 a1_4 N1_5 f1_6] _ _ _ _ [.long (jL (↑(wv f9 n9 % d.natAbs)))]
  obtain ⟨r, hr⟩ : ∃ z : Nat, z = wv f9 n9 % d.natAbs := ⟨_, rfl⟩
  refine sw_top (topL (show (↑(wv f9 n9 % d.natAbs) : Int) = ↑r by rw [hr])) ?_
  have hrl := Nat.mod_lt (wv f9 n9) (show 0 < d.natAbs by omega)
  rw [← hr] at hrl
  have hQ9 : mw f1_6 o1_8 n1_7 = v.natAbs / d.natAbs := by rw [hv1_12, hv9]
  have hr9 : r = v.natAbs % d.natAbs := by rw [hr, hv9]
  refine sw_lstore (n := 32) F (L2 := [(8, .long (jL (↑r))), (7, .ref q_2), (6, .ref q_1), (0, .ref q), (1, .long (jL d)), (3, .int (jI s)), (4, .int (jI m)), (5, .int (jI s))]) rfl (by decide) dJ8_divideAndRound_6_30 rfl ?_
  refine sw_lload (n := 34) F 0 rfl dJ8_divideAndRound_6_32 rfl ?_
  refine sw_lconst (n := 35) F 0 (by decide) dJ8_divideAndRound_6_34 rfl ?_
  refine sw_lcmp (n := 36) F (by omega) (by decide) dJ8_divideAndRound_6_35 rfl ?_
  have K44 : ∀ (iz : Int), ((iz = 1 ∧ r = 0) ∨ (iz = 0 ∧ r ≠ 0)) → SW x [ob (xg x) q_1 19 [.ref a, .int (jI (↑n9)), .int (jI 0)], pl (xg x) M, ob (xg x) q_2 19 [.ref a1_4, .int (jI (↑n1_7)), .int (jI (↑o1_8))], aN (xg x) 0 a1_4 N1_5 f1_6] 5 33 44 [(8, .long (jL (↑r))), (7, .ref q_2), (6, .ref q_1), (0, .ref q), (1, .long (jL d)), (3, .int (jI s)), (4, .int (jI m)), (5, .int (jI s))] [.int (jI iz)] := by
    intro iz hiz
    refine sw_istore (n := 46) F (L2 := [(10, .int (jI iz)), (8, .long (jL (↑r))), (7, .ref q_2), (6, .ref q_1), (0, .ref q), (1, .long (jL d)), (3, .int (jI s)), (4, .int (jI m)), (5, .int (jI s))]) rfl (by decide) dJ8_divideAndRound_6_44 rfl ?_
    refine sw_lload_n (n := 47) F 5 rfl rfl dJ8_divideAndRound_6_46 rfl ?_
    refine sw_lconst (n := 48) F 0 (by decide) dJ8_divideAndRound_6_47 rfl ?_
    refine sw_lcmp (n := 49) F (by omega) (by decide) dJ8_divideAndRound_6_48 rfl ?_
    have K64 : ∀ (sg : Int), ((sg = 1 ∧ xrI v d = 0) ∨ (sg = -1 ∧ xrI v d = 1)) → SW x [ob (xg x) q_1 19 [.ref a, .int (jI (↑n9)), .int (jI 0)], pl (xg x) M, ob (xg x) q_2 19 [.ref a1_4, .int (jI (↑n1_7)), .int (jI (↑o1_8))], aN (xg x) 0 a1_4 N1_5 f1_6] 5 33 64 [(10, .int (jI iz)), (8, .long (jL (↑r))), (7, .ref q_2), (6, .ref q_1), (0, .ref q), (1, .long (jL d)), (3, .int (jI s)), (4, .int (jI m)), (5, .int (jI s))] [.int (jI sg)] := by
      intro sg hsg
      refine sw_istore (n := 66) F (L2 := [(11, .int (jI sg)), (10, .int (jI iz)), (8, .long (jL (↑r))), (7, .ref q_2), (6, .ref q_1), (0, .ref q), (1, .long (jL d)), (3, .int (jI s)), (4, .int (jI m)), (5, .int (jI s))]) rfl (by decide) dJ8_divideAndRound_6_64 rfl ?_
      refine sw_iload (n := 68) F 1 rfl dJ8_divideAndRound_6_66 rfl ?_
      refine sw_if_ne (n := 71) F (by omega) (tgt := 103) dJ8_divideAndRound_6_68 (by decide) rfl (fun c_68 => ?_) (fun c_68 => ?_)
      ·
        refine sw_iload (n := 105) F 9 rfl dJ8_divideAndRound_6_103 rfl ?_
        refine sw_iload_n (n := 106) F 7 rfl rfl dJ8_divideAndRound_6_105 rfl ?_
        refine sw_icmp_eq (n := 109) F (by omega) (by omega) (tgt := 156) dJ8_divideAndRound_6_106 (by decide) rfl (fun c_106 => ?_) (fun c_106 => ?_)
        ·
          have hfin : sg * ↑(mw f1_6 o1_8 n1_7) = rdV v d m := (rq_0 hQ9 (by omega) hsg).1
          have hsg2 : sg = 1 ∨ sg = -1 := by omega
          refine sw_aload (n := 158) F 3 (some q_2) rfl rfl dJ8_divideAndRound_6_156 rfl ?_
          refine sw_iload (n := 160) F 0 rfl dJ8_divideAndRound_6_158 rfl ?_
          refine sw_iload_n (n := 161) F 7 rfl rfl dJ8_divideAndRound_6_160 rfl ?_
          refine sw_callV (n := 164) F (ct_J35_toBigDecimal (g := xg x) (l := xl x) M q_2 a1_4 N1_5 f1_6 n1_7 o1_8 sg s (by first | omega | assumption) hf1_10 (by first | omega | assumption) hw1_11 (by exact hsg2) hs) (rcv_ob F 2 rfl rfl) q2668 q2669 q2670 q144 q2671 nd_J35_toBigDecimal rfl (by decide) [2, 3, 1, 0] (perm_ok _ 4 (by decide +kernel) rfl) [ob (xg x) q_1 19 [.ref a, .int (jI (↑n9)), .int (jI 0)]] rfl 2 14 ⟨by omega, by omega⟩ [] rfl (Nat.le_of_ble_eq_true rfl) dJ8_divideAndRound_6_161 rfl (fun _ _ h => h.elim) (fun v Ws h => ?_)
          obtain ⟨M1_13, r1_14, o1_15, rfl, hle_16, hat_17, rfl⟩ := h
          show SW x [pl (xg x) M1_13, ob (xg x) q_1 19 [.ref a, .int (jI (↑n9)), .int (jI 0)]] _ _ _ _ [.ref r1_14]
          refine sw_drop [0, 1] 1 rfl [pl (xg x) M1_13] rfl ?_
          exact sw_aret F (some r1_14) _ rfl rfl (by first | exact Or.inl ⟨_, rfl⟩ | exact Or.inr ⟨_, rfl⟩) dJ8_divideAndRound_6_164 (by rw [hPo]; exact ⟨M1_13, r1_14, o1_15, rfl, hle_16, (by rw [← hfin]; assumption), (by exact (rq_0 hQ9 (by omega) hsg).2), rfl⟩)
        · exfalso; omega
      ·
        refine sw_lload_n (n := 72) F 6 rfl rfl dJ8_divideAndRound_6_71 rfl ?_
        refine sw_iload (n := 74) F 8 rfl dJ8_divideAndRound_6_72 rfl ?_
        refine sw_iload (n := 76) F 0 rfl dJ8_divideAndRound_6_74 rfl ?_
        refine sw_aload (n := 78) F 3 (some q_2) rfl rfl dJ8_divideAndRound_6_76 rfl ?_
        refine sw_lload (n := 80) F 2 rfl dJ8_divideAndRound_6_78 rfl ?_
        refine sw_callS (n := 83) F (ct_J8_needIncrement_2 (g := xg x) (l := xl x) d m sg q_2 a1_4 N1_5 f1_6 n1_7 o1_8 r hd hm (by omega) (by first | omega | assumption) hf1_10 (by first | omega | assumption)) q1923 q1924 q112 q1925 nd_J8_needIncrement_2 rfl (by decide) [2, 3, 0, 1] (perm_ok _ 4 (by decide +kernel) rfl) [ob (xg x) q_1 19 [.ref a, .int (jI (↑n9)), .int (jI 0)], pl (xg x) M] rfl 4 27 ⟨by omega, by omega⟩ [] rfl (Nat.le_of_ble_eq_true rfl) dJ8_divideAndRound_6_80 rfl (fun E Ws h => ?_) (fun v Ws h => ?_)
        ·
          obtain ⟨rfl, h7_19, rfl⟩ := h
          refine sx_drop [3, 0, 1, 2] 1 (perm_ok _ 4 (by decide +kernel) rfl) [pl (xg x) M] rfl ?_
          show SX x [pl (xg x) M] _ _ _ _ _
          exact sx_out F (by rw [hPx]; exact ⟨rfl, (by rw [show m = 7 by assumption]; exact rq_7 (by omega)), rfl⟩)
        ·
          obtain ⟨rfl, h7_18, rfl⟩ := h
          show SW x [ob (xg x) q_2 19 [.ref a1_4, .int (jI (↑n1_7)), .int (jI (↑o1_8))], aN (xg x) 0 a1_4 N1_5 f1_6, ob (xg x) q_1 19 [.ref a, .int (jI (↑n9)), .int (jI 0)], pl (xg x) M] _ _ _ _ [.int (jI (cnI m sg (cmpI (2 * r) d.natAbs) ↑(mw f1_6 o1_8 n1_7 % 2)))]
          have hcn9 := cnI_01 (m := m) (sg := sg) (cf := cmpI (2 * r) d.natAbs) (od := ↑(mw f1_6 o1_8 n1_7 % 2)) (by omega)
          have hrq := rq_c (Q := mw f1_6 o1_8 n1_7) hQ9 hr9 hm (by assumption) (by omega) hsg
          refine sw_if_eq (n := 86) F (by omega) (tgt := 94) dJ8_divideAndRound_6_83 (by decide) rfl (fun c_83 => ?_) (fun c_83 => ?_)
          ·
            have hfin : sg * ↑(mw f1_6 o1_8 n1_7) = rdV v d m := hrq.2 (by omega)
            have hsg2 : sg = 1 ∨ sg = -1 := by omega
            refine sw_aload (n := 96) F 3 (some q_2) rfl rfl dJ8_divideAndRound_6_94 rfl ?_
            refine sw_iload (n := 98) F 0 rfl dJ8_divideAndRound_6_96 rfl ?_
            refine sw_iload_n (n := 99) F 7 rfl rfl dJ8_divideAndRound_6_98 rfl ?_
            refine sw_callV (n := 102) F (ct_J35_toBigDecimal (g := xg x) (l := xl x) M q_2 a1_4 N1_5 f1_6 n1_7 o1_8 sg s (by first | omega | assumption) hf1_10 (by first | omega | assumption) hw1_11 (by exact hsg2) hs) (rcv_ob F 0 rfl rfl) q2668 q2669 q2670 q144 q2671 nd_J35_toBigDecimal rfl (by decide) [0, 1, 3, 2] (perm_ok _ 4 (by decide +kernel) rfl) [ob (xg x) q_1 19 [.ref a, .int (jI (↑n9)), .int (jI 0)]] rfl 1 8 ⟨by omega, by omega⟩ [] rfl (Nat.le_of_ble_eq_true rfl) dJ8_divideAndRound_6_99 rfl (fun _ _ h => h.elim) (fun v Ws h => ?_)
            obtain ⟨M1_20, r1_21, o1_22, rfl, hle_23, hat_24, rfl⟩ := h
            show SW x [pl (xg x) M1_20, ob (xg x) q_1 19 [.ref a, .int (jI (↑n9)), .int (jI 0)]] _ _ _ _ [.ref r1_21]
            refine sw_drop [0, 1] 1 rfl [pl (xg x) M1_20] rfl ?_
            exact sw_aret F (some r1_21) _ rfl rfl (by first | exact Or.inl ⟨_, rfl⟩ | exact Or.inr ⟨_, rfl⟩) dJ8_divideAndRound_6_102 (by rw [hPo]; exact ⟨M1_20, r1_21, o1_22, rfl, hle_23, (by rw [← hfin]; assumption), (by exact rd_n hm (by assumption)), rfl⟩)
          ·
            refine sw_aload (n := 88) F 3 (some q_2) rfl rfl dJ8_divideAndRound_6_86 rfl ?_
            refine sw_gets (n := 91) F (kONE F.gx.1).1 q1934 (Or.inl rfl) dJ8_divideAndRound_6_88 rfl ?_
            refine sw_callV (n := 94) F (ct_J35_add (g := xg x) (l := xl x) q_2 a1_4 N1_5 f1_6 n1_7 o1_8 (tR (xg x) sONE) (by rfl) (by first | omega | assumption) hf1_10 hw1_11) (rcv_ob F 0 rfl rfl) q1936 q1937 q1938 q144 q1939 nd_J35_add rfl (by decide) [0, 1, 2, 3] (perm_ok _ 4 (by decide +kernel) rfl) [ob (xg x) q_1 19 [.ref a, .int (jI (↑n9)), .int (jI 0)], pl (xg x) M] rfl 3 19 ⟨by omega, by omega⟩ [] rfl (Nat.le_of_ble_eq_true rfl) dJ8_divideAndRound_6_91 rfl (fun _ _ h => h.elim) (fun v Ws h => ?_)
            obtain ⟨a1_25, N1_26, f1_27, n1_28, o1_29, rfl, hN1_30, hf1_31, hw1_32, hv1_33, rfl⟩ := h
            show SW x [ob (xg x) q_2 19 [.ref a1_25, .int (jI (↑n1_28)), .int (jI (↑o1_29))], aN (xg x) 0 a1_25 N1_26 f1_27, ob (xg x) q_1 19 [.ref a, .int (jI (↑n9)), .int (jI 0)], pl (xg x) M] _ _ _ _ []
            have hfin : sg * ↑(mw f1_27 o1_29 n1_28) = rdV v d m := by rw [hv1_33]; exact hrq.1 (by omega)
            have hsg2 : sg = 1 ∨ sg = -1 := by omega
            refine sw_aload (n := 96) F 3 (some q_2) rfl rfl dJ8_divideAndRound_6_94 rfl ?_
            refine sw_iload (n := 98) F 0 rfl dJ8_divideAndRound_6_96 rfl ?_
            refine sw_iload_n (n := 99) F 7 rfl rfl dJ8_divideAndRound_6_98 rfl ?_
            refine sw_callV (n := 102) F (ct_J35_toBigDecimal (g := xg x) (l := xl x) M q_2 a1_25 N1_26 f1_27 n1_28 o1_29 sg s (by first | omega | assumption) hf1_31 (by first | omega | assumption) hw1_32 (by exact hsg2) hs) (rcv_ob F 0 rfl rfl) q2668 q2669 q2670 q144 q2671 nd_J35_toBigDecimal rfl (by decide) [0, 1, 3, 2] (perm_ok _ 4 (by decide +kernel) rfl) [ob (xg x) q_1 19 [.ref a, .int (jI (↑n9)), .int (jI 0)]] rfl 0 0 ⟨by omega, by omega⟩ [] rfl (Nat.le_of_ble_eq_true rfl) dJ8_divideAndRound_6_99 rfl (fun _ _ h => h.elim) (fun v Ws h => ?_)
            obtain ⟨M1_34, r1_35, o1_36, rfl, hle_37, hat_38, rfl⟩ := h
            show SW x [pl (xg x) M1_34, ob (xg x) q_1 19 [.ref a, .int (jI (↑n9)), .int (jI 0)]] _ _ _ _ [.ref r1_35]
            refine sw_drop [0, 1] 1 rfl [pl (xg x) M1_34] rfl ?_
            exact sw_aret F (some r1_35) _ rfl rfl (by first | exact Or.inl ⟨_, rfl⟩ | exact Or.inr ⟨_, rfl⟩) dJ8_divideAndRound_6_102 (by rw [hPo]; exact ⟨M1_34, r1_35, o1_36, rfl, hle_37, (by rw [← hfin]; assumption), (by exact rd_n hm (by assumption)), rfl⟩)
    refine sw_if_ge (n := 52) F (lc_rng _ _) (tgt := 60) dJ8_divideAndRound_6_49 (by decide) rfl (fun c_49 => ?_) (fun c_49 => ?_)
    ·
      have c_49 := lc_ge c_49
      refine sw_aload_n (n := 61) F 4 (some q) rfl rfl rfl dJ8_divideAndRound_6_60 rfl ?_
      refine sw_getI (n := 64) F 1 rfl hx (k := 0) ⟨(RJ19, TJ19, 6), rfl, by decide, q1071, in_J19, Or.inl rfl⟩ (.int (jI (sgI v))) (fun _ _ _ _ => rfl) dJ8_divideAndRound_6_61 rfl ?_
      exact K64 (sgI v) (by omega)
    ·
      have c_49 := lc_lt c_49
      refine sw_aload_n (n := 53) F 4 (some q) rfl rfl rfl dJ8_divideAndRound_6_52 rfl ?_
      refine sw_getI (n := 56) F 1 rfl hx (k := 0) ⟨(RJ19, TJ19, 6), rfl, by decide, q1071, in_J19, Or.inl rfl⟩ (.int (jI (sgI v))) (fun _ _ _ _ => rfl) dJ8_divideAndRound_6_53 rfl ?_
      refine sw_ineg (n := 57) F dJ8_divideAndRound_6_56 rfl ?_
      refine sw_goto F (n := 64) dJ8_divideAndRound_6_57 (by decide) ?_
      exact K64 (-(sgI v)) (by omega)
  refine sw_if_ne (n := 39) F (lc_rng _ _) (tgt := 43) dJ8_divideAndRound_6_36 (by decide) rfl (fun c_36 => ?_) (fun c_36 => ?_)
  ·
    have c_36 := lc_ne c_36
    refine sw_iconst (n := 44) F (0) (by decide) dJ8_divideAndRound_6_43 rfl ?_
    exact K44 0 (by omega)
  ·
    have c_36 := lc_eq c_36
    refine sw_iconst (n := 40) F (1) (by decide) dJ8_divideAndRound_6_39 rfl ?_
    refine sw_goto F (n := 44) dJ8_divideAndRound_6_40 (by decide) ?_
    exact K44 1 (by omega)
