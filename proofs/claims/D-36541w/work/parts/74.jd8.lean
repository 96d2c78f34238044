set_option maxRecDepth 100000
def dkwJ8_divideAndRound_4 : List UInt8 := [173]
abbrev dktJ8_divideAndRound_4 : List UInt8 := dkwJ8_divideAndRound_4 ++ []
def dkwJ8_divideAndRound_3 : List UInt8 := [184, 3, 156, 54, 10, 21, 10, 153, 0, 12, 22, 6, 21, 5, 133, 97, 167, 0, 5, 22, 6, 173, 22, 6]
abbrev dktJ8_divideAndRound_3 : List UInt8 := dkwJ8_divideAndRound_3 ++ dktJ8_divideAndRound_4
def dkwJ8_divideAndRound_2 : List UInt8 := [167, 0, 4, 2, 54, 5, 22, 8, 9, 148, 153, 0, 34, 32, 21, 4, 21, 5, 22, 6, 22, 8]
abbrev dktJ8_divideAndRound_2 : List UInt8 := dkwJ8_divideAndRound_2 ++ dktJ8_divideAndRound_3
def dkwJ8_divideAndRound_1 : List UInt8 := [156, 0, 7, 4, 167, 0, 4, 3, 32, 9, 148, 156, 0, 7, 4, 167, 0, 4, 3, 160, 0, 7, 4]
abbrev dktJ8_divideAndRound_1 : List UInt8 := dkwJ8_divideAndRound_1 ++ dktJ8_divideAndRound_2
def dkwJ8_divideAndRound_0 : List UInt8 := [30, 32, 109, 55, 6, 21, 4, 4, 160, 0, 6, 22, 6, 173, 30, 32, 113, 55, 8, 30, 9, 148]
abbrev dktJ8_divideAndRound_0 : List UInt8 := dkwJ8_divideAndRound_0 ++ dktJ8_divideAndRound_1
theorem dksJ8_divideAndRound_0 : cJ8_divideAndRound.data.toList.drop 0 = dktJ8_divideAndRound_0 := by decide +kernel
theorem dksJ8_divideAndRound_1 : cJ8_divideAndRound.data.toList.drop 22 = dktJ8_divideAndRound_1 := dk_seg dksJ8_divideAndRound_0 22 rfl rfl
theorem dksJ8_divideAndRound_2 : cJ8_divideAndRound.data.toList.drop 45 = dktJ8_divideAndRound_2 := dk_seg dksJ8_divideAndRound_1 23 rfl rfl
theorem dksJ8_divideAndRound_3 : cJ8_divideAndRound.data.toList.drop 67 = dktJ8_divideAndRound_3 := dk_seg dksJ8_divideAndRound_2 22 rfl rfl
theorem dksJ8_divideAndRound_4 : cJ8_divideAndRound.data.toList.drop 91 = dktJ8_divideAndRound_4 := dk_seg dksJ8_divideAndRound_3 24 rfl rfl
theorem dJ8_divideAndRound_0 : decode cJ8_divideAndRound 0 = .ok (.lload_n 0, 1) := dk_30 (dk_at dksJ8_divideAndRound_0 0 rfl rfl)
theorem dJ8_divideAndRound_1 : decode cJ8_divideAndRound 1 = .ok (.lload_n 2, 1) := dk_32 (dk_at dksJ8_divideAndRound_0 1 rfl rfl)
theorem dJ8_divideAndRound_2 : decode cJ8_divideAndRound 2 = .ok (.ldiv, 1) := dk_109 (dk_at dksJ8_divideAndRound_0 2 rfl rfl)
theorem dJ8_divideAndRound_3 : decode cJ8_divideAndRound 3 = .ok (.lstore 6, 2) := dk_55 6 (dk_at dksJ8_divideAndRound_0 3 rfl rfl)
theorem dJ8_divideAndRound_5 : decode cJ8_divideAndRound 5 = .ok (.iload 4, 2) := dk_21 4 (dk_at dksJ8_divideAndRound_0 5 rfl rfl)
theorem dJ8_divideAndRound_7 : decode cJ8_divideAndRound 7 = .ok (.iconst 1, 1) := dk_4 (dk_at dksJ8_divideAndRound_0 7 rfl rfl)
theorem dJ8_divideAndRound_8 : decode cJ8_divideAndRound 8 = .ok (.if_icmp .ne 6, 3) := dk_160 0 6 (dk_at dksJ8_divideAndRound_0 8 rfl rfl)
theorem dJ8_divideAndRound_11 : decode cJ8_divideAndRound 11 = .ok (.lload 6, 2) := dk_22 6 (dk_at dksJ8_divideAndRound_0 11 rfl rfl)
theorem dJ8_divideAndRound_13 : decode cJ8_divideAndRound 13 = .ok (.lreturn, 1) := dk_173 (dk_at dksJ8_divideAndRound_0 13 rfl rfl)
theorem dJ8_divideAndRound_14 : decode cJ8_divideAndRound 14 = .ok (.lload_n 0, 1) := dk_30 (dk_at dksJ8_divideAndRound_0 14 rfl rfl)
theorem dJ8_divideAndRound_15 : decode cJ8_divideAndRound 15 = .ok (.lload_n 2, 1) := dk_32 (dk_at dksJ8_divideAndRound_0 15 rfl rfl)
theorem dJ8_divideAndRound_16 : decode cJ8_divideAndRound 16 = .ok (.lrem, 1) := dk_113 (dk_at dksJ8_divideAndRound_0 16 rfl rfl)
theorem dJ8_divideAndRound_17 : decode cJ8_divideAndRound 17 = .ok (.lstore 8, 2) := dk_55 8 (dk_at dksJ8_divideAndRound_0 17 rfl rfl)
theorem dJ8_divideAndRound_19 : decode cJ8_divideAndRound 19 = .ok (.lload_n 0, 1) := dk_30 (dk_at dksJ8_divideAndRound_0 19 rfl rfl)
theorem dJ8_divideAndRound_20 : decode cJ8_divideAndRound 20 = .ok (.lconst 0, 1) := dk_9 (dk_at dksJ8_divideAndRound_0 20 rfl rfl)
theorem dJ8_divideAndRound_21 : decode cJ8_divideAndRound 21 = .ok (.lcmp, 1) := dk_148 (dk_at dksJ8_divideAndRound_0 21 rfl rfl)
theorem dJ8_divideAndRound_22 : decode cJ8_divideAndRound 22 = .ok (.ifCond .ge 7, 3) := dk_156 0 7 (dk_at dksJ8_divideAndRound_1 0 rfl rfl)
theorem dJ8_divideAndRound_25 : decode cJ8_divideAndRound 25 = .ok (.iconst 1, 1) := dk_4 (dk_at dksJ8_divideAndRound_1 3 rfl rfl)
theorem dJ8_divideAndRound_26 : decode cJ8_divideAndRound 26 = .ok (.goto 4, 3) := dk_167 0 4 (dk_at dksJ8_divideAndRound_1 4 rfl rfl)
theorem dJ8_divideAndRound_29 : decode cJ8_divideAndRound 29 = .ok (.iconst 0, 1) := dk_3 (dk_at dksJ8_divideAndRound_1 7 rfl rfl)
theorem dJ8_divideAndRound_30 : decode cJ8_divideAndRound 30 = .ok (.lload_n 2, 1) := dk_32 (dk_at dksJ8_divideAndRound_1 8 rfl rfl)
theorem dJ8_divideAndRound_31 : decode cJ8_divideAndRound 31 = .ok (.lconst 0, 1) := dk_9 (dk_at dksJ8_divideAndRound_1 9 rfl rfl)
theorem dJ8_divideAndRound_32 : decode cJ8_divideAndRound 32 = .ok (.lcmp, 1) := dk_148 (dk_at dksJ8_divideAndRound_1 10 rfl rfl)
theorem dJ8_divideAndRound_33 : decode cJ8_divideAndRound 33 = .ok (.ifCond .ge 7, 3) := dk_156 0 7 (dk_at dksJ8_divideAndRound_1 11 rfl rfl)
theorem dJ8_divideAndRound_36 : decode cJ8_divideAndRound 36 = .ok (.iconst 1, 1) := dk_4 (dk_at dksJ8_divideAndRound_1 14 rfl rfl)
theorem dJ8_divideAndRound_37 : decode cJ8_divideAndRound 37 = .ok (.goto 4, 3) := dk_167 0 4 (dk_at dksJ8_divideAndRound_1 15 rfl rfl)
theorem dJ8_divideAndRound_40 : decode cJ8_divideAndRound 40 = .ok (.iconst 0, 1) := dk_3 (dk_at dksJ8_divideAndRound_1 18 rfl rfl)
theorem dJ8_divideAndRound_41 : decode cJ8_divideAndRound 41 = .ok (.if_icmp .ne 7, 3) := dk_160 0 7 (dk_at dksJ8_divideAndRound_1 19 rfl rfl)
theorem dJ8_divideAndRound_44 : decode cJ8_divideAndRound 44 = .ok (.iconst 1, 1) := dk_4 (dk_at dksJ8_divideAndRound_1 22 rfl rfl)
theorem dJ8_divideAndRound_45 : decode cJ8_divideAndRound 45 = .ok (.goto 4, 3) := dk_167 0 4 (dk_at dksJ8_divideAndRound_2 0 rfl rfl)
theorem dJ8_divideAndRound_48 : decode cJ8_divideAndRound 48 = .ok (.iconst (-1), 1) := dk_2 (dk_at dksJ8_divideAndRound_2 3 rfl rfl)
theorem dJ8_divideAndRound_49 : decode cJ8_divideAndRound 49 = .ok (.istore 5, 2) := dk_54 5 (dk_at dksJ8_divideAndRound_2 4 rfl rfl)
theorem dJ8_divideAndRound_51 : decode cJ8_divideAndRound 51 = .ok (.lload 8, 2) := dk_22 8 (dk_at dksJ8_divideAndRound_2 6 rfl rfl)
theorem dJ8_divideAndRound_53 : decode cJ8_divideAndRound 53 = .ok (.lconst 0, 1) := dk_9 (dk_at dksJ8_divideAndRound_2 8 rfl rfl)
theorem dJ8_divideAndRound_54 : decode cJ8_divideAndRound 54 = .ok (.lcmp, 1) := dk_148 (dk_at dksJ8_divideAndRound_2 9 rfl rfl)
theorem dJ8_divideAndRound_55 : decode cJ8_divideAndRound 55 = .ok (.ifCond .eq 34, 3) := dk_153 0 34 (dk_at dksJ8_divideAndRound_2 10 rfl rfl)
theorem dJ8_divideAndRound_58 : decode cJ8_divideAndRound 58 = .ok (.lload_n 2, 1) := dk_32 (dk_at dksJ8_divideAndRound_2 13 rfl rfl)
theorem dJ8_divideAndRound_59 : decode cJ8_divideAndRound 59 = .ok (.iload 4, 2) := dk_21 4 (dk_at dksJ8_divideAndRound_2 14 rfl rfl)
theorem dJ8_divideAndRound_61 : decode cJ8_divideAndRound 61 = .ok (.iload 5, 2) := dk_21 5 (dk_at dksJ8_divideAndRound_2 16 rfl rfl)
theorem dJ8_divideAndRound_63 : decode cJ8_divideAndRound 63 = .ok (.lload 6, 2) := dk_22 6 (dk_at dksJ8_divideAndRound_2 18 rfl rfl)
theorem dJ8_divideAndRound_65 : decode cJ8_divideAndRound 65 = .ok (.lload 8, 2) := dk_22 8 (dk_at dksJ8_divideAndRound_2 20 rfl rfl)
theorem dJ8_divideAndRound_67 : decode cJ8_divideAndRound 67 = .ok (.invokestatic 924, 3) := dk_184 3 156 (dk_at dksJ8_divideAndRound_3 0 rfl rfl)
theorem dJ8_divideAndRound_70 : decode cJ8_divideAndRound 70 = .ok (.istore 10, 2) := dk_54 10 (dk_at dksJ8_divideAndRound_3 3 rfl rfl)
theorem dJ8_divideAndRound_72 : decode cJ8_divideAndRound 72 = .ok (.iload 10, 2) := dk_21 10 (dk_at dksJ8_divideAndRound_3 5 rfl rfl)
theorem dJ8_divideAndRound_74 : decode cJ8_divideAndRound 74 = .ok (.ifCond .eq 12, 3) := dk_153 0 12 (dk_at dksJ8_divideAndRound_3 7 rfl rfl)
theorem dJ8_divideAndRound_77 : decode cJ8_divideAndRound 77 = .ok (.lload 6, 2) := dk_22 6 (dk_at dksJ8_divideAndRound_3 10 rfl rfl)
theorem dJ8_divideAndRound_79 : decode cJ8_divideAndRound 79 = .ok (.iload 5, 2) := dk_21 5 (dk_at dksJ8_divideAndRound_3 12 rfl rfl)
theorem dJ8_divideAndRound_81 : decode cJ8_divideAndRound 81 = .ok (.i2l, 1) := dk_133 (dk_at dksJ8_divideAndRound_3 14 rfl rfl)
theorem dJ8_divideAndRound_82 : decode cJ8_divideAndRound 82 = .ok (.ladd, 1) := dk_97 (dk_at dksJ8_divideAndRound_3 15 rfl rfl)
theorem dJ8_divideAndRound_83 : decode cJ8_divideAndRound 83 = .ok (.goto 5, 3) := dk_167 0 5 (dk_at dksJ8_divideAndRound_3 16 rfl rfl)
theorem dJ8_divideAndRound_86 : decode cJ8_divideAndRound 86 = .ok (.lload 6, 2) := dk_22 6 (dk_at dksJ8_divideAndRound_3 19 rfl rfl)
theorem dJ8_divideAndRound_88 : decode cJ8_divideAndRound 88 = .ok (.lreturn, 1) := dk_173 (dk_at dksJ8_divideAndRound_3 21 rfl rfl)
theorem dJ8_divideAndRound_89 : decode cJ8_divideAndRound 89 = .ok (.lload 6, 2) := dk_22 6 (dk_at dksJ8_divideAndRound_3 22 rfl rfl)
theorem dJ8_divideAndRound_91 : decode cJ8_divideAndRound 91 = .ok (.lreturn, 1) := dk_173 (dk_at dksJ8_divideAndRound_4 0 rfl rfl)
def dkwJ8_needIncrement_3 : List UInt8 := [153, 0, 7, 4, 167, 0, 4, 3, 184, 3, 169, 172]
abbrev dktJ8_needIncrement_3 : List UInt8 := dkwJ8_needIncrement_3 ++ []
def dkwJ8_needIncrement_2 : List UInt8 := [20, 1, 62, 22, 6, 105, 30, 184, 2, 120, 54, 8, 28, 29, 21, 8, 22, 4, 10, 127, 9, 148]
abbrev dktJ8_needIncrement_2 : List UInt8 := dkwJ8_needIncrement_2 ++ dktJ8_needIncrement_3
def dkwJ8_needIncrement_1 : List UInt8 := [20, 3, 165, 148, 158, 0, 12, 22, 6, 20, 3, 167, 148, 158, 0, 9, 4, 54, 8, 167, 0, 15]
abbrev dktJ8_needIncrement_1 : List UInt8 := dkwJ8_needIncrement_1 ++ dktJ8_needIncrement_2
def dkwJ8_needIncrement_0 : List UInt8 := [178, 1, 55, 154, 0, 18, 22, 6, 9, 148, 154, 0, 11, 187, 1, 59, 89, 183, 1, 61, 191, 22, 6]
abbrev dktJ8_needIncrement_0 : List UInt8 := dkwJ8_needIncrement_0 ++ dktJ8_needIncrement_1
theorem dksJ8_needIncrement_0 : cJ8_needIncrement.data.toList.drop 0 = dktJ8_needIncrement_0 := by decide +kernel
theorem dksJ8_needIncrement_1 : cJ8_needIncrement.data.toList.drop 23 = dktJ8_needIncrement_1 := dk_seg dksJ8_needIncrement_0 23 rfl rfl
theorem dksJ8_needIncrement_2 : cJ8_needIncrement.data.toList.drop 45 = dktJ8_needIncrement_2 := dk_seg dksJ8_needIncrement_1 22 rfl rfl
theorem dksJ8_needIncrement_3 : cJ8_needIncrement.data.toList.drop 67 = dktJ8_needIncrement_3 := dk_seg dksJ8_needIncrement_2 22 rfl rfl
theorem dJ8_needIncrement_0 : decode cJ8_needIncrement 0 = .ok (.getstatic 311, 3) := dk_178 1 55 (dk_at dksJ8_needIncrement_0 0 rfl rfl)
theorem dJ8_needIncrement_3 : decode cJ8_needIncrement 3 = .ok (.ifCond .ne 18, 3) := dk_154 0 18 (dk_at dksJ8_needIncrement_0 3 rfl rfl)
theorem dJ8_needIncrement_6 : decode cJ8_needIncrement 6 = .ok (.lload 6, 2) := dk_22 6 (dk_at dksJ8_needIncrement_0 6 rfl rfl)
theorem dJ8_needIncrement_8 : decode cJ8_needIncrement 8 = .ok (.lconst 0, 1) := dk_9 (dk_at dksJ8_needIncrement_0 8 rfl rfl)
theorem dJ8_needIncrement_9 : decode cJ8_needIncrement 9 = .ok (.lcmp, 1) := dk_148 (dk_at dksJ8_needIncrement_0 9 rfl rfl)
theorem dJ8_needIncrement_10 : decode cJ8_needIncrement 10 = .ok (.ifCond .ne 11, 3) := dk_154 0 11 (dk_at dksJ8_needIncrement_0 10 rfl rfl)
theorem dJ8_needIncrement_13 : decode cJ8_needIncrement 13 = .ok (.new 315, 3) := dk_187 1 59 (dk_at dksJ8_needIncrement_0 13 rfl rfl)
theorem dJ8_needIncrement_16 : decode cJ8_needIncrement 16 = .ok (.dup, 1) := dk_89 (dk_at dksJ8_needIncrement_0 16 rfl rfl)
theorem dJ8_needIncrement_17 : decode cJ8_needIncrement 17 = .ok (.invokespecial 317, 3) := dk_183 1 61 (dk_at dksJ8_needIncrement_0 17 rfl rfl)
theorem dJ8_needIncrement_20 : decode cJ8_needIncrement 20 = .ok (.athrow, 1) := dk_191 (dk_at dksJ8_needIncrement_0 20 rfl rfl)
theorem dJ8_needIncrement_21 : decode cJ8_needIncrement 21 = .ok (.lload 6, 2) := dk_22 6 (dk_at dksJ8_needIncrement_0 21 rfl rfl)
theorem dJ8_needIncrement_23 : decode cJ8_needIncrement 23 = .ok (.ldc2_w 933, 3) := dk_20 3 165 (dk_at dksJ8_needIncrement_1 0 rfl rfl)
theorem dJ8_needIncrement_26 : decode cJ8_needIncrement 26 = .ok (.lcmp, 1) := dk_148 (dk_at dksJ8_needIncrement_1 3 rfl rfl)
theorem dJ8_needIncrement_27 : decode cJ8_needIncrement 27 = .ok (.ifCond .le 12, 3) := dk_158 0 12 (dk_at dksJ8_needIncrement_1 4 rfl rfl)
theorem dJ8_needIncrement_30 : decode cJ8_needIncrement 30 = .ok (.lload 6, 2) := dk_22 6 (dk_at dksJ8_needIncrement_1 7 rfl rfl)
theorem dJ8_needIncrement_32 : decode cJ8_needIncrement 32 = .ok (.ldc2_w 935, 3) := dk_20 3 167 (dk_at dksJ8_needIncrement_1 9 rfl rfl)
theorem dJ8_needIncrement_35 : decode cJ8_needIncrement 35 = .ok (.lcmp, 1) := dk_148 (dk_at dksJ8_needIncrement_1 12 rfl rfl)
theorem dJ8_needIncrement_36 : decode cJ8_needIncrement 36 = .ok (.ifCond .le 9, 3) := dk_158 0 9 (dk_at dksJ8_needIncrement_1 13 rfl rfl)
theorem dJ8_needIncrement_39 : decode cJ8_needIncrement 39 = .ok (.iconst 1, 1) := dk_4 (dk_at dksJ8_needIncrement_1 16 rfl rfl)
theorem dJ8_needIncrement_40 : decode cJ8_needIncrement 40 = .ok (.istore 8, 2) := dk_54 8 (dk_at dksJ8_needIncrement_1 17 rfl rfl)
theorem dJ8_needIncrement_42 : decode cJ8_needIncrement 42 = .ok (.goto 15, 3) := dk_167 0 15 (dk_at dksJ8_needIncrement_1 19 rfl rfl)
theorem dJ8_needIncrement_45 : decode cJ8_needIncrement 45 = .ok (.ldc2_w 318, 3) := dk_20 1 62 (dk_at dksJ8_needIncrement_2 0 rfl rfl)
theorem dJ8_needIncrement_48 : decode cJ8_needIncrement 48 = .ok (.lload 6, 2) := dk_22 6 (dk_at dksJ8_needIncrement_2 3 rfl rfl)
theorem dJ8_needIncrement_50 : decode cJ8_needIncrement 50 = .ok (.lmul, 1) := dk_105 (dk_at dksJ8_needIncrement_2 5 rfl rfl)
theorem dJ8_needIncrement_51 : decode cJ8_needIncrement 51 = .ok (.lload_n 0, 1) := dk_30 (dk_at dksJ8_needIncrement_2 6 rfl rfl)
theorem dJ8_needIncrement_52 : decode cJ8_needIncrement 52 = .ok (.invokestatic 632, 3) := dk_184 2 120 (dk_at dksJ8_needIncrement_2 7 rfl rfl)
theorem dJ8_needIncrement_55 : decode cJ8_needIncrement 55 = .ok (.istore 8, 2) := dk_54 8 (dk_at dksJ8_needIncrement_2 10 rfl rfl)
theorem dJ8_needIncrement_57 : decode cJ8_needIncrement 57 = .ok (.iload_n 2, 1) := dk_28 (dk_at dksJ8_needIncrement_2 12 rfl rfl)
theorem dJ8_needIncrement_58 : decode cJ8_needIncrement 58 = .ok (.iload_n 3, 1) := dk_29 (dk_at dksJ8_needIncrement_2 13 rfl rfl)
theorem dJ8_needIncrement_59 : decode cJ8_needIncrement 59 = .ok (.iload 8, 2) := dk_21 8 (dk_at dksJ8_needIncrement_2 14 rfl rfl)
theorem dJ8_needIncrement_61 : decode cJ8_needIncrement 61 = .ok (.lload 4, 2) := dk_22 4 (dk_at dksJ8_needIncrement_2 16 rfl rfl)
theorem dJ8_needIncrement_63 : decode cJ8_needIncrement 63 = .ok (.lconst 1, 1) := dk_10 (dk_at dksJ8_needIncrement_2 18 rfl rfl)
theorem dJ8_needIncrement_64 : decode cJ8_needIncrement 64 = .ok (.land, 1) := dk_127 (dk_at dksJ8_needIncrement_2 19 rfl rfl)
theorem dJ8_needIncrement_65 : decode cJ8_needIncrement 65 = .ok (.lconst 0, 1) := dk_9 (dk_at dksJ8_needIncrement_2 20 rfl rfl)
theorem dJ8_needIncrement_66 : decode cJ8_needIncrement 66 = .ok (.lcmp, 1) := dk_148 (dk_at dksJ8_needIncrement_2 21 rfl rfl)
theorem dJ8_needIncrement_67 : decode cJ8_needIncrement 67 = .ok (.ifCond .eq 7, 3) := dk_153 0 7 (dk_at dksJ8_needIncrement_3 0 rfl rfl)
theorem dJ8_needIncrement_70 : decode cJ8_needIncrement 70 = .ok (.iconst 1, 1) := dk_4 (dk_at dksJ8_needIncrement_3 3 rfl rfl)
theorem dJ8_needIncrement_71 : decode cJ8_needIncrement 71 = .ok (.goto 4, 3) := dk_167 0 4 (dk_at dksJ8_needIncrement_3 4 rfl rfl)
theorem dJ8_needIncrement_74 : decode cJ8_needIncrement 74 = .ok (.iconst 0, 1) := dk_3 (dk_at dksJ8_needIncrement_3 7 rfl rfl)
theorem dJ8_needIncrement_75 : decode cJ8_needIncrement 75 = .ok (.invokestatic 937, 3) := dk_184 3 169 (dk_at dksJ8_needIncrement_3 8 rfl rfl)
theorem dJ8_needIncrement_78 : decode cJ8_needIncrement 78 = .ok (.ireturn, 1) := dk_172 (dk_at dksJ8_needIncrement_3 11 rfl rfl)
def dkwJ8_commonNeedIncrement_9 : List UInt8 := [19, 3, 160, 182, 0, 79, 26, 182, 3, 32, 182, 0, 88, 183, 2, 32, 191, 172]
abbrev dktJ8_commonNeedIncrement_9 : List UInt8 := dkwJ8_commonNeedIncrement_9 ++ []
def dkwJ8_commonNeedIncrement_8 : List UInt8 := [3, 167, 0, 39, 4, 167, 0, 35, 29, 167, 0, 31, 187, 1, 59, 89, 187, 0, 74, 89, 183, 0, 76]
abbrev dktJ8_commonNeedIncrement_8 : List UInt8 := dkwJ8_commonNeedIncrement_8 ++ dktJ8_commonNeedIncrement_9
def dkwJ8_commonNeedIncrement_7 : List UInt8 := [170, 0, 0, 0, 0, 38, 0, 0, 0, 4, 0, 0, 0, 6, 0, 0, 0, 30, 0, 0, 0, 26, 0, 0, 0, 34]
abbrev dktJ8_commonNeedIncrement_7 : List UInt8 := dkwJ8_commonNeedIncrement_7 ++ dktJ8_commonNeedIncrement_8
def dkwJ8_commonNeedIncrement_6 : List UInt8 := [172, 178, 1, 55, 154, 0, 15, 28, 153, 0, 11, 187, 1, 59, 89, 183, 1, 61, 191, 26]
abbrev dktJ8_commonNeedIncrement_6 : List UInt8 := dkwJ8_commonNeedIncrement_6 ++ dktJ8_commonNeedIncrement_7
def dkwJ8_commonNeedIncrement_5 : List UInt8 := [184, 3, 162, 182, 2, 51, 182, 0, 88, 183, 2, 32, 191, 28, 156, 0, 5, 3, 172, 28, 158, 0, 5, 4]
abbrev dktJ8_commonNeedIncrement_5 : List UInt8 := dkwJ8_commonNeedIncrement_5 ++ dktJ8_commonNeedIncrement_6
def dkwJ8_commonNeedIncrement_4 : List UInt8 := [16, 6, 164, 0, 34, 187, 1, 59, 89, 187, 0, 74, 89, 183, 0, 76, 19, 3, 160, 182, 0, 79, 26]
abbrev dktJ8_commonNeedIncrement_4 : List UInt8 := dkwJ8_commonNeedIncrement_4 ++ dktJ8_commonNeedIncrement_5
def dkwJ8_commonNeedIncrement_3 : List UInt8 := [172, 27, 156, 0, 7, 4, 167, 0, 4, 3, 172, 178, 1, 55, 154, 0, 45, 26, 7, 161, 0, 9, 26]
abbrev dktJ8_commonNeedIncrement_3 : List UInt8 := dkwJ8_commonNeedIncrement_3 ++ dktJ8_commonNeedIncrement_4
def dkwJ8_commonNeedIncrement_2 : List UInt8 := [187, 1, 128, 89, 19, 2, 180, 183, 1, 132, 191, 4, 172, 3, 172, 27, 158, 0, 7, 4, 167, 0, 4, 3]
abbrev dktJ8_commonNeedIncrement_2 : List UInt8 := dkwJ8_commonNeedIncrement_2 ++ dktJ8_commonNeedIncrement_3
def dkwJ8_commonNeedIncrement_1 : List UInt8 := [170, 0, 0, 0, 0, 0, 82, 0, 0, 0, 0, 0, 0, 0, 7, 0, 0, 0, 58, 0, 0, 0, 60, 0, 0, 0, 62, 0, 0, 0, 72, 0, 0, 0, 82, 0, 0, 0, 82, 0, 0, 0, 82, 0, 0, 0, 47]
abbrev dktJ8_commonNeedIncrement_1 : List UInt8 := dkwJ8_commonNeedIncrement_1 ++ dktJ8_commonNeedIncrement_2
def dkwJ8_commonNeedIncrement_0 : List UInt8 := [26]
abbrev dktJ8_commonNeedIncrement_0 : List UInt8 := dkwJ8_commonNeedIncrement_0 ++ dktJ8_commonNeedIncrement_1
theorem dksJ8_commonNeedIncrement_0 : cJ8_commonNeedIncrement.data.toList.drop 0 = dktJ8_commonNeedIncrement_0 := by decide +kernel
theorem dksJ8_commonNeedIncrement_1 : cJ8_commonNeedIncrement.data.toList.drop 1 = dktJ8_commonNeedIncrement_1 := dk_seg dksJ8_commonNeedIncrement_0 1 rfl rfl
theorem dksJ8_commonNeedIncrement_2 : cJ8_commonNeedIncrement.data.toList.drop 48 = dktJ8_commonNeedIncrement_2 := dk_seg dksJ8_commonNeedIncrement_1 47 rfl rfl
theorem dksJ8_commonNeedIncrement_3 : cJ8_commonNeedIncrement.data.toList.drop 72 = dktJ8_commonNeedIncrement_3 := dk_seg dksJ8_commonNeedIncrement_2 24 rfl rfl
theorem dksJ8_commonNeedIncrement_4 : cJ8_commonNeedIncrement.data.toList.drop 95 = dktJ8_commonNeedIncrement_4 := dk_seg dksJ8_commonNeedIncrement_3 23 rfl rfl
theorem dksJ8_commonNeedIncrement_5 : cJ8_commonNeedIncrement.data.toList.drop 118 = dktJ8_commonNeedIncrement_5 := dk_seg dksJ8_commonNeedIncrement_4 23 rfl rfl
theorem dksJ8_commonNeedIncrement_6 : cJ8_commonNeedIncrement.data.toList.drop 142 = dktJ8_commonNeedIncrement_6 := dk_seg dksJ8_commonNeedIncrement_5 24 rfl rfl
theorem dksJ8_commonNeedIncrement_7 : cJ8_commonNeedIncrement.data.toList.drop 162 = dktJ8_commonNeedIncrement_7 := dk_seg dksJ8_commonNeedIncrement_6 20 rfl rfl
theorem dksJ8_commonNeedIncrement_8 : cJ8_commonNeedIncrement.data.toList.drop 188 = dktJ8_commonNeedIncrement_8 := dk_seg dksJ8_commonNeedIncrement_7 26 rfl rfl
theorem dksJ8_commonNeedIncrement_9 : cJ8_commonNeedIncrement.data.toList.drop 211 = dktJ8_commonNeedIncrement_9 := dk_seg dksJ8_commonNeedIncrement_8 23 rfl rfl
theorem dJ8_commonNeedIncrement_0 : decode cJ8_commonNeedIncrement 0 = .ok (.iload_n 0, 1) := dk_26 (dk_at dksJ8_commonNeedIncrement_0 0 rfl rfl)
theorem dJ8_commonNeedIncrement_1 : decode cJ8_commonNeedIncrement 1 = .ok (.tableswitch 82 0 7 #[58, 60, 62, 72, 82, 82, 82, 47], 47) := by decide +kernel
theorem dJ8_commonNeedIncrement_48 : decode cJ8_commonNeedIncrement 48 = .ok (.new 384, 3) := dk_187 1 128 (dk_at dksJ8_commonNeedIncrement_2 0 rfl rfl)
theorem dJ8_commonNeedIncrement_51 : decode cJ8_commonNeedIncrement 51 = .ok (.dup, 1) := dk_89 (dk_at dksJ8_commonNeedIncrement_2 3 rfl rfl)
theorem dJ8_commonNeedIncrement_52 : decode cJ8_commonNeedIncrement 52 = .ok (.ldc_w 692, 3) := dk_19 2 180 (dk_at dksJ8_commonNeedIncrement_2 4 rfl rfl)
theorem dJ8_commonNeedIncrement_55 : decode cJ8_commonNeedIncrement 55 = .ok (.invokespecial 388, 3) := dk_183 1 132 (dk_at dksJ8_commonNeedIncrement_2 7 rfl rfl)
theorem dJ8_commonNeedIncrement_58 : decode cJ8_commonNeedIncrement 58 = .ok (.athrow, 1) := dk_191 (dk_at dksJ8_commonNeedIncrement_2 10 rfl rfl)
theorem dJ8_commonNeedIncrement_59 : decode cJ8_commonNeedIncrement 59 = .ok (.iconst 1, 1) := dk_4 (dk_at dksJ8_commonNeedIncrement_2 11 rfl rfl)
theorem dJ8_commonNeedIncrement_60 : decode cJ8_commonNeedIncrement 60 = .ok (.ireturn, 1) := dk_172 (dk_at dksJ8_commonNeedIncrement_2 12 rfl rfl)
theorem dJ8_commonNeedIncrement_61 : decode cJ8_commonNeedIncrement 61 = .ok (.iconst 0, 1) := dk_3 (dk_at dksJ8_commonNeedIncrement_2 13 rfl rfl)
theorem dJ8_commonNeedIncrement_62 : decode cJ8_commonNeedIncrement 62 = .ok (.ireturn, 1) := dk_172 (dk_at dksJ8_commonNeedIncrement_2 14 rfl rfl)
theorem dJ8_commonNeedIncrement_63 : decode cJ8_commonNeedIncrement 63 = .ok (.iload_n 1, 1) := dk_27 (dk_at dksJ8_commonNeedIncrement_2 15 rfl rfl)
theorem dJ8_commonNeedIncrement_64 : decode cJ8_commonNeedIncrement 64 = .ok (.ifCond .le 7, 3) := dk_158 0 7 (dk_at dksJ8_commonNeedIncrement_2 16 rfl rfl)
theorem dJ8_commonNeedIncrement_67 : decode cJ8_commonNeedIncrement 67 = .ok (.iconst 1, 1) := dk_4 (dk_at dksJ8_commonNeedIncrement_2 19 rfl rfl)
theorem dJ8_commonNeedIncrement_68 : decode cJ8_commonNeedIncrement 68 = .ok (.goto 4, 3) := dk_167 0 4 (dk_at dksJ8_commonNeedIncrement_2 20 rfl rfl)
theorem dJ8_commonNeedIncrement_71 : decode cJ8_commonNeedIncrement 71 = .ok (.iconst 0, 1) := dk_3 (dk_at dksJ8_commonNeedIncrement_2 23 rfl rfl)
theorem dJ8_commonNeedIncrement_72 : decode cJ8_commonNeedIncrement 72 = .ok (.ireturn, 1) := dk_172 (dk_at dksJ8_commonNeedIncrement_3 0 rfl rfl)
theorem dJ8_commonNeedIncrement_73 : decode cJ8_commonNeedIncrement 73 = .ok (.iload_n 1, 1) := dk_27 (dk_at dksJ8_commonNeedIncrement_3 1 rfl rfl)
theorem dJ8_commonNeedIncrement_74 : decode cJ8_commonNeedIncrement 74 = .ok (.ifCond .ge 7, 3) := dk_156 0 7 (dk_at dksJ8_commonNeedIncrement_3 2 rfl rfl)
theorem dJ8_commonNeedIncrement_77 : decode cJ8_commonNeedIncrement 77 = .ok (.iconst 1, 1) := dk_4 (dk_at dksJ8_commonNeedIncrement_3 5 rfl rfl)
theorem dJ8_commonNeedIncrement_78 : decode cJ8_commonNeedIncrement 78 = .ok (.goto 4, 3) := dk_167 0 4 (dk_at dksJ8_commonNeedIncrement_3 6 rfl rfl)
theorem dJ8_commonNeedIncrement_81 : decode cJ8_commonNeedIncrement 81 = .ok (.iconst 0, 1) := dk_3 (dk_at dksJ8_commonNeedIncrement_3 9 rfl rfl)
theorem dJ8_commonNeedIncrement_82 : decode cJ8_commonNeedIncrement 82 = .ok (.ireturn, 1) := dk_172 (dk_at dksJ8_commonNeedIncrement_3 10 rfl rfl)
theorem dJ8_commonNeedIncrement_83 : decode cJ8_commonNeedIncrement 83 = .ok (.getstatic 311, 3) := dk_178 1 55 (dk_at dksJ8_commonNeedIncrement_3 11 rfl rfl)
theorem dJ8_commonNeedIncrement_86 : decode cJ8_commonNeedIncrement 86 = .ok (.ifCond .ne 45, 3) := dk_154 0 45 (dk_at dksJ8_commonNeedIncrement_3 14 rfl rfl)
theorem dJ8_commonNeedIncrement_89 : decode cJ8_commonNeedIncrement 89 = .ok (.iload_n 0, 1) := dk_26 (dk_at dksJ8_commonNeedIncrement_3 17 rfl rfl)
theorem dJ8_commonNeedIncrement_90 : decode cJ8_commonNeedIncrement 90 = .ok (.iconst 4, 1) := dk_7 (dk_at dksJ8_commonNeedIncrement_3 18 rfl rfl)
theorem dJ8_commonNeedIncrement_91 : decode cJ8_commonNeedIncrement 91 = .ok (.if_icmp .lt 9, 3) := dk_161 0 9 (dk_at dksJ8_commonNeedIncrement_3 19 rfl rfl)
theorem dJ8_commonNeedIncrement_94 : decode cJ8_commonNeedIncrement 94 = .ok (.iload_n 0, 1) := dk_26 (dk_at dksJ8_commonNeedIncrement_3 22 rfl rfl)
theorem dJ8_commonNeedIncrement_95 : decode cJ8_commonNeedIncrement 95 = .ok (.bipush 6, 2) := dk_16 6 (dk_at dksJ8_commonNeedIncrement_4 0 rfl rfl)
theorem dJ8_commonNeedIncrement_97 : decode cJ8_commonNeedIncrement 97 = .ok (.if_icmp .le 34, 3) := dk_164 0 34 (dk_at dksJ8_commonNeedIncrement_4 2 rfl rfl)
theorem dJ8_commonNeedIncrement_100 : decode cJ8_commonNeedIncrement 100 = .ok (.new 315, 3) := dk_187 1 59 (dk_at dksJ8_commonNeedIncrement_4 5 rfl rfl)
theorem dJ8_commonNeedIncrement_103 : decode cJ8_commonNeedIncrement 103 = .ok (.dup, 1) := dk_89 (dk_at dksJ8_commonNeedIncrement_4 8 rfl rfl)
theorem dJ8_commonNeedIncrement_104 : decode cJ8_commonNeedIncrement 104 = .ok (.new 74, 3) := dk_187 0 74 (dk_at dksJ8_commonNeedIncrement_4 9 rfl rfl)
theorem dJ8_commonNeedIncrement_107 : decode cJ8_commonNeedIncrement 107 = .ok (.dup, 1) := dk_89 (dk_at dksJ8_commonNeedIncrement_4 12 rfl rfl)
theorem dJ8_commonNeedIncrement_108 : decode cJ8_commonNeedIncrement 108 = .ok (.invokespecial 76, 3) := dk_183 0 76 (dk_at dksJ8_commonNeedIncrement_4 13 rfl rfl)
theorem dJ8_commonNeedIncrement_111 : decode cJ8_commonNeedIncrement 111 = .ok (.ldc_w 928, 3) := dk_19 3 160 (dk_at dksJ8_commonNeedIncrement_4 16 rfl rfl)
theorem dJ8_commonNeedIncrement_114 : decode cJ8_commonNeedIncrement 114 = .ok (.invokevirtual 79, 3) := dk_182 0 79 (dk_at dksJ8_commonNeedIncrement_4 19 rfl rfl)
theorem dJ8_commonNeedIncrement_117 : decode cJ8_commonNeedIncrement 117 = .ok (.iload_n 0, 1) := dk_26 (dk_at dksJ8_commonNeedIncrement_4 22 rfl rfl)
theorem dJ8_commonNeedIncrement_118 : decode cJ8_commonNeedIncrement 118 = .ok (.invokestatic 930, 3) := dk_184 3 162 (dk_at dksJ8_commonNeedIncrement_5 0 rfl rfl)
theorem dJ8_commonNeedIncrement_121 : decode cJ8_commonNeedIncrement 121 = .ok (.invokevirtual 563, 3) := dk_182 2 51 (dk_at dksJ8_commonNeedIncrement_5 3 rfl rfl)
theorem dJ8_commonNeedIncrement_124 : decode cJ8_commonNeedIncrement 124 = .ok (.invokevirtual 88, 3) := dk_182 0 88 (dk_at dksJ8_commonNeedIncrement_5 6 rfl rfl)
theorem dJ8_commonNeedIncrement_127 : decode cJ8_commonNeedIncrement 127 = .ok (.invokespecial 544, 3) := dk_183 2 32 (dk_at dksJ8_commonNeedIncrement_5 9 rfl rfl)
theorem dJ8_commonNeedIncrement_130 : decode cJ8_commonNeedIncrement 130 = .ok (.athrow, 1) := dk_191 (dk_at dksJ8_commonNeedIncrement_5 12 rfl rfl)
theorem dJ8_commonNeedIncrement_131 : decode cJ8_commonNeedIncrement 131 = .ok (.iload_n 2, 1) := dk_28 (dk_at dksJ8_commonNeedIncrement_5 13 rfl rfl)
theorem dJ8_commonNeedIncrement_132 : decode cJ8_commonNeedIncrement 132 = .ok (.ifCond .ge 5, 3) := dk_156 0 5 (dk_at dksJ8_commonNeedIncrement_5 14 rfl rfl)
theorem dJ8_commonNeedIncrement_135 : decode cJ8_commonNeedIncrement 135 = .ok (.iconst 0, 1) := dk_3 (dk_at dksJ8_commonNeedIncrement_5 17 rfl rfl)
theorem dJ8_commonNeedIncrement_136 : decode cJ8_commonNeedIncrement 136 = .ok (.ireturn, 1) := dk_172 (dk_at dksJ8_commonNeedIncrement_5 18 rfl rfl)
theorem dJ8_commonNeedIncrement_137 : decode cJ8_commonNeedIncrement 137 = .ok (.iload_n 2, 1) := dk_28 (dk_at dksJ8_commonNeedIncrement_5 19 rfl rfl)
theorem dJ8_commonNeedIncrement_138 : decode cJ8_commonNeedIncrement 138 = .ok (.ifCond .le 5, 3) := dk_158 0 5 (dk_at dksJ8_commonNeedIncrement_5 20 rfl rfl)
theorem dJ8_commonNeedIncrement_141 : decode cJ8_commonNeedIncrement 141 = .ok (.iconst 1, 1) := dk_4 (dk_at dksJ8_commonNeedIncrement_5 23 rfl rfl)
theorem dJ8_commonNeedIncrement_142 : decode cJ8_commonNeedIncrement 142 = .ok (.ireturn, 1) := dk_172 (dk_at dksJ8_commonNeedIncrement_6 0 rfl rfl)
theorem dJ8_commonNeedIncrement_143 : decode cJ8_commonNeedIncrement 143 = .ok (.getstatic 311, 3) := dk_178 1 55 (dk_at dksJ8_commonNeedIncrement_6 1 rfl rfl)
theorem dJ8_commonNeedIncrement_146 : decode cJ8_commonNeedIncrement 146 = .ok (.ifCond .ne 15, 3) := dk_154 0 15 (dk_at dksJ8_commonNeedIncrement_6 4 rfl rfl)
theorem dJ8_commonNeedIncrement_149 : decode cJ8_commonNeedIncrement 149 = .ok (.iload_n 2, 1) := dk_28 (dk_at dksJ8_commonNeedIncrement_6 7 rfl rfl)
theorem dJ8_commonNeedIncrement_150 : decode cJ8_commonNeedIncrement 150 = .ok (.ifCond .eq 11, 3) := dk_153 0 11 (dk_at dksJ8_commonNeedIncrement_6 8 rfl rfl)
theorem dJ8_commonNeedIncrement_153 : decode cJ8_commonNeedIncrement 153 = .ok (.new 315, 3) := dk_187 1 59 (dk_at dksJ8_commonNeedIncrement_6 11 rfl rfl)
theorem dJ8_commonNeedIncrement_156 : decode cJ8_commonNeedIncrement 156 = .ok (.dup, 1) := dk_89 (dk_at dksJ8_commonNeedIncrement_6 14 rfl rfl)
theorem dJ8_commonNeedIncrement_157 : decode cJ8_commonNeedIncrement 157 = .ok (.invokespecial 317, 3) := dk_183 1 61 (dk_at dksJ8_commonNeedIncrement_6 15 rfl rfl)
theorem dJ8_commonNeedIncrement_160 : decode cJ8_commonNeedIncrement 160 = .ok (.athrow, 1) := dk_191 (dk_at dksJ8_commonNeedIncrement_6 18 rfl rfl)
theorem dJ8_commonNeedIncrement_161 : decode cJ8_commonNeedIncrement 161 = .ok (.iload_n 0, 1) := dk_26 (dk_at dksJ8_commonNeedIncrement_6 19 rfl rfl)
theorem dJ8_commonNeedIncrement_162 : decode cJ8_commonNeedIncrement 162 = .ok (.tableswitch 38 4 6 #[30, 26, 34], 26) := by decide +kernel
theorem dJ8_commonNeedIncrement_188 : decode cJ8_commonNeedIncrement 188 = .ok (.iconst 0, 1) := dk_3 (dk_at dksJ8_commonNeedIncrement_8 0 rfl rfl)
theorem dJ8_commonNeedIncrement_189 : decode cJ8_commonNeedIncrement 189 = .ok (.goto 39, 3) := dk_167 0 39 (dk_at dksJ8_commonNeedIncrement_8 1 rfl rfl)
theorem dJ8_commonNeedIncrement_192 : decode cJ8_commonNeedIncrement 192 = .ok (.iconst 1, 1) := dk_4 (dk_at dksJ8_commonNeedIncrement_8 4 rfl rfl)
theorem dJ8_commonNeedIncrement_193 : decode cJ8_commonNeedIncrement 193 = .ok (.goto 35, 3) := dk_167 0 35 (dk_at dksJ8_commonNeedIncrement_8 5 rfl rfl)
theorem dJ8_commonNeedIncrement_196 : decode cJ8_commonNeedIncrement 196 = .ok (.iload_n 3, 1) := dk_29 (dk_at dksJ8_commonNeedIncrement_8 8 rfl rfl)
theorem dJ8_commonNeedIncrement_197 : decode cJ8_commonNeedIncrement 197 = .ok (.goto 31, 3) := dk_167 0 31 (dk_at dksJ8_commonNeedIncrement_8 9 rfl rfl)
theorem dJ8_commonNeedIncrement_200 : decode cJ8_commonNeedIncrement 200 = .ok (.new 315, 3) := dk_187 1 59 (dk_at dksJ8_commonNeedIncrement_8 12 rfl rfl)
theorem dJ8_commonNeedIncrement_203 : decode cJ8_commonNeedIncrement 203 = .ok (.dup, 1) := dk_89 (dk_at dksJ8_commonNeedIncrement_8 15 rfl rfl)
theorem dJ8_commonNeedIncrement_204 : decode cJ8_commonNeedIncrement 204 = .ok (.new 74, 3) := dk_187 0 74 (dk_at dksJ8_commonNeedIncrement_8 16 rfl rfl)
theorem dJ8_commonNeedIncrement_207 : decode cJ8_commonNeedIncrement 207 = .ok (.dup, 1) := dk_89 (dk_at dksJ8_commonNeedIncrement_8 19 rfl rfl)
theorem dJ8_commonNeedIncrement_208 : decode cJ8_commonNeedIncrement 208 = .ok (.invokespecial 76, 3) := dk_183 0 76 (dk_at dksJ8_commonNeedIncrement_8 20 rfl rfl)
theorem dJ8_commonNeedIncrement_211 : decode cJ8_commonNeedIncrement 211 = .ok (.ldc_w 928, 3) := dk_19 3 160 (dk_at dksJ8_commonNeedIncrement_9 0 rfl rfl)
theorem dJ8_commonNeedIncrement_214 : decode cJ8_commonNeedIncrement 214 = .ok (.invokevirtual 79, 3) := dk_182 0 79 (dk_at dksJ8_commonNeedIncrement_9 3 rfl rfl)
theorem dJ8_commonNeedIncrement_217 : decode cJ8_commonNeedIncrement 217 = .ok (.iload_n 0, 1) := dk_26 (dk_at dksJ8_commonNeedIncrement_9 6 rfl rfl)
theorem dJ8_commonNeedIncrement_218 : decode cJ8_commonNeedIncrement 218 = .ok (.invokevirtual 800, 3) := dk_182 3 32 (dk_at dksJ8_commonNeedIncrement_9 7 rfl rfl)
theorem dJ8_commonNeedIncrement_221 : decode cJ8_commonNeedIncrement 221 = .ok (.invokevirtual 88, 3) := dk_182 0 88 (dk_at dksJ8_commonNeedIncrement_9 10 rfl rfl)
theorem dJ8_commonNeedIncrement_224 : decode cJ8_commonNeedIncrement 224 = .ok (.invokespecial 544, 3) := dk_183 2 32 (dk_at dksJ8_commonNeedIncrement_9 13 rfl rfl)
theorem dJ8_commonNeedIncrement_227 : decode cJ8_commonNeedIncrement 227 = .ok (.athrow, 1) := dk_191 (dk_at dksJ8_commonNeedIncrement_9 16 rfl rfl)
theorem dJ8_commonNeedIncrement_228 : decode cJ8_commonNeedIncrement 228 = .ok (.ireturn, 1) := dk_172 (dk_at dksJ8_commonNeedIncrement_9 17 rfl rfl)
def dkwJ8_stripTrailingZeros_3 : List UInt8 := [176]
abbrev dktJ8_stripTrailingZeros_3 : List UInt8 := dkwJ8_stripTrailingZeros_3 ++ []
def dkwJ8_stripTrailingZeros_2 : List UInt8 := [180, 0, 17, 20, 0, 125, 184, 2, 109, 176, 42, 180, 0, 28, 42, 180, 0, 17, 20, 0, 125, 184, 2, 113]
abbrev dktJ8_stripTrailingZeros_2 : List UInt8 := dkwJ8_stripTrailingZeros_2 ++ dktJ8_stripTrailingZeros_3
def dkwJ8_stripTrailingZeros_1 : List UInt8 := [154, 0, 7, 178, 2, 14, 176, 42, 180, 0, 24, 20, 0, 125, 148, 153, 0, 18, 42, 180, 0, 24, 42]
abbrev dktJ8_stripTrailingZeros_1 : List UInt8 := dkwJ8_stripTrailingZeros_1 ++ dktJ8_stripTrailingZeros_2
def dkwJ8_stripTrailingZeros_0 : List UInt8 := [42, 180, 0, 24, 9, 148, 153, 0, 20, 42, 180, 0, 28, 198, 0, 17, 42, 180, 0, 28, 182, 2, 86]
abbrev dktJ8_stripTrailingZeros_0 : List UInt8 := dkwJ8_stripTrailingZeros_0 ++ dktJ8_stripTrailingZeros_1
theorem dksJ8_stripTrailingZeros_0 : cJ8_stripTrailingZeros.data.toList.drop 0 = dktJ8_stripTrailingZeros_0 := by decide +kernel
theorem dksJ8_stripTrailingZeros_1 : cJ8_stripTrailingZeros.data.toList.drop 23 = dktJ8_stripTrailingZeros_1 := dk_seg dksJ8_stripTrailingZeros_0 23 rfl rfl
theorem dksJ8_stripTrailingZeros_2 : cJ8_stripTrailingZeros.data.toList.drop 46 = dktJ8_stripTrailingZeros_2 := dk_seg dksJ8_stripTrailingZeros_1 23 rfl rfl
theorem dksJ8_stripTrailingZeros_3 : cJ8_stripTrailingZeros.data.toList.drop 70 = dktJ8_stripTrailingZeros_3 := dk_seg dksJ8_stripTrailingZeros_2 24 rfl rfl
theorem dJ8_stripTrailingZeros_0 : decode cJ8_stripTrailingZeros 0 = .ok (.aload_n 0, 1) := dk_42 (dk_at dksJ8_stripTrailingZeros_0 0 rfl rfl)
theorem dJ8_stripTrailingZeros_1 : decode cJ8_stripTrailingZeros 1 = .ok (.getfield 24, 3) := dk_180 0 24 (dk_at dksJ8_stripTrailingZeros_0 1 rfl rfl)
theorem dJ8_stripTrailingZeros_4 : decode cJ8_stripTrailingZeros 4 = .ok (.lconst 0, 1) := dk_9 (dk_at dksJ8_stripTrailingZeros_0 4 rfl rfl)
theorem dJ8_stripTrailingZeros_5 : decode cJ8_stripTrailingZeros 5 = .ok (.lcmp, 1) := dk_148 (dk_at dksJ8_stripTrailingZeros_0 5 rfl rfl)
theorem dJ8_stripTrailingZeros_6 : decode cJ8_stripTrailingZeros 6 = .ok (.ifCond .eq 20, 3) := dk_153 0 20 (dk_at dksJ8_stripTrailingZeros_0 6 rfl rfl)
theorem dJ8_stripTrailingZeros_9 : decode cJ8_stripTrailingZeros 9 = .ok (.aload_n 0, 1) := dk_42 (dk_at dksJ8_stripTrailingZeros_0 9 rfl rfl)
theorem dJ8_stripTrailingZeros_10 : decode cJ8_stripTrailingZeros 10 = .ok (.getfield 28, 3) := dk_180 0 28 (dk_at dksJ8_stripTrailingZeros_0 10 rfl rfl)
theorem dJ8_stripTrailingZeros_13 : decode cJ8_stripTrailingZeros 13 = .ok (.ifnull 17, 3) := dk_198 0 17 (dk_at dksJ8_stripTrailingZeros_0 13 rfl rfl)
theorem dJ8_stripTrailingZeros_16 : decode cJ8_stripTrailingZeros 16 = .ok (.aload_n 0, 1) := dk_42 (dk_at dksJ8_stripTrailingZeros_0 16 rfl rfl)
theorem dJ8_stripTrailingZeros_17 : decode cJ8_stripTrailingZeros 17 = .ok (.getfield 28, 3) := dk_180 0 28 (dk_at dksJ8_stripTrailingZeros_0 17 rfl rfl)
theorem dJ8_stripTrailingZeros_20 : decode cJ8_stripTrailingZeros 20 = .ok (.invokevirtual 598, 3) := dk_182 2 86 (dk_at dksJ8_stripTrailingZeros_0 20 rfl rfl)
theorem dJ8_stripTrailingZeros_23 : decode cJ8_stripTrailingZeros 23 = .ok (.ifCond .ne 7, 3) := dk_154 0 7 (dk_at dksJ8_stripTrailingZeros_1 0 rfl rfl)
theorem dJ8_stripTrailingZeros_26 : decode cJ8_stripTrailingZeros 26 = .ok (.getstatic 526, 3) := dk_178 2 14 (dk_at dksJ8_stripTrailingZeros_1 3 rfl rfl)
theorem dJ8_stripTrailingZeros_29 : decode cJ8_stripTrailingZeros 29 = .ok (.areturn, 1) := dk_176 (dk_at dksJ8_stripTrailingZeros_1 6 rfl rfl)
theorem dJ8_stripTrailingZeros_30 : decode cJ8_stripTrailingZeros 30 = .ok (.aload_n 0, 1) := dk_42 (dk_at dksJ8_stripTrailingZeros_1 7 rfl rfl)
theorem dJ8_stripTrailingZeros_31 : decode cJ8_stripTrailingZeros 31 = .ok (.getfield 24, 3) := dk_180 0 24 (dk_at dksJ8_stripTrailingZeros_1 8 rfl rfl)
theorem dJ8_stripTrailingZeros_34 : decode cJ8_stripTrailingZeros 34 = .ok (.ldc2_w 125, 3) := dk_20 0 125 (dk_at dksJ8_stripTrailingZeros_1 11 rfl rfl)
theorem dJ8_stripTrailingZeros_37 : decode cJ8_stripTrailingZeros 37 = .ok (.lcmp, 1) := dk_148 (dk_at dksJ8_stripTrailingZeros_1 14 rfl rfl)
theorem dJ8_stripTrailingZeros_38 : decode cJ8_stripTrailingZeros 38 = .ok (.ifCond .eq 18, 3) := dk_153 0 18 (dk_at dksJ8_stripTrailingZeros_1 15 rfl rfl)
theorem dJ8_stripTrailingZeros_41 : decode cJ8_stripTrailingZeros 41 = .ok (.aload_n 0, 1) := dk_42 (dk_at dksJ8_stripTrailingZeros_1 18 rfl rfl)
theorem dJ8_stripTrailingZeros_42 : decode cJ8_stripTrailingZeros 42 = .ok (.getfield 24, 3) := dk_180 0 24 (dk_at dksJ8_stripTrailingZeros_1 19 rfl rfl)
theorem dJ8_stripTrailingZeros_45 : decode cJ8_stripTrailingZeros 45 = .ok (.aload_n 0, 1) := dk_42 (dk_at dksJ8_stripTrailingZeros_1 22 rfl rfl)
theorem dJ8_stripTrailingZeros_46 : decode cJ8_stripTrailingZeros 46 = .ok (.getfield 17, 3) := dk_180 0 17 (dk_at dksJ8_stripTrailingZeros_2 0 rfl rfl)
theorem dJ8_stripTrailingZeros_49 : decode cJ8_stripTrailingZeros 49 = .ok (.ldc2_w 125, 3) := dk_20 0 125 (dk_at dksJ8_stripTrailingZeros_2 3 rfl rfl)
theorem dJ8_stripTrailingZeros_52 : decode cJ8_stripTrailingZeros 52 = .ok (.invokestatic 621, 3) := dk_184 2 109 (dk_at dksJ8_stripTrailingZeros_2 6 rfl rfl)
theorem dJ8_stripTrailingZeros_55 : decode cJ8_stripTrailingZeros 55 = .ok (.areturn, 1) := dk_176 (dk_at dksJ8_stripTrailingZeros_2 9 rfl rfl)
theorem dJ8_stripTrailingZeros_56 : decode cJ8_stripTrailingZeros 56 = .ok (.aload_n 0, 1) := dk_42 (dk_at dksJ8_stripTrailingZeros_2 10 rfl rfl)
theorem dJ8_stripTrailingZeros_57 : decode cJ8_stripTrailingZeros 57 = .ok (.getfield 28, 3) := dk_180 0 28 (dk_at dksJ8_stripTrailingZeros_2 11 rfl rfl)
theorem dJ8_stripTrailingZeros_60 : decode cJ8_stripTrailingZeros 60 = .ok (.aload_n 0, 1) := dk_42 (dk_at dksJ8_stripTrailingZeros_2 14 rfl rfl)
theorem dJ8_stripTrailingZeros_61 : decode cJ8_stripTrailingZeros 61 = .ok (.getfield 17, 3) := dk_180 0 17 (dk_at dksJ8_stripTrailingZeros_2 15 rfl rfl)
theorem dJ8_stripTrailingZeros_64 : decode cJ8_stripTrailingZeros 64 = .ok (.ldc2_w 125, 3) := dk_20 0 125 (dk_at dksJ8_stripTrailingZeros_2 18 rfl rfl)
theorem dJ8_stripTrailingZeros_67 : decode cJ8_stripTrailingZeros 67 = .ok (.invokestatic 625, 3) := dk_184 2 113 (dk_at dksJ8_stripTrailingZeros_2 21 rfl rfl)
theorem dJ8_stripTrailingZeros_70 : decode cJ8_stripTrailingZeros 70 = .ok (.areturn, 1) := dk_176 (dk_at dksJ8_stripTrailingZeros_3 0 rfl rfl)
def dkwJ8_createAndStripZerosToMatchScale_2 : List UInt8 := [20, 0, 56, 109, 63, 30, 28, 133, 10, 101, 184, 3, 226, 61, 167, 255, 195, 30, 28, 184, 1, 72, 176]
abbrev dktJ8_createAndStripZerosToMatchScale_2 : List UInt8 := dkwJ8_createAndStripZerosToMatchScale_2 ++ []
def dkwJ8_createAndStripZerosToMatchScale_1 : List UInt8 := [153, 0, 6, 167, 0, 38, 30, 20, 0, 56, 113, 55, 5, 22, 5, 9, 148, 153, 0, 6, 167, 0, 21, 30]
abbrev dktJ8_createAndStripZerosToMatchScale_1 : List UInt8 := dkwJ8_createAndStripZerosToMatchScale_1 ++ dktJ8_createAndStripZerosToMatchScale_2
def dkwJ8_createAndStripZerosToMatchScale_0 : List UInt8 := [30, 184, 1, 184, 20, 0, 56, 148, 155, 0, 56, 28, 133, 33, 148, 158, 0, 49, 30, 10, 127, 9, 148]
abbrev dktJ8_createAndStripZerosToMatchScale_0 : List UInt8 := dkwJ8_createAndStripZerosToMatchScale_0 ++ dktJ8_createAndStripZerosToMatchScale_1
theorem dksJ8_createAndStripZerosToMatchScale_0 : cJ8_createAndStripZerosToMatchScale.data.toList.drop 0 = dktJ8_createAndStripZerosToMatchScale_0 := by decide +kernel
theorem dksJ8_createAndStripZerosToMatchScale_1 : cJ8_createAndStripZerosToMatchScale.data.toList.drop 23 = dktJ8_createAndStripZerosToMatchScale_1 := dk_seg dksJ8_createAndStripZerosToMatchScale_0 23 rfl rfl
theorem dksJ8_createAndStripZerosToMatchScale_2 : cJ8_createAndStripZerosToMatchScale.data.toList.drop 47 = dktJ8_createAndStripZerosToMatchScale_2 := dk_seg dksJ8_createAndStripZerosToMatchScale_1 24 rfl rfl
theorem dJ8_createAndStripZerosToMatchScale_0 : decode cJ8_createAndStripZerosToMatchScale 0 = .ok (.lload_n 0, 1) := dk_30 (dk_at dksJ8_createAndStripZerosToMatchScale_0 0 rfl rfl)
theorem dJ8_createAndStripZerosToMatchScale_1 : decode cJ8_createAndStripZerosToMatchScale 1 = .ok (.invokestatic 440, 3) := dk_184 1 184 (dk_at dksJ8_createAndStripZerosToMatchScale_0 1 rfl rfl)
theorem dJ8_createAndStripZerosToMatchScale_4 : decode cJ8_createAndStripZerosToMatchScale 4 = .ok (.ldc2_w 56, 3) := dk_20 0 56 (dk_at dksJ8_createAndStripZerosToMatchScale_0 4 rfl rfl)
theorem dJ8_createAndStripZerosToMatchScale_7 : decode cJ8_createAndStripZerosToMatchScale 7 = .ok (.lcmp, 1) := dk_148 (dk_at dksJ8_createAndStripZerosToMatchScale_0 7 rfl rfl)
theorem dJ8_createAndStripZerosToMatchScale_8 : decode cJ8_createAndStripZerosToMatchScale 8 = .ok (.ifCond .lt 56, 3) := dk_155 0 56 (dk_at dksJ8_createAndStripZerosToMatchScale_0 8 rfl rfl)
theorem dJ8_createAndStripZerosToMatchScale_11 : decode cJ8_createAndStripZerosToMatchScale 11 = .ok (.iload_n 2, 1) := dk_28 (dk_at dksJ8_createAndStripZerosToMatchScale_0 11 rfl rfl)
theorem dJ8_createAndStripZerosToMatchScale_12 : decode cJ8_createAndStripZerosToMatchScale 12 = .ok (.i2l, 1) := dk_133 (dk_at dksJ8_createAndStripZerosToMatchScale_0 12 rfl rfl)
theorem dJ8_createAndStripZerosToMatchScale_13 : decode cJ8_createAndStripZerosToMatchScale 13 = .ok (.lload_n 3, 1) := dk_33 (dk_at dksJ8_createAndStripZerosToMatchScale_0 13 rfl rfl)
theorem dJ8_createAndStripZerosToMatchScale_14 : decode cJ8_createAndStripZerosToMatchScale 14 = .ok (.lcmp, 1) := dk_148 (dk_at dksJ8_createAndStripZerosToMatchScale_0 14 rfl rfl)
theorem dJ8_createAndStripZerosToMatchScale_15 : decode cJ8_createAndStripZerosToMatchScale 15 = .ok (.ifCond .le 49, 3) := dk_158 0 49 (dk_at dksJ8_createAndStripZerosToMatchScale_0 15 rfl rfl)
theorem dJ8_createAndStripZerosToMatchScale_18 : decode cJ8_createAndStripZerosToMatchScale 18 = .ok (.lload_n 0, 1) := dk_30 (dk_at dksJ8_createAndStripZerosToMatchScale_0 18 rfl rfl)
theorem dJ8_createAndStripZerosToMatchScale_19 : decode cJ8_createAndStripZerosToMatchScale 19 = .ok (.lconst 1, 1) := dk_10 (dk_at dksJ8_createAndStripZerosToMatchScale_0 19 rfl rfl)
theorem dJ8_createAndStripZerosToMatchScale_20 : decode cJ8_createAndStripZerosToMatchScale 20 = .ok (.land, 1) := dk_127 (dk_at dksJ8_createAndStripZerosToMatchScale_0 20 rfl rfl)
theorem dJ8_createAndStripZerosToMatchScale_21 : decode cJ8_createAndStripZerosToMatchScale 21 = .ok (.lconst 0, 1) := dk_9 (dk_at dksJ8_createAndStripZerosToMatchScale_0 21 rfl rfl)
theorem dJ8_createAndStripZerosToMatchScale_22 : decode cJ8_createAndStripZerosToMatchScale 22 = .ok (.lcmp, 1) := dk_148 (dk_at dksJ8_createAndStripZerosToMatchScale_0 22 rfl rfl)
theorem dJ8_createAndStripZerosToMatchScale_23 : decode cJ8_createAndStripZerosToMatchScale 23 = .ok (.ifCond .eq 6, 3) := dk_153 0 6 (dk_at dksJ8_createAndStripZerosToMatchScale_1 0 rfl rfl)
theorem dJ8_createAndStripZerosToMatchScale_26 : decode cJ8_createAndStripZerosToMatchScale 26 = .ok (.goto 38, 3) := dk_167 0 38 (dk_at dksJ8_createAndStripZerosToMatchScale_1 3 rfl rfl)
theorem dJ8_createAndStripZerosToMatchScale_29 : decode cJ8_createAndStripZerosToMatchScale 29 = .ok (.lload_n 0, 1) := dk_30 (dk_at dksJ8_createAndStripZerosToMatchScale_1 6 rfl rfl)
theorem dJ8_createAndStripZerosToMatchScale_30 : decode cJ8_createAndStripZerosToMatchScale 30 = .ok (.ldc2_w 56, 3) := dk_20 0 56 (dk_at dksJ8_createAndStripZerosToMatchScale_1 7 rfl rfl)
theorem dJ8_createAndStripZerosToMatchScale_33 : decode cJ8_createAndStripZerosToMatchScale 33 = .ok (.lrem, 1) := dk_113 (dk_at dksJ8_createAndStripZerosToMatchScale_1 10 rfl rfl)
theorem dJ8_createAndStripZerosToMatchScale_34 : decode cJ8_createAndStripZerosToMatchScale 34 = .ok (.lstore 5, 2) := dk_55 5 (dk_at dksJ8_createAndStripZerosToMatchScale_1 11 rfl rfl)
theorem dJ8_createAndStripZerosToMatchScale_36 : decode cJ8_createAndStripZerosToMatchScale 36 = .ok (.lload 5, 2) := dk_22 5 (dk_at dksJ8_createAndStripZerosToMatchScale_1 13 rfl rfl)
theorem dJ8_createAndStripZerosToMatchScale_38 : decode cJ8_createAndStripZerosToMatchScale 38 = .ok (.lconst 0, 1) := dk_9 (dk_at dksJ8_createAndStripZerosToMatchScale_1 15 rfl rfl)
theorem dJ8_createAndStripZerosToMatchScale_39 : decode cJ8_createAndStripZerosToMatchScale 39 = .ok (.lcmp, 1) := dk_148 (dk_at dksJ8_createAndStripZerosToMatchScale_1 16 rfl rfl)
theorem dJ8_createAndStripZerosToMatchScale_40 : decode cJ8_createAndStripZerosToMatchScale 40 = .ok (.ifCond .eq 6, 3) := dk_153 0 6 (dk_at dksJ8_createAndStripZerosToMatchScale_1 17 rfl rfl)
theorem dJ8_createAndStripZerosToMatchScale_43 : decode cJ8_createAndStripZerosToMatchScale 43 = .ok (.goto 21, 3) := dk_167 0 21 (dk_at dksJ8_createAndStripZerosToMatchScale_1 20 rfl rfl)
theorem dJ8_createAndStripZerosToMatchScale_46 : decode cJ8_createAndStripZerosToMatchScale 46 = .ok (.lload_n 0, 1) := dk_30 (dk_at dksJ8_createAndStripZerosToMatchScale_1 23 rfl rfl)
theorem dJ8_createAndStripZerosToMatchScale_47 : decode cJ8_createAndStripZerosToMatchScale 47 = .ok (.ldc2_w 56, 3) := dk_20 0 56 (dk_at dksJ8_createAndStripZerosToMatchScale_2 0 rfl rfl)
theorem dJ8_createAndStripZerosToMatchScale_50 : decode cJ8_createAndStripZerosToMatchScale 50 = .ok (.ldiv, 1) := dk_109 (dk_at dksJ8_createAndStripZerosToMatchScale_2 3 rfl rfl)
theorem dJ8_createAndStripZerosToMatchScale_51 : decode cJ8_createAndStripZerosToMatchScale 51 = .ok (.lstore_n 0, 1) := dk_63 (dk_at dksJ8_createAndStripZerosToMatchScale_2 4 rfl rfl)
theorem dJ8_createAndStripZerosToMatchScale_52 : decode cJ8_createAndStripZerosToMatchScale 52 = .ok (.lload_n 0, 1) := dk_30 (dk_at dksJ8_createAndStripZerosToMatchScale_2 5 rfl rfl)
theorem dJ8_createAndStripZerosToMatchScale_53 : decode cJ8_createAndStripZerosToMatchScale 53 = .ok (.iload_n 2, 1) := dk_28 (dk_at dksJ8_createAndStripZerosToMatchScale_2 6 rfl rfl)
theorem dJ8_createAndStripZerosToMatchScale_54 : decode cJ8_createAndStripZerosToMatchScale 54 = .ok (.i2l, 1) := dk_133 (dk_at dksJ8_createAndStripZerosToMatchScale_2 7 rfl rfl)
theorem dJ8_createAndStripZerosToMatchScale_55 : decode cJ8_createAndStripZerosToMatchScale 55 = .ok (.lconst 1, 1) := dk_10 (dk_at dksJ8_createAndStripZerosToMatchScale_2 8 rfl rfl)
theorem dJ8_createAndStripZerosToMatchScale_56 : decode cJ8_createAndStripZerosToMatchScale 56 = .ok (.lsub, 1) := dk_101 (dk_at dksJ8_createAndStripZerosToMatchScale_2 9 rfl rfl)
theorem dJ8_createAndStripZerosToMatchScale_57 : decode cJ8_createAndStripZerosToMatchScale 57 = .ok (.invokestatic 994, 3) := dk_184 3 226 (dk_at dksJ8_createAndStripZerosToMatchScale_2 10 rfl rfl)
theorem dJ8_createAndStripZerosToMatchScale_60 : decode cJ8_createAndStripZerosToMatchScale 60 = .ok (.istore_n 2, 1) := dk_61 (dk_at dksJ8_createAndStripZerosToMatchScale_2 13 rfl rfl)
theorem dJ8_createAndStripZerosToMatchScale_61 : decode cJ8_createAndStripZerosToMatchScale 61 = .ok (.goto (-61), 3) := dk_167 255 195 (dk_at dksJ8_createAndStripZerosToMatchScale_2 14 rfl rfl)
theorem dJ8_createAndStripZerosToMatchScale_64 : decode cJ8_createAndStripZerosToMatchScale 64 = .ok (.lload_n 0, 1) := dk_30 (dk_at dksJ8_createAndStripZerosToMatchScale_2 17 rfl rfl)
theorem dJ8_createAndStripZerosToMatchScale_65 : decode cJ8_createAndStripZerosToMatchScale 65 = .ok (.iload_n 2, 1) := dk_28 (dk_at dksJ8_createAndStripZerosToMatchScale_2 18 rfl rfl)
theorem dJ8_createAndStripZerosToMatchScale_66 : decode cJ8_createAndStripZerosToMatchScale 66 = .ok (.invokestatic 328, 3) := dk_184 1 72 (dk_at dksJ8_createAndStripZerosToMatchScale_2 19 rfl rfl)
theorem dJ8_createAndStripZerosToMatchScale_69 : decode cJ8_createAndStripZerosToMatchScale 69 = .ok (.areturn, 1) := dk_176 (dk_at dksJ8_createAndStripZerosToMatchScale_2 22 rfl rfl)
def dkwJ8_divideAndRound_4_5 : List UInt8 := [21, 4, 21, 6, 133, 184, 2, 109, 176, 22, 8, 21, 4, 184, 1, 72, 176]
abbrev dktJ8_divideAndRound_4_5 : List UInt8 := dkwJ8_divideAndRound_4_5 ++ []
def dkwJ8_divideAndRound_4_4 : List UInt8 := [21, 7, 133, 97, 167, 0, 5, 22, 8, 21, 4, 184, 1, 72, 176, 21, 6, 21, 4, 159, 0, 14, 22, 8]
abbrev dktJ8_divideAndRound_4_4 : List UInt8 := dkwJ8_divideAndRound_4_4 ++ dktJ8_divideAndRound_4_5
def dkwJ8_divideAndRound_4_3 : List UInt8 := [153, 0, 39, 32, 21, 5, 21, 7, 22, 8, 22, 10, 184, 3, 156, 54, 12, 21, 12, 153, 0, 12, 22, 8]
abbrev dktJ8_divideAndRound_4_3 : List UInt8 := dkwJ8_divideAndRound_4_3 ++ dktJ8_divideAndRound_4_4
def dkwJ8_divideAndRound_4_2 : List UInt8 := [156, 0, 7, 4, 167, 0, 4, 3, 160, 0, 7, 4, 167, 0, 4, 2, 54, 7, 22, 10, 9, 148]
abbrev dktJ8_divideAndRound_4_2 : List UInt8 := dkwJ8_divideAndRound_4_2 ++ dktJ8_divideAndRound_4_3
def dkwJ8_divideAndRound_4_1 : List UInt8 := [184, 1, 72, 176, 30, 32, 113, 55, 10, 30, 9, 148, 156, 0, 7, 4, 167, 0, 4, 3, 32, 9, 148]
abbrev dktJ8_divideAndRound_4_1 : List UInt8 := dkwJ8_divideAndRound_4_1 ++ dktJ8_divideAndRound_4_2
def dkwJ8_divideAndRound_4_0 : List UInt8 := [30, 32, 109, 55, 8, 21, 5, 4, 160, 0, 18, 21, 4, 21, 6, 160, 0, 11, 22, 8, 21, 4]
abbrev dktJ8_divideAndRound_4_0 : List UInt8 := dkwJ8_divideAndRound_4_0 ++ dktJ8_divideAndRound_4_1
theorem dksJ8_divideAndRound_4_0 : cJ8_divideAndRound_4.data.toList.drop 0 = dktJ8_divideAndRound_4_0 := by decide +kernel
theorem dksJ8_divideAndRound_4_1 : cJ8_divideAndRound_4.data.toList.drop 22 = dktJ8_divideAndRound_4_1 := dk_seg dksJ8_divideAndRound_4_0 22 rfl rfl
theorem dksJ8_divideAndRound_4_2 : cJ8_divideAndRound_4.data.toList.drop 45 = dktJ8_divideAndRound_4_2 := dk_seg dksJ8_divideAndRound_4_1 23 rfl rfl
theorem dksJ8_divideAndRound_4_3 : cJ8_divideAndRound_4.data.toList.drop 67 = dktJ8_divideAndRound_4_3 := dk_seg dksJ8_divideAndRound_4_2 22 rfl rfl
theorem dksJ8_divideAndRound_4_4 : cJ8_divideAndRound_4.data.toList.drop 91 = dktJ8_divideAndRound_4_4 := dk_seg dksJ8_divideAndRound_4_3 24 rfl rfl
theorem dksJ8_divideAndRound_4_5 : cJ8_divideAndRound_4.data.toList.drop 115 = dktJ8_divideAndRound_4_5 := dk_seg dksJ8_divideAndRound_4_4 24 rfl rfl
theorem dJ8_divideAndRound_4_0 : decode cJ8_divideAndRound_4 0 = .ok (.lload_n 0, 1) := dk_30 (dk_at dksJ8_divideAndRound_4_0 0 rfl rfl)
theorem dJ8_divideAndRound_4_1 : decode cJ8_divideAndRound_4 1 = .ok (.lload_n 2, 1) := dk_32 (dk_at dksJ8_divideAndRound_4_0 1 rfl rfl)
theorem dJ8_divideAndRound_4_2 : decode cJ8_divideAndRound_4 2 = .ok (.ldiv, 1) := dk_109 (dk_at dksJ8_divideAndRound_4_0 2 rfl rfl)
theorem dJ8_divideAndRound_4_3 : decode cJ8_divideAndRound_4 3 = .ok (.lstore 8, 2) := dk_55 8 (dk_at dksJ8_divideAndRound_4_0 3 rfl rfl)
theorem dJ8_divideAndRound_4_5 : decode cJ8_divideAndRound_4 5 = .ok (.iload 5, 2) := dk_21 5 (dk_at dksJ8_divideAndRound_4_0 5 rfl rfl)
theorem dJ8_divideAndRound_4_7 : decode cJ8_divideAndRound_4 7 = .ok (.iconst 1, 1) := dk_4 (dk_at dksJ8_divideAndRound_4_0 7 rfl rfl)
theorem dJ8_divideAndRound_4_8 : decode cJ8_divideAndRound_4 8 = .ok (.if_icmp .ne 18, 3) := dk_160 0 18 (dk_at dksJ8_divideAndRound_4_0 8 rfl rfl)
theorem dJ8_divideAndRound_4_11 : decode cJ8_divideAndRound_4 11 = .ok (.iload 4, 2) := dk_21 4 (dk_at dksJ8_divideAndRound_4_0 11 rfl rfl)
theorem dJ8_divideAndRound_4_13 : decode cJ8_divideAndRound_4 13 = .ok (.iload 6, 2) := dk_21 6 (dk_at dksJ8_divideAndRound_4_0 13 rfl rfl)
theorem dJ8_divideAndRound_4_15 : decode cJ8_divideAndRound_4 15 = .ok (.if_icmp .ne 11, 3) := dk_160 0 11 (dk_at dksJ8_divideAndRound_4_0 15 rfl rfl)
theorem dJ8_divideAndRound_4_18 : decode cJ8_divideAndRound_4 18 = .ok (.lload 8, 2) := dk_22 8 (dk_at dksJ8_divideAndRound_4_0 18 rfl rfl)
theorem dJ8_divideAndRound_4_20 : decode cJ8_divideAndRound_4 20 = .ok (.iload 4, 2) := dk_21 4 (dk_at dksJ8_divideAndRound_4_0 20 rfl rfl)
theorem dJ8_divideAndRound_4_22 : decode cJ8_divideAndRound_4 22 = .ok (.invokestatic 328, 3) := dk_184 1 72 (dk_at dksJ8_divideAndRound_4_1 0 rfl rfl)
theorem dJ8_divideAndRound_4_25 : decode cJ8_divideAndRound_4 25 = .ok (.areturn, 1) := dk_176 (dk_at dksJ8_divideAndRound_4_1 3 rfl rfl)
theorem dJ8_divideAndRound_4_26 : decode cJ8_divideAndRound_4 26 = .ok (.lload_n 0, 1) := dk_30 (dk_at dksJ8_divideAndRound_4_1 4 rfl rfl)
theorem dJ8_divideAndRound_4_27 : decode cJ8_divideAndRound_4 27 = .ok (.lload_n 2, 1) := dk_32 (dk_at dksJ8_divideAndRound_4_1 5 rfl rfl)
theorem dJ8_divideAndRound_4_28 : decode cJ8_divideAndRound_4 28 = .ok (.lrem, 1) := dk_113 (dk_at dksJ8_divideAndRound_4_1 6 rfl rfl)
theorem dJ8_divideAndRound_4_29 : decode cJ8_divideAndRound_4 29 = .ok (.lstore 10, 2) := dk_55 10 (dk_at dksJ8_divideAndRound_4_1 7 rfl rfl)
theorem dJ8_divideAndRound_4_31 : decode cJ8_divideAndRound_4 31 = .ok (.lload_n 0, 1) := dk_30 (dk_at dksJ8_divideAndRound_4_1 9 rfl rfl)
theorem dJ8_divideAndRound_4_32 : decode cJ8_divideAndRound_4 32 = .ok (.lconst 0, 1) := dk_9 (dk_at dksJ8_divideAndRound_4_1 10 rfl rfl)
theorem dJ8_divideAndRound_4_33 : decode cJ8_divideAndRound_4 33 = .ok (.lcmp, 1) := dk_148 (dk_at dksJ8_divideAndRound_4_1 11 rfl rfl)
theorem dJ8_divideAndRound_4_34 : decode cJ8_divideAndRound_4 34 = .ok (.ifCond .ge 7, 3) := dk_156 0 7 (dk_at dksJ8_divideAndRound_4_1 12 rfl rfl)
theorem dJ8_divideAndRound_4_37 : decode cJ8_divideAndRound_4 37 = .ok (.iconst 1, 1) := dk_4 (dk_at dksJ8_divideAndRound_4_1 15 rfl rfl)
theorem dJ8_divideAndRound_4_38 : decode cJ8_divideAndRound_4 38 = .ok (.goto 4, 3) := dk_167 0 4 (dk_at dksJ8_divideAndRound_4_1 16 rfl rfl)
theorem dJ8_divideAndRound_4_41 : decode cJ8_divideAndRound_4 41 = .ok (.iconst 0, 1) := dk_3 (dk_at dksJ8_divideAndRound_4_1 19 rfl rfl)
theorem dJ8_divideAndRound_4_42 : decode cJ8_divideAndRound_4 42 = .ok (.lload_n 2, 1) := dk_32 (dk_at dksJ8_divideAndRound_4_1 20 rfl rfl)
theorem dJ8_divideAndRound_4_43 : decode cJ8_divideAndRound_4 43 = .ok (.lconst 0, 1) := dk_9 (dk_at dksJ8_divideAndRound_4_1 21 rfl rfl)
theorem dJ8_divideAndRound_4_44 : decode cJ8_divideAndRound_4 44 = .ok (.lcmp, 1) := dk_148 (dk_at dksJ8_divideAndRound_4_1 22 rfl rfl)
theorem dJ8_divideAndRound_4_45 : decode cJ8_divideAndRound_4 45 = .ok (.ifCond .ge 7, 3) := dk_156 0 7 (dk_at dksJ8_divideAndRound_4_2 0 rfl rfl)
theorem dJ8_divideAndRound_4_48 : decode cJ8_divideAndRound_4 48 = .ok (.iconst 1, 1) := dk_4 (dk_at dksJ8_divideAndRound_4_2 3 rfl rfl)
theorem dJ8_divideAndRound_4_49 : decode cJ8_divideAndRound_4 49 = .ok (.goto 4, 3) := dk_167 0 4 (dk_at dksJ8_divideAndRound_4_2 4 rfl rfl)
theorem dJ8_divideAndRound_4_52 : decode cJ8_divideAndRound_4 52 = .ok (.iconst 0, 1) := dk_3 (dk_at dksJ8_divideAndRound_4_2 7 rfl rfl)
theorem dJ8_divideAndRound_4_53 : decode cJ8_divideAndRound_4 53 = .ok (.if_icmp .ne 7, 3) := dk_160 0 7 (dk_at dksJ8_divideAndRound_4_2 8 rfl rfl)
theorem dJ8_divideAndRound_4_56 : decode cJ8_divideAndRound_4 56 = .ok (.iconst 1, 1) := dk_4 (dk_at dksJ8_divideAndRound_4_2 11 rfl rfl)
theorem dJ8_divideAndRound_4_57 : decode cJ8_divideAndRound_4 57 = .ok (.goto 4, 3) := dk_167 0 4 (dk_at dksJ8_divideAndRound_4_2 12 rfl rfl)
theorem dJ8_divideAndRound_4_60 : decode cJ8_divideAndRound_4 60 = .ok (.iconst (-1), 1) := dk_2 (dk_at dksJ8_divideAndRound_4_2 15 rfl rfl)
theorem dJ8_divideAndRound_4_61 : decode cJ8_divideAndRound_4 61 = .ok (.istore 7, 2) := dk_54 7 (dk_at dksJ8_divideAndRound_4_2 16 rfl rfl)
theorem dJ8_divideAndRound_4_63 : decode cJ8_divideAndRound_4 63 = .ok (.lload 10, 2) := dk_22 10 (dk_at dksJ8_divideAndRound_4_2 18 rfl rfl)
theorem dJ8_divideAndRound_4_65 : decode cJ8_divideAndRound_4 65 = .ok (.lconst 0, 1) := dk_9 (dk_at dksJ8_divideAndRound_4_2 20 rfl rfl)
theorem dJ8_divideAndRound_4_66 : decode cJ8_divideAndRound_4 66 = .ok (.lcmp, 1) := dk_148 (dk_at dksJ8_divideAndRound_4_2 21 rfl rfl)
theorem dJ8_divideAndRound_4_67 : decode cJ8_divideAndRound_4 67 = .ok (.ifCond .eq 39, 3) := dk_153 0 39 (dk_at dksJ8_divideAndRound_4_3 0 rfl rfl)
theorem dJ8_divideAndRound_4_70 : decode cJ8_divideAndRound_4 70 = .ok (.lload_n 2, 1) := dk_32 (dk_at dksJ8_divideAndRound_4_3 3 rfl rfl)
theorem dJ8_divideAndRound_4_71 : decode cJ8_divideAndRound_4 71 = .ok (.iload 5, 2) := dk_21 5 (dk_at dksJ8_divideAndRound_4_3 4 rfl rfl)
theorem dJ8_divideAndRound_4_73 : decode cJ8_divideAndRound_4 73 = .ok (.iload 7, 2) := dk_21 7 (dk_at dksJ8_divideAndRound_4_3 6 rfl rfl)
theorem dJ8_divideAndRound_4_75 : decode cJ8_divideAndRound_4 75 = .ok (.lload 8, 2) := dk_22 8 (dk_at dksJ8_divideAndRound_4_3 8 rfl rfl)
theorem dJ8_divideAndRound_4_77 : decode cJ8_divideAndRound_4 77 = .ok (.lload 10, 2) := dk_22 10 (dk_at dksJ8_divideAndRound_4_3 10 rfl rfl)
theorem dJ8_divideAndRound_4_79 : decode cJ8_divideAndRound_4 79 = .ok (.invokestatic 924, 3) := dk_184 3 156 (dk_at dksJ8_divideAndRound_4_3 12 rfl rfl)
theorem dJ8_divideAndRound_4_82 : decode cJ8_divideAndRound_4 82 = .ok (.istore 12, 2) := dk_54 12 (dk_at dksJ8_divideAndRound_4_3 15 rfl rfl)
theorem dJ8_divideAndRound_4_84 : decode cJ8_divideAndRound_4 84 = .ok (.iload 12, 2) := dk_21 12 (dk_at dksJ8_divideAndRound_4_3 17 rfl rfl)
theorem dJ8_divideAndRound_4_86 : decode cJ8_divideAndRound_4 86 = .ok (.ifCond .eq 12, 3) := dk_153 0 12 (dk_at dksJ8_divideAndRound_4_3 19 rfl rfl)
theorem dJ8_divideAndRound_4_89 : decode cJ8_divideAndRound_4 89 = .ok (.lload 8, 2) := dk_22 8 (dk_at dksJ8_divideAndRound_4_3 22 rfl rfl)
theorem dJ8_divideAndRound_4_91 : decode cJ8_divideAndRound_4 91 = .ok (.iload 7, 2) := dk_21 7 (dk_at dksJ8_divideAndRound_4_4 0 rfl rfl)
theorem dJ8_divideAndRound_4_93 : decode cJ8_divideAndRound_4 93 = .ok (.i2l, 1) := dk_133 (dk_at dksJ8_divideAndRound_4_4 2 rfl rfl)
theorem dJ8_divideAndRound_4_94 : decode cJ8_divideAndRound_4 94 = .ok (.ladd, 1) := dk_97 (dk_at dksJ8_divideAndRound_4_4 3 rfl rfl)
theorem dJ8_divideAndRound_4_95 : decode cJ8_divideAndRound_4 95 = .ok (.goto 5, 3) := dk_167 0 5 (dk_at dksJ8_divideAndRound_4_4 4 rfl rfl)
theorem dJ8_divideAndRound_4_98 : decode cJ8_divideAndRound_4 98 = .ok (.lload 8, 2) := dk_22 8 (dk_at dksJ8_divideAndRound_4_4 7 rfl rfl)
theorem dJ8_divideAndRound_4_100 : decode cJ8_divideAndRound_4 100 = .ok (.iload 4, 2) := dk_21 4 (dk_at dksJ8_divideAndRound_4_4 9 rfl rfl)
theorem dJ8_divideAndRound_4_102 : decode cJ8_divideAndRound_4 102 = .ok (.invokestatic 328, 3) := dk_184 1 72 (dk_at dksJ8_divideAndRound_4_4 11 rfl rfl)
theorem dJ8_divideAndRound_4_105 : decode cJ8_divideAndRound_4 105 = .ok (.areturn, 1) := dk_176 (dk_at dksJ8_divideAndRound_4_4 14 rfl rfl)
theorem dJ8_divideAndRound_4_106 : decode cJ8_divideAndRound_4 106 = .ok (.iload 6, 2) := dk_21 6 (dk_at dksJ8_divideAndRound_4_4 15 rfl rfl)
theorem dJ8_divideAndRound_4_108 : decode cJ8_divideAndRound_4 108 = .ok (.iload 4, 2) := dk_21 4 (dk_at dksJ8_divideAndRound_4_4 17 rfl rfl)
theorem dJ8_divideAndRound_4_110 : decode cJ8_divideAndRound_4 110 = .ok (.if_icmp .eq 14, 3) := dk_159 0 14 (dk_at dksJ8_divideAndRound_4_4 19 rfl rfl)
theorem dJ8_divideAndRound_4_113 : decode cJ8_divideAndRound_4 113 = .ok (.lload 8, 2) := dk_22 8 (dk_at dksJ8_divideAndRound_4_4 22 rfl rfl)
theorem dJ8_divideAndRound_4_115 : decode cJ8_divideAndRound_4 115 = .ok (.iload 4, 2) := dk_21 4 (dk_at dksJ8_divideAndRound_4_5 0 rfl rfl)
theorem dJ8_divideAndRound_4_117 : decode cJ8_divideAndRound_4 117 = .ok (.iload 6, 2) := dk_21 6 (dk_at dksJ8_divideAndRound_4_5 2 rfl rfl)
theorem dJ8_divideAndRound_4_119 : decode cJ8_divideAndRound_4 119 = .ok (.i2l, 1) := dk_133 (dk_at dksJ8_divideAndRound_4_5 4 rfl rfl)
theorem dJ8_divideAndRound_4_120 : decode cJ8_divideAndRound_4 120 = .ok (.invokestatic 621, 3) := dk_184 2 109 (dk_at dksJ8_divideAndRound_4_5 5 rfl rfl)
theorem dJ8_divideAndRound_4_123 : decode cJ8_divideAndRound_4 123 = .ok (.areturn, 1) := dk_176 (dk_at dksJ8_divideAndRound_4_5 8 rfl rfl)
theorem dJ8_divideAndRound_4_124 : decode cJ8_divideAndRound_4 124 = .ok (.lload 8, 2) := dk_22 8 (dk_at dksJ8_divideAndRound_4_5 9 rfl rfl)
theorem dJ8_divideAndRound_4_126 : decode cJ8_divideAndRound_4 126 = .ok (.iload 4, 2) := dk_21 4 (dk_at dksJ8_divideAndRound_4_5 11 rfl rfl)
theorem dJ8_divideAndRound_4_128 : decode cJ8_divideAndRound_4 128 = .ok (.invokestatic 328, 3) := dk_184 1 72 (dk_at dksJ8_divideAndRound_4_5 13 rfl rfl)
theorem dJ8_divideAndRound_4_131 : decode cJ8_divideAndRound_4 131 = .ok (.areturn, 1) := dk_176 (dk_at dksJ8_divideAndRound_4_5 16 rfl rfl)
/-- a rounding mode's number, as the sign that Tillhouse has for it -/
def mcO (m : Int) : Int := if m = 0 then 117 else if m = 1 then 100 else if m = 2 then 99 else if m = 3 then 102 else if m = 4 then 104 else if m = 5 then 108 else if m = 6 then 101 else 110
def cnI (m sg cf od : Int) : Int := if m = 0 then 1 else if m = 1 then 0 else if m = 2 then (if 0 < sg then 1 else 0) else if m = 3 then (if sg < 0 then 1 else 0) else if cf < 0 then 0 else if 0 < cf then 1 else if m = 4 then 1 else if m = 5 then 0 else od
theorem cnI_01 {m sg cf od : Int} (h : od = 0 ∨ od = 1) : cnI m sg cf od = 0 ∨ cnI m sg cf od = 1 := by unfold cnI; (repeat' split) <;> omega
theorem cnI_upI {m sg ng : Int} {q r v : Nat} (hm : 0 ≤ m ∧ m ≤ 6) (hs : (sg = 1 ∧ ng = 0) ∨ (sg = -1 ∧ ng = 1)) (od : Int) (ho : od = ((q % 2 : Nat) : Int)) : cnI m sg (cmpI (2 * r) v) od = upI (mcO m) ng q r v := by
  have hc := cmpI_cases (2 * r) v
  rcases (show m = 0 ∨ m = 1 ∨ m = 2 ∨ m = 3 ∨ m = 4 ∨ m = 5 ∨ m = 6 by omega) with e | e | e | e | e | e | e <;> subst e
  · show 1 = upI 117 ng q r v; rw [upI_117]
  · show 0 = upI 100 ng q r v; rw [upI_d (by decide)]
  · show (if 0 < sg then (1 : Int) else 0) = upI 99 ng q r v; rw [upI_99]; split <;> omega
  · show (if sg < 0 then (1 : Int) else 0) = upI 102 ng q r v; rw [upI_102]; split <;> omega
  · show (if cmpI (2 * r) v < 0 then (0 : Int) else if 0 < cmpI (2 * r) v then 1 else 1) = upI 104 ng q r v; rw [upI_104]; (repeat' split) <;> omega
  · show (if cmpI (2 * r) v < 0 then (0 : Int) else if 0 < cmpI (2 * r) v then 1 else 0) = upI 108 ng q r v; rw [upI_108]; (repeat' split) <;> omega
  · show (if cmpI (2 * r) v < 0 then (0 : Int) else if 0 < cmpI (2 * r) v then 1 else od) = upI 101 ng q r v; rw [upI_101]; (repeat' split) <;> omega
/-- a quotient, rounded -/
def rdV (x d m : Int) : Int := sgn (xrI x d) (rnd (mcO m) (xrI x d) x.natAbs d.natAbs)
def rdF (x d m : Int) : Bool := rfd (mcO m) x.natAbs d.natAbs
theorem xrI_1o (x d : Int) : xrI x d = 0 ∨ xrI x d = 1 := by unfold xrI; split <;> omega
theorem sgn_z (n : Nat) : sgn 0 n = n := rfl
theorem sgn_o (n : Nat) : sgn 1 n = -(n : Int) := rfl
theorem td_sgn {x d : Int} (hd : d ≠ 0) : x.tdiv d = sgn (xrI x d) (x.natAbs / d.natAbs) := by
  have h := Int.natAbs_tdiv x d
  have e : (x.natAbs.div d.natAbs) = x.natAbs / d.natAbs := rfl
  rw [e] at h
  by_cases c : (x < 0 ∧ d < 0) ∨ (0 ≤ x ∧ 0 ≤ d)
  · rw [xrI_0 c, sgn_z]
    have : 0 ≤ x.tdiv d := by
      rcases c with c | c
      · rw [← Int.neg_tdiv_neg]; exact Int.tdiv_nonneg (by omega) (by omega)
      · exact Int.tdiv_nonneg c.1 c.2
    omega
  · rw [xrI_1 (by omega), sgn_o]
    have : x.tdiv d ≤ 0 := by
      rcases Int.lt_or_le x 0 with k | k
      · have h2 := Int.tdiv_nonneg (a := -x) (b := d) (by omega) (by omega)
        rw [Int.neg_tdiv] at h2; omega
      · have h2 := Int.tdiv_nonneg (a := x) (b := -d) (by omega) (by omega)
        rw [Int.tdiv_neg] at h2; omega
    omega
theorem tm_abs (x d : Int) : (x.tmod d).natAbs = x.natAbs % d.natAbs := Int.natAbs_tmod x d
theorem rd_0 {x d m : Int} (hd : d ≠ 0) (h : x.tmod d = 0) : x.tdiv d = rdV x d m ∧ rdF x d m = false := by
  have h1 := tm_abs x d
  rw [h] at h1
  have h2 : x.natAbs % d.natAbs = 0 := by rw [← h1]; rfl
  unfold rdV rdF
  rw [rnd_0 h2, td_sgn hd]
  exact ⟨rfl, by simp [rfd, h2]⟩
theorem rd_7 {x d : Int} (h : x.tmod d ≠ 0) : rdF x d 7 = true := by
  have h1 := tm_abs x d
  have h2 : x.natAbs % d.natAbs ≠ 0 := by omega
  unfold rdF rfd
  simp [mcO, h2]
theorem rd_n {x d m : Int} (hm : 0 ≤ m ∧ m ≤ 7) (h7 : m ≠ 7) : rdF x d m = false := by
  unfold rdF rfd
  have : mcO m ≠ 110 := by unfold mcO; (repeat' split) <;> omega
  simp [this]
theorem rd_1 {x d : Int} (hd : d ≠ 0) : x.tdiv d = rdV x d 1 := by
  unfold rdV
  rw [rnd_2 (show upI (mcO 1) _ _ _ _ = 0 from upI_d (by decide)), td_sgn hd]
theorem rd_c {x d m sg : Int} (hd : d ≠ 0) (hm : 0 ≤ m ∧ m ≤ 7) (h7 : m ≠ 7) (h : x.tmod d ≠ 0) (hs : (sg = 1 ∧ xrI x d = 0) ∨ (sg = -1 ∧ xrI x d = 1)) : (cnI m sg (cmpI (2 * (x.tmod d).natAbs) d.natAbs) (x.tdiv d % 2) = 1 → x.tdiv d + sg = rdV x d m) ∧ (cnI m sg (cmpI (2 * (x.tmod d).natAbs) d.natAbs) (x.tdiv d % 2) = 0 → x.tdiv d = rdV x d m) := by
  have h1 := tm_abs x d
  have h2 : x.natAbs % d.natAbs ≠ 0 := by omega
  have h3 := td_sgn (x := x) hd
  have h4 : x.tdiv d % 2 = ((x.natAbs / d.natAbs % 2 : Nat) : Int) := by
    rw [h3]
    rcases xrI_1o x d with e | e <;> rw [e]
    · rw [sgn_z]; omega
    · rw [sgn_o]; omega
  have h5 := cnI_upI (m := m) (sg := sg) (ng := xrI x d) (q := x.natAbs / d.natAbs) (r := x.natAbs % d.natAbs) (v := d.natAbs) (by omega) hs _ h4
  rw [h1, h5]
  unfold rdV
  rw [h3]
  refine ⟨fun q => ?_, fun q => ?_⟩
  · rw [rnd_1 h2 q]
    rcases hs with ⟨e, e2⟩ | ⟨e, e2⟩ <;> rw [e, e2]
    · rw [sgn_z, sgn_z]; omega
    · rw [sgn_o, sgn_o]; omega
  · rw [rnd_2 q]
theorem td_rng2 {x d : Int} (hd : d ≠ 0) (hx : -9223372036854775807 ≤ x ∧ x ≤ 9223372036854775807) : -9223372036854775807 ≤ x.tdiv d ∧ x.tdiv d ≤ 9223372036854775807 ∧ (x.tmod d ≠ 0 → -4611686018427387904 ≤ x.tdiv d ∧ x.tdiv d ≤ 4611686018427387904) := by
  have h := Int.natAbs_tdiv x d
  have e : (x.natAbs.div d.natAbs) = x.natAbs / d.natAbs := rfl
  rw [e] at h
  have h2 : x.natAbs / d.natAbs ≤ x.natAbs := Nat.div_le_self _ _
  refine ⟨by omega, by omega, fun q => ?_⟩
  have h3 := tm_abs x d
  have h4 : d.natAbs ≠ 1 := fun k => by rw [k, Nat.mod_one] at h3; omega
  have h5 : x.natAbs / d.natAbs ≤ x.natAbs / 2 := Nat.div_le_div_left (by omega) (by decide)
  omega
theorem tmo_rng {x d : Int} (hd : d ≠ 0) (hx : -9223372036854775807 ≤ x ∧ x ≤ 9223372036854775807) : -9223372036854775807 ≤ x.tmod d ∧ x.tmod d ≤ 9223372036854775807 := by
  have h := tm_abs x d
  have := Nat.mod_le x.natAbs d.natAbs
  omega
theorem xr_s {x d : Int} : ((x < 0 ∧ d < 0) ∨ (0 ≤ x ∧ 0 ≤ d) → xrI x d = 0) ∧ ((x < 0 ∧ 0 ≤ d) ∨ (0 ≤ x ∧ d < 0) → xrI x d = 1) := ⟨xrI_0, xrI_1⟩
theorem fac_mul {p c k : Nat} (hp : 1 < p) (hc : 0 < c) : fac p (c * p ^ k) = fac p c + k := by
  induction k with
  | zero => rw [Nat.pow_zero, Nat.mul_one]; rfl
  | succ k ih =>
    have h0 : 0 < c * p ^ k := Nat.mul_pos hc (Nat.pow_pos (by omega))
    have e : c * p ^ (k + 1) = c * p ^ k * p := by rw [Nat.pow_succ, Nat.mul_assoc]
    rw [e, fac, dif_pos ⟨hp, Nat.mul_pos h0 (by omega), Nat.mul_mod_left _ _⟩, Nat.mul_div_cancel _ (by omega), ih]
    omega
theorem strip_end {u c : Int} {k : Nat} (h : u = c * ((10 ^ k : Nat) : Int)) (hc : c ≠ 0) (hn : c.natAbs % 10 ≠ 0) : c = stV u ∧ fac 10 u.natAbs = k := by
  have e : u.natAbs = c.natAbs * 10 ^ k := by rw [h, Int.natAbs_mul]; rfl
  have h1 := fac_mul (p := 10) (c := c.natAbs) (k := k) (by decide) (by omega)
  rw [← e, fac_0 (p := 10) (n := c.natAbs) (fun z => hn z.2.2)] at h1
  have hp : (0 : Int) < ((10 ^ k : Nat) : Int) := by have : 0 < 10 ^ k := Nat.pow_pos (by decide); omega
  have hs := sgI_mp (v := c) hp
  rw [← h] at hs
  refine ⟨?_, by omega⟩
  unfold stV
  rw [show fac 10 u.natAbs = k by omega, e, Nat.mul_div_cancel _ (Nat.pow_pos (by decide))]
  have h3 := sgI_cases c; have h4 := sgI_cases u
  unfold bl
  by_cases q : u < 0
  · rw [if_pos q, sgn_o]; omega
  · rw [if_neg q, sgn_z]; omega
theorem fac_len {u c : Int} {k : Nat} (h : u = c * ((10 ^ k : Nat) : Int)) (hc : c ≠ 0) (hu : -9223372036854775807 ≤ u ∧ u ≤ 9223372036854775807) : k ≤ 18 := by
  have e : u.natAbs = c.natAbs * 10 ^ k := by rw [h, Int.natAbs_mul]; rfl
  rcases Nat.lt_or_ge 18 k with q | q
  · have h1 : 10 ^ 19 ≤ 10 ^ k := Nat.pow_le_pow_right (by decide) (by omega)
    have h2 : 1 * 10 ^ k ≤ c.natAbs * 10 ^ k := Nat.mul_le_mul_right _ (by omega)
    have e2 : (10 : Nat) ^ 19 = 10000000000000000000 := by decide
    omega
  · exact q
theorem ten_step {u c : Int} {k : Nat} (h : u = c * ((10 ^ k : Nat) : Int)) (hr : c.tmod 10 = 0) : u = c.tdiv 10 * ((10 ^ (k + 1) : Nat) : Int) := by
  have h1 := Int.mul_tdiv_add_tmod c 10
  rw [hr, Int.add_zero] at h1
  rw [h, Nat.pow_succ, Int.natCast_mul, Int.mul_comm ((10 ^ k : Nat) : Int), ← Int.mul_assoc, Int.mul_comm (c.tdiv 10)]
  show _ = (10 : Int) * c.tdiv 10 * _
  rw [h1]
theorem nd_J8_commonNeedIncrement : yJ8_commonNeedIncrement.cls ≠ "java/lang/invoke/MethodHandle" ∧ yJ8_commonNeedIncrement.cls ≠ "java/lang/invoke/VarHandle" ∧ (parseMethodDescriptor yJ8_commonNeedIncrement.desc).map (fun d => d.parameters.length) = some 4 := by decide +kernel
set_option maxRecDepth 100000 in
set_option maxHeartbeats 16000000 in
theorem ct_J8_commonNeedIncrement {g : GG} {l : Launch} (m : Int) (sg : Int) (cf : Int) (od : Int) (hm : 0 ≤ m ∧ m ≤ 7) (hsg : sg = 1 ∨ sg = -1) (hcf : -1 ≤ cf ∧ cf ≤ 1) (hod : od = 0 ∨ od = 1) : Ct g l yJ8_commonNeedIncrement (ws_ yJ8_commonNeedIncrement cJ8_commonNeedIncrement 4 (Option.some Jvm.ClassFile.FieldType.boolean)) 6 82 1 6 [.int (jI m), .int (jI sg), .int (jI cf), .int (jI od)] [] (fun v9 Ws9 => v9 = some (.int (jI (cnI m sg cf od))) ∧ (m ≠ 7) ∧ Ws9 = []) (fun E9 Ws9 => (E9 = "java/lang/ArithmeticException" ∧ (m = 7) ∧ Ws9 = [])) := by
  refine Ct.of (cc := cJ8_commonNeedIncrement) (nL := 4) (ret := (Option.some Jvm.ClassFile.FieldType.boolean)) (by decide) rfl (Nat.le_of_ble_eq_true rfl) ?_
  intro x hg hl hPo hPx hmc hms F
  subst hg; subst hl
  refine SW.cast (L' := [(0, .int (jI m)), (1, .int (jI sg)), (2, .int (jI cf)), (3, .int (jI od))]) ?_ rfl rfl rfl
  have K83 : (4 ≤ m ∧ m ≤ 6) → SW x [] 0 0 83 [(0, .int (jI m)), (1, .int (jI sg)), (2, .int (jI cf)), (3, .int (jI od))] [] := by
    intro hm4
    refine sw_gets (n := 86) F (kaBD F.gx.1).1 q1527 (Or.inl rfl) dJ8_commonNeedIncrement_83 rfl ?_
    refine sw_if_ne (n := 89) F (by decide) (tgt := 131) dJ8_commonNeedIncrement_86 (by decide) rfl (fun c_86 => ?_) (fun c_86 => ?_)
    ·
      refine sw_iload_n (n := 132) F 2 rfl rfl dJ8_commonNeedIncrement_131 rfl ?_
      refine sw_if_ge (n := 135) F (by omega) (tgt := 137) dJ8_commonNeedIncrement_132 (by decide) rfl (fun c_132 => ?_) (fun c_132 => ?_)
      ·
        refine sw_iload_n (n := 138) F 2 rfl rfl dJ8_commonNeedIncrement_137 rfl ?_
        refine sw_if_le (n := 141) F (by omega) (tgt := 143) dJ8_commonNeedIncrement_138 (by decide) rfl (fun c_138 => ?_) (fun c_138 => ?_)
        ·
          refine sw_gets (n := 146) F (kaBD F.gx.1).1 q1527 (Or.inl rfl) dJ8_commonNeedIncrement_143 rfl ?_
          refine sw_if_ne (n := 149) F (by decide) (tgt := 161) dJ8_commonNeedIncrement_146 (by decide) rfl (fun c_146 => ?_) (fun c_146 => ?_)
          ·
            refine sw_iload_n (n := 162) F 0 rfl rfl dJ8_commonNeedIncrement_161 rfl ?_
            by_cases c_162_4 : m = 4
            ·
              refine sw_tableIn F (4) (30) (tgt := 192) (by omega) c_162_4 dJ8_commonNeedIncrement_162 (by decide) (by decide) (by decide) (by decide) ?_
              refine sw_iconst (n := 193) F (1) (by decide) dJ8_commonNeedIncrement_192 rfl ?_
              refine sw_goto F (n := 228) dJ8_commonNeedIncrement_193 (by decide) ?_
              exact sw_iret F _ rfl (by first | rfl | exact jI_nz (by omega) | exact jI_nc (by omega)) dJ8_commonNeedIncrement_228 (by rw [hPo]; exact ⟨(by congr 3; unfold cnI; (repeat' split) <;> omega), (by first | omega | assumption), rfl⟩)
            ·
              by_cases c_162_5 : m = 5
              ·
                refine sw_tableIn F (5) (26) (tgt := 188) (by omega) c_162_5 dJ8_commonNeedIncrement_162 (by decide) (by decide) (by decide) (by decide) ?_
                refine sw_iconst (n := 189) F (0) (by decide) dJ8_commonNeedIncrement_188 rfl ?_
                refine sw_goto F (n := 228) dJ8_commonNeedIncrement_189 (by decide) ?_
                exact sw_iret F _ rfl (by first | rfl | exact jI_nz (by omega) | exact jI_nc (by omega)) dJ8_commonNeedIncrement_228 (by rw [hPo]; exact ⟨(by congr 3; unfold cnI; (repeat' split) <;> omega), (by first | omega | assumption), rfl⟩)
              ·
                by_cases c_162_6 : m = 6
                ·
                  refine sw_tableIn F (6) (34) (tgt := 196) (by omega) c_162_6 dJ8_commonNeedIncrement_162 (by decide) (by decide) (by decide) (by decide) ?_
                  refine sw_iload_n (n := 197) F 3 rfl rfl dJ8_commonNeedIncrement_196 rfl ?_
                  refine sw_goto F (n := 228) dJ8_commonNeedIncrement_197 (by decide) ?_
                  exact sw_iret F _ rfl (by first | rfl | exact jI_nz (by omega) | exact jI_nc (by omega)) dJ8_commonNeedIncrement_228 (by rw [hPo]; exact ⟨(by congr 3; unfold cnI; (repeat' split) <;> omega), (by first | omega | assumption), rfl⟩)
                ·
                  exfalso; omega
          · exfalso; exact absurd c_146 (by decide)
        ·
          refine sw_iconst (n := 142) F (1) (by decide) dJ8_commonNeedIncrement_141 rfl ?_
          exact sw_iret F _ rfl (by first | rfl | exact jI_nz (by omega) | exact jI_nc (by omega)) dJ8_commonNeedIncrement_142 (by rw [hPo]; exact ⟨(by congr 3; unfold cnI; (repeat' split) <;> omega), (by first | omega | assumption), rfl⟩)
      ·
        refine sw_iconst (n := 136) F (0) (by decide) dJ8_commonNeedIncrement_135 rfl ?_
        exact sw_iret F _ rfl (by first | rfl | exact jI_nz (by omega) | exact jI_nc (by omega)) dJ8_commonNeedIncrement_136 (by rw [hPo]; exact ⟨(by congr 3; unfold cnI; (repeat' split) <;> omega), (by first | omega | assumption), rfl⟩)
    · exfalso; exact absurd c_86 (by decide)
  refine sw_iload_n (n := 1) F 0 rfl rfl dJ8_commonNeedIncrement_0 rfl ?_
  by_cases c_1_0 : m = 0
  ·
    refine sw_tableIn F (0) (58) (tgt := 59) (by omega) c_1_0 dJ8_commonNeedIncrement_1 (by decide) (by decide) (by decide) (by decide) ?_
    refine sw_iconst (n := 60) F (1) (by decide) dJ8_commonNeedIncrement_59 rfl ?_
    exact sw_iret F _ rfl (by first | rfl | exact jI_nz (by omega) | exact jI_nc (by omega)) dJ8_commonNeedIncrement_60 (by rw [hPo]; exact ⟨(by congr 3; unfold cnI; (repeat' split) <;> omega), (by first | omega | assumption), rfl⟩)
  ·
    by_cases c_1_1 : m = 1
    ·
      refine sw_tableIn F (1) (60) (tgt := 61) (by omega) c_1_1 dJ8_commonNeedIncrement_1 (by decide) (by decide) (by decide) (by decide) ?_
      refine sw_iconst (n := 62) F (0) (by decide) dJ8_commonNeedIncrement_61 rfl ?_
      exact sw_iret F _ rfl (by first | rfl | exact jI_nz (by omega) | exact jI_nc (by omega)) dJ8_commonNeedIncrement_62 (by rw [hPo]; exact ⟨(by congr 3; unfold cnI; (repeat' split) <;> omega), (by first | omega | assumption), rfl⟩)
    ·
      by_cases c_1_2 : m = 2
      ·
        refine sw_tableIn F (2) (62) (tgt := 63) (by omega) c_1_2 dJ8_commonNeedIncrement_1 (by decide) (by decide) (by decide) (by decide) ?_
        refine sw_iload_n (n := 64) F 1 rfl rfl dJ8_commonNeedIncrement_63 rfl ?_
        refine sw_if_le (n := 67) F (by omega) (tgt := 71) dJ8_commonNeedIncrement_64 (by decide) rfl (fun c_64 => ?_) (fun c_64 => ?_)
        ·
          refine sw_iconst (n := 72) F (0) (by decide) dJ8_commonNeedIncrement_71 rfl ?_
          exact sw_iret F _ rfl (by first | rfl | exact jI_nz (by omega) | exact jI_nc (by omega)) dJ8_commonNeedIncrement_72 (by rw [hPo]; exact ⟨(by congr 3; unfold cnI; (repeat' split) <;> omega), (by first | omega | assumption), rfl⟩)
        ·
          refine sw_iconst (n := 68) F (1) (by decide) dJ8_commonNeedIncrement_67 rfl ?_
          refine sw_goto F (n := 72) dJ8_commonNeedIncrement_68 (by decide) ?_
          exact sw_iret F _ rfl (by first | rfl | exact jI_nz (by omega) | exact jI_nc (by omega)) dJ8_commonNeedIncrement_72 (by rw [hPo]; exact ⟨(by congr 3; unfold cnI; (repeat' split) <;> omega), (by first | omega | assumption), rfl⟩)
      ·
        by_cases c_1_3 : m = 3
        ·
          refine sw_tableIn F (3) (72) (tgt := 73) (by omega) c_1_3 dJ8_commonNeedIncrement_1 (by decide) (by decide) (by decide) (by decide) ?_
          refine sw_iload_n (n := 74) F 1 rfl rfl dJ8_commonNeedIncrement_73 rfl ?_
          refine sw_if_ge (n := 77) F (by omega) (tgt := 81) dJ8_commonNeedIncrement_74 (by decide) rfl (fun c_74 => ?_) (fun c_74 => ?_)
          ·
            refine sw_iconst (n := 82) F (0) (by decide) dJ8_commonNeedIncrement_81 rfl ?_
            exact sw_iret F _ rfl (by first | rfl | exact jI_nz (by omega) | exact jI_nc (by omega)) dJ8_commonNeedIncrement_82 (by rw [hPo]; exact ⟨(by congr 3; unfold cnI; (repeat' split) <;> omega), (by first | omega | assumption), rfl⟩)
          ·
            refine sw_iconst (n := 78) F (1) (by decide) dJ8_commonNeedIncrement_77 rfl ?_
            refine sw_goto F (n := 82) dJ8_commonNeedIncrement_78 (by decide) ?_
            exact sw_iret F _ rfl (by first | rfl | exact jI_nz (by omega) | exact jI_nc (by omega)) dJ8_commonNeedIncrement_82 (by rw [hPo]; exact ⟨(by congr 3; unfold cnI; (repeat' split) <;> omega), (by first | omega | assumption), rfl⟩)
        ·
          by_cases c_1_7 : m = 7
          ·
            refine sw_tableIn F (7) (47) (tgt := 48) (by omega) c_1_7 dJ8_commonNeedIncrement_1 (by decide) (by decide) (by decide) (by decide) ?_
            obtain ⟨sa, hsa⟩ := x_str F q1784
            exact sw_throwSW F (names := ["java/lang/RuntimeException", "java/lang/Exception"]) (by decide +kernel) (by decide +kernel) q1292 q128 hsa (xt_J8_ArithmeticExceptionS F) xt_J8_ArithmeticExceptionS_g dJ8_commonNeedIncrement_48 dJ8_commonNeedIncrement_51 dJ8_commonNeedIncrement_52 dJ8_commonNeedIncrement_55 dJ8_commonNeedIncrement_58 ⟨by decide, by decide⟩ ⟨by omega, by omega⟩ (by rw [hPx]; exact ⟨rfl, c_1_7, rfl⟩)
          ·
            by_cases c_1_4 : m = 4
            ·
              refine sw_tableIn F (4) (82) (tgt := 83) (by omega) c_1_4 dJ8_commonNeedIncrement_1 (by decide) (by decide) (by decide) (by decide) ?_
              refine sw_room (bc2 := 0) (bs2 := 0) ⟨by omega, by omega⟩ ?_
              exact K83  (by first | omega | assumption)
            ·
              by_cases c_1_5 : m = 5
              ·
                refine sw_tableIn F (5) (82) (tgt := 83) (by omega) c_1_5 dJ8_commonNeedIncrement_1 (by decide) (by decide) (by decide) (by decide) ?_
                refine sw_room (bc2 := 0) (bs2 := 0) ⟨by omega, by omega⟩ ?_
                exact K83  (by first | omega | assumption)
              ·
                by_cases c_1_6 : m = 6
                ·
                  refine sw_tableIn F (6) (82) (tgt := 83) (by omega) c_1_6 dJ8_commonNeedIncrement_1 (by decide) (by decide) (by decide) (by decide) ?_
                  refine sw_room (bc2 := 0) (bs2 := 0) ⟨by omega, by omega⟩ ?_
                  exact K83  (by first | omega | assumption)
                ·
                  refine sw_tableOut F (tgt := 83) (by omega) dJ8_commonNeedIncrement_1 (by omega) (by decide) ?_
                  refine sw_room (bc2 := 0) (bs2 := 0) ⟨by omega, by omega⟩ ?_
                  exact K83  (by first | omega | assumption)
theorem nd_J8_needIncrement : yJ8_needIncrement.cls ≠ "java/lang/invoke/MethodHandle" ∧ yJ8_needIncrement.cls ≠ "java/lang/invoke/VarHandle" ∧ (parseMethodDescriptor yJ8_needIncrement.desc).map (fun d => d.parameters.length) = some 5 := by decide +kernel
set_option maxRecDepth 100000 in
set_option maxHeartbeats 16000000 in
theorem ct_J8_needIncrement {g : GG} {l : Launch} (d : Int) (m : Int) (sg : Int) (qq : Int) (r : Int) (hd : -9223372036854775807 ≤ d ∧ d ≤ 9223372036854775807) (hm : 0 ≤ m ∧ m ≤ 7) (hsg : sg = 1 ∨ sg = -1) (hq : -9223372036854775808 ≤ qq ∧ qq ≤ 9223372036854775807) (hr : -9223372036854775807 ≤ r ∧ r ≤ 9223372036854775807) : Ct g l yJ8_needIncrement (ws_ yJ8_needIncrement cJ8_needIncrement 9 (Option.some Jvm.ClassFile.FieldType.boolean)) 7 105 1 6 [.long (jL d), .int (jI m), .int (jI sg), .long (jL qq), .long (jL r)] [] (fun v9 Ws9 => v9 = some (.int (jI (cnI m sg (cmpI (2 * r.natAbs) d.natAbs) (qq % 2)))) ∧ (m ≠ 7) ∧ Ws9 = []) (fun E9 Ws9 => (E9 = "java/lang/ArithmeticException" ∧ (m = 7) ∧ Ws9 = [])) := by
  refine Ct.of (cc := cJ8_needIncrement) (nL := 9) (ret := (Option.some Jvm.ClassFile.FieldType.boolean)) (by decide) rfl (Nat.le_of_ble_eq_true rfl) ?_
  intro x hg hl hPo hPx hmc hms F
  subst hg; subst hl
  refine SW.cast (L' := [(0, .long (jL d)), (2, .int (jI m)), (3, .int (jI sg)), (4, .long (jL qq)), (6, .long (jL r))]) ?_ rfl rfl rfl
  refine sw_gets (n := 3) F (kaBD F.gx.1).1 q1527 (Or.inl rfl) dJ8_needIncrement_0 rfl ?_
  refine sw_if_ne (n := 6) F (by decide) (tgt := 21) dJ8_needIncrement_3 (by decide) rfl (fun c_3 => ?_) (fun c_3 => ?_)
  ·
    have K57 : ∀ (cf : Int), (cf = cmpI (2 * r.natAbs) d.natAbs) → SW x [] 1 6 57 [(0, .long (jL d)), (2, .int (jI m)), (3, .int (jI sg)), (4, .long (jL qq)), (8, .int (jI cf))] [] := by
      intro cf hcf
      have hcr := cmpI_cases (2 * r.natAbs) d.natAbs
      refine sw_iload_n (n := 58) F 1 rfl rfl dJ8_needIncrement_57 rfl ?_
      refine sw_iload_n (n := 59) F 2 rfl rfl dJ8_needIncrement_58 rfl ?_
      refine sw_iload (n := 61) F 4 rfl dJ8_needIncrement_59 rfl ?_
      refine sw_lload (n := 63) F 3 rfl dJ8_needIncrement_61 rfl ?_
      refine sw_lconst (n := 64) F 1 (by decide) dJ8_needIncrement_63 rfl ?_
      refine sw_land (n := 65) F (jL (qq % 2)) (jL_and 1 (by decide) (by rfl)) dJ8_needIncrement_64 rfl ?_
      refine sw_lconst (n := 66) F 0 (by decide) dJ8_needIncrement_65 rfl ?_
      refine sw_lcmp (n := 67) F (by omega) (by decide) dJ8_needIncrement_66 rfl ?_
      refine sw_if_eq (n := 70) F (by omega) (tgt := 74) dJ8_needIncrement_67 (by decide) rfl (fun c_67 => ?_) (fun c_67 => ?_)
      ·
        have c_67 : qq % 2 = 0 := by revert c_67; (repeat' split) <;> omega
        refine sw_iconst (n := 75) F (0) (by decide) dJ8_needIncrement_74 rfl ?_
        refine sw_callS (n := 78) F (ct_J8_commonNeedIncrement (g := xg x) (l := xl x) m sg cf 0 hm hsg (by first | omega | (rw [cmpI_gt (by omega)]) | (congr 1; omega)) (by first | omega | assumption)) q1781 q1782 q112 q1783 nd_J8_commonNeedIncrement rfl (by decide) [] rfl [] rfl 0 0 ⟨by omega, by omega⟩ [] rfl (Nat.le_of_ble_eq_true rfl) dJ8_needIncrement_75 rfl (fun E Ws h => ?_) (fun v Ws h => ?_)
        ·
          obtain ⟨rfl, h7_2, rfl⟩ := h
          show SX x [] _ _ _ _ _
          exact sx_out F (by rw [hPx]; exact ⟨rfl, h7_2, rfl⟩)
        ·
          obtain ⟨rfl, h7_1, rfl⟩ := h
          show SW x [] _ _ _ _ [.int (jI (cnI m sg cf 0))]
          have hcn1 := cnI_01 (m := m) (sg := sg) (cf := cf) (od := 1) (by omega)
          have hcn0 := cnI_01 (m := m) (sg := sg) (cf := cf) (od := 0) (by omega)
          exact sw_iret F _ rfl (by first | rfl | exact jI_nz (by omega) | exact jI_nc (by omega)) dJ8_needIncrement_78 (by rw [hPo]; exact ⟨(by rw [← hcf]; first | (rw [show qq % 2 = 1 by omega]) | (rw [show qq % 2 = 0 by omega])), h7_1, rfl⟩)
      ·
        have c_67 : qq % 2 ≠ 0 := by revert c_67; (repeat' split) <;> omega
        refine sw_iconst (n := 71) F (1) (by decide) dJ8_needIncrement_70 rfl ?_
        refine sw_goto F (n := 75) dJ8_needIncrement_71 (by decide) ?_
        refine sw_callS (n := 78) F (ct_J8_commonNeedIncrement (g := xg x) (l := xl x) m sg cf 1 hm hsg (by first | omega | (rw [cmpI_gt (by omega)]) | (congr 1; omega)) (by first | omega | assumption)) q1781 q1782 q112 q1783 nd_J8_commonNeedIncrement rfl (by decide) [] rfl [] rfl 0 0 ⟨by omega, by omega⟩ [] rfl (Nat.le_of_ble_eq_true rfl) dJ8_needIncrement_75 rfl (fun E Ws h => ?_) (fun v Ws h => ?_)
        ·
          obtain ⟨rfl, h7_4, rfl⟩ := h
          show SX x [] _ _ _ _ _
          exact sx_out F (by rw [hPx]; exact ⟨rfl, h7_4, rfl⟩)
        ·
          obtain ⟨rfl, h7_3, rfl⟩ := h
          show SW x [] _ _ _ _ [.int (jI (cnI m sg cf 1))]
          have hcn1 := cnI_01 (m := m) (sg := sg) (cf := cf) (od := 1) (by omega)
          have hcn0 := cnI_01 (m := m) (sg := sg) (cf := cf) (od := 0) (by omega)
          exact sw_iret F _ rfl (by first | rfl | exact jI_nz (by omega) | exact jI_nc (by omega)) dJ8_needIncrement_78 (by rw [hPo]; exact ⟨(by rw [← hcf]; first | (rw [show qq % 2 = 1 by omega]) | (rw [show qq % 2 = 0 by omega])), h7_3, rfl⟩)
    refine sw_lload (n := 23) F 4 rfl dJ8_needIncrement_21 rfl ?_
    refine sw_ldc2 (n := 26) F (-4611686018427387904) q1778 (by decide) dJ8_needIncrement_23 rfl ?_
    refine sw_lcmp (n := 27) F (by omega) (by decide) dJ8_needIncrement_26 rfl ?_
    refine sw_if_le (n := 30) F (by omega) (tgt := 39) dJ8_needIncrement_27 (by decide) rfl (fun c_27 => ?_) (fun c_27 => ?_)
    ·
      have c_27 : r ≤ -4611686018427387904 := by revert c_27; (repeat' split) <;> omega
      refine sw_iconst (n := 40) F (1) (by decide) dJ8_needIncrement_39 rfl ?_
      refine sw_istore (n := 42) F (L2 := [(8, .int (jI 1)), (0, .long (jL d)), (2, .int (jI m)), (3, .int (jI sg)), (4, .long (jL qq)), (6, .long (jL r))]) rfl (by decide) dJ8_needIncrement_40 rfl ?_
      refine sw_goto F (n := 57) dJ8_needIncrement_42 (by decide) ?_
      refine sw_loc [1, 2, 3, 4, 0] (L2 := [(0, .long (jL d)), (2, .int (jI m)), (3, .int (jI sg)), (4, .long (jL qq)), (8, .int (jI 1))]) rfl ?_
      exact K57 1 (by first | omega | (rw [cmpI_gt (by omega)]) | (congr 1; omega))
    ·
      have c_27 : r > -4611686018427387904 := by revert c_27; (repeat' split) <;> omega
      refine sw_lload (n := 32) F 4 rfl dJ8_needIncrement_30 rfl ?_
      refine sw_ldc2 (n := 35) F (4611686018427387903) q1779 (by decide) dJ8_needIncrement_32 rfl ?_
      refine sw_lcmp (n := 36) F (by omega) (by decide) dJ8_needIncrement_35 rfl ?_
      refine sw_if_le (n := 39) F (by omega) (tgt := 45) dJ8_needIncrement_36 (by decide) rfl (fun c_36 => ?_) (fun c_36 => ?_)
      ·
        have c_36 : r ≤ 4611686018427387903 := by revert c_36; (repeat' split) <;> omega
        refine sw_ldc2 (n := 48) F (2) q1780 (by decide) dJ8_needIncrement_45 rfl ?_
        refine sw_lload (n := 50) F 4 rfl dJ8_needIncrement_48 rfl ?_
        refine sw_lmul (n := 51) F dJ8_needIncrement_50 rfl ?_
        refine sw_lload_n (n := 52) F 0 rfl rfl dJ8_needIncrement_51 rfl ?_
        refine sw_callS (n := 55) F (ct_J8_longCompareMagnitude (g := xg x) (l := xl x) (2 * r) d (by first | omega | assumption) hd) q1549 q1550 q112 q1551 nd_J8_longCompareMagnitude rfl (by decide) [] rfl [] rfl 1 6 ⟨by omega, by omega⟩ [] rfl (Nat.le_of_ble_eq_true rfl) dJ8_needIncrement_52 rfl (fun _ _ h => h.elim) (fun v Ws h => ?_)
        obtain ⟨rfl, rfl⟩ := h
        show SW x [] _ _ _ _ [.int (jI (cmpI (2 * r).natAbs d.natAbs))]
        refine sw_istore (n := 57) F (L2 := [(8, .int (jI (cmpI (2 * r).natAbs d.natAbs))), (0, .long (jL d)), (2, .int (jI m)), (3, .int (jI sg)), (4, .long (jL qq)), (6, .long (jL r))]) rfl (by decide) dJ8_needIncrement_55 rfl ?_
        refine sw_loc [1, 2, 3, 4, 0] (L2 := [(0, .long (jL d)), (2, .int (jI m)), (3, .int (jI sg)), (4, .long (jL qq)), (8, .int (jI (cmpI (2 * r).natAbs d.natAbs)))]) rfl ?_
        exact K57 (cmpI (2 * r).natAbs d.natAbs) (by first | omega | (rw [cmpI_gt (by omega)]) | (congr 1; omega))
      ·
        have c_36 : r > 4611686018427387903 := by revert c_36; (repeat' split) <;> omega
        refine sw_iconst (n := 40) F (1) (by decide) dJ8_needIncrement_39 rfl ?_
        refine sw_istore (n := 42) F (L2 := [(8, .int (jI 1)), (0, .long (jL d)), (2, .int (jI m)), (3, .int (jI sg)), (4, .long (jL qq)), (6, .long (jL r))]) rfl (by decide) dJ8_needIncrement_40 rfl ?_
        refine sw_goto F (n := 57) dJ8_needIncrement_42 (by decide) ?_
        refine sw_loc [1, 2, 3, 4, 0] (L2 := [(0, .long (jL d)), (2, .int (jI m)), (3, .int (jI sg)), (4, .long (jL qq)), (8, .int (jI 1))]) rfl ?_
        exact K57 1 (by first | omega | (rw [cmpI_gt (by omega)]) | (congr 1; omega))
  · exfalso; exact absurd c_3 (by decide)
theorem nd_J8_divideAndRound : yJ8_divideAndRound.cls ≠ "java/lang/invoke/MethodHandle" ∧ yJ8_divideAndRound.cls ≠ "java/lang/invoke/VarHandle" ∧ (parseMethodDescriptor yJ8_divideAndRound.desc).map (fun d => d.parameters.length) = some 3 := by decide +kernel
set_option maxRecDepth 100000 in
set_option maxHeartbeats 16000000 in
theorem ct_J8_divideAndRound {g : GG} {l : Launch} (x_ : Int) (d : Int) (m : Int) (hx : -9223372036854775807 ≤ x_ ∧ x_ ≤ 9223372036854775807) (hd : -9223372036854775807 ≤ d ∧ d ≤ 9223372036854775807) (hd0 : d ≠ 0) (hm : 0 ≤ m ∧ m ≤ 7) : Ct g l yJ8_divideAndRound (ws_ yJ8_divideAndRound cJ8_divideAndRound 11 (Option.some Jvm.ClassFile.FieldType.long)) 8 133 1 6 [.long (jL x_), .long (jL d), .int (jI m)] [] (fun v9 Ws9 => v9 = some (.long (jL (rdV x_ d m))) ∧ (rdF x_ d m = false) ∧ Ws9 = []) (fun E9 Ws9 => (E9 = "java/lang/ArithmeticException" ∧ (rdF x_ d m = true) ∧ Ws9 = [])) := by
  refine Ct.of (cc := cJ8_divideAndRound) (nL := 11) (ret := (Option.some Jvm.ClassFile.FieldType.long)) (by decide) rfl (Nat.le_of_ble_eq_true rfl) ?_
  intro x hg hl hPo hPx hmc hms F
  subst hg; subst hl
  refine SW.cast (L' := [(0, .long (jL x_)), (2, .long (jL d)), (4, .int (jI m))]) ?_ rfl rfl rfl
  have hrng := td_rng2 (x := x_) (d := d) hd0 hx
  have hrm := tmo_rng (x := x_) (d := d) hd0 hx
  have hxr := xr_s (x := x_) (d := d)
  refine sw_lload_n (n := 1) F 0 rfl rfl dJ8_divideAndRound_0 rfl ?_
  refine sw_lload_n (n := 2) F 1 rfl rfl dJ8_divideAndRound_1 rfl ?_
  refine sw_ldiv (n := 3) F (by omega) (by omega) (by omega) dJ8_divideAndRound_2 rfl ?_
  refine sw_lstore (n := 5) F (L2 := [(6, .long (jL (x_.tdiv d))), (0, .long (jL x_)), (2, .long (jL d)), (4, .int (jI m))]) rfl (by decide) dJ8_divideAndRound_3 rfl ?_
  refine sw_iload (n := 7) F 3 rfl dJ8_divideAndRound_5 rfl ?_
  refine sw_iconst (n := 8) F (1) (by decide) dJ8_divideAndRound_7 rfl ?_
  refine sw_icmp_ne (n := 11) F (by omega) (by decide) (tgt := 14) dJ8_divideAndRound_8 (by decide) rfl (fun c_8 => ?_) (fun c_8 => ?_)
  ·
    refine sw_lload_n (n := 15) F 1 rfl rfl dJ8_divideAndRound_14 rfl ?_
    refine sw_lload_n (n := 16) F 2 rfl rfl dJ8_divideAndRound_15 rfl ?_
    refine sw_lrem (n := 17) F (by omega) (by omega) (by omega) dJ8_divideAndRound_16 rfl ?_
    refine sw_lstore (n := 19) F (L2 := [(8, .long (jL (x_.tmod d))), (6, .long (jL (x_.tdiv d))), (0, .long (jL x_)), (2, .long (jL d)), (4, .int (jI m))]) rfl (by decide) dJ8_divideAndRound_17 rfl ?_
    have K51 : ∀ (sg : Int), ((sg = 1 ∧ xrI x_ d = 0) ∨ (sg = -1 ∧ xrI x_ d = 1)) → SW x [] 1 6 51 [(2, .long (jL d)), (4, .int (jI m)), (5, .int (jI sg)), (6, .long (jL (x_.tdiv d))), (8, .long (jL (x_.tmod d)))] [] := by
      intro sg hsg
      refine sw_lload (n := 53) F 4 rfl dJ8_divideAndRound_51 rfl ?_
      refine sw_lconst (n := 54) F 0 (by decide) dJ8_divideAndRound_53 rfl ?_
      refine sw_lcmp (n := 55) F (by omega) (by decide) dJ8_divideAndRound_54 rfl ?_
      refine sw_if_eq (n := 58) F (by omega) (tgt := 89) dJ8_divideAndRound_55 (by decide) rfl (fun c_55 => ?_) (fun c_55 => ?_)
      ·
        have c_55 : x_.tmod d = 0 := by revert c_55; (repeat' split) <;> omega
        refine sw_lload (n := 91) F 3 rfl dJ8_divideAndRound_89 rfl ?_
        exact sw_lret F rfl dJ8_divideAndRound_91 (by rw [hPo]; exact ⟨(by rw [(rd_0 (m := m) hd0 (by omega)).1]), (by exact (rd_0 (m := m) hd0 (by omega)).2), rfl⟩)
      ·
        have c_55 : x_.tmod d ≠ 0 := by revert c_55; (repeat' split) <;> omega
        refine sw_lload_n (n := 59) F 0 rfl rfl dJ8_divideAndRound_58 rfl ?_
        refine sw_iload (n := 61) F 1 rfl dJ8_divideAndRound_59 rfl ?_
        refine sw_iload (n := 63) F 2 rfl dJ8_divideAndRound_61 rfl ?_
        refine sw_lload (n := 65) F 3 rfl dJ8_divideAndRound_63 rfl ?_
        refine sw_lload (n := 67) F 4 rfl dJ8_divideAndRound_65 rfl ?_
        refine sw_callS (n := 70) F (ct_J8_needIncrement (g := xg x) (l := xl x) d m sg (x_.tdiv d) (x_.tmod d) hd hm (by omega) (by first | omega | assumption) (by first | omega | assumption)) q1775 q1776 q112 q1777 nd_J8_needIncrement rfl (by decide) [] rfl [] rfl 0 0 ⟨by omega, by omega⟩ [] rfl (Nat.le_of_ble_eq_true rfl) dJ8_divideAndRound_67 rfl (fun E Ws h => ?_) (fun v Ws h => ?_)
        ·
          obtain ⟨rfl, h7_2, rfl⟩ := h
          show SX x [] _ _ _ _ _
          exact sx_out F (by rw [hPx]; exact ⟨rfl, (by rw [show m = 7 by assumption]; exact rd_7 (by omega)), rfl⟩)
        ·
          obtain ⟨rfl, h7_1, rfl⟩ := h
          show SW x [] _ _ _ _ [.int (jI (cnI m sg (cmpI (2 * (x_.tmod d).natAbs) d.natAbs) ((x_.tdiv d) % 2)))]
          refine sw_istore (n := 72) F (L2 := [(10, .int (jI (cnI m sg (cmpI (2 * (x_.tmod d).natAbs) d.natAbs) ((x_.tdiv d) % 2)))), (2, .long (jL d)), (4, .int (jI m)), (5, .int (jI sg)), (6, .long (jL (x_.tdiv d))), (8, .long (jL (x_.tmod d)))]) rfl (by decide) dJ8_divideAndRound_70 rfl ?_
          refine sw_iload (n := 74) F 0 rfl dJ8_divideAndRound_72 rfl ?_
          have hcn9 := cnI_01 (m := m) (sg := sg) (cf := cmpI (2 * (x_.tmod d).natAbs) d.natAbs) (od := x_.tdiv d % 2) (by omega)
          refine sw_if_eq (n := 77) F (by omega) (tgt := 86) dJ8_divideAndRound_74 (by decide) rfl (fun c_74 => ?_) (fun c_74 => ?_)
          ·
            refine sw_lload (n := 88) F 4 rfl dJ8_divideAndRound_86 rfl ?_
            exact sw_lret F rfl dJ8_divideAndRound_88 (by rw [hPo]; exact ⟨(by first | (rw [(rd_c hd0 hm (by assumption) (by assumption) hsg).1 (by have := cnI_01 (m := m) (sg := sg) (cf := cmpI (2 * (x_.tmod d).natAbs) d.natAbs) (od := x_.tdiv d % 2) (by omega); omega)]) | (rw [(rd_c hd0 hm (by assumption) (by assumption) hsg).2 (by omega)])), (by exact rd_n hm (by assumption)), rfl⟩)
          ·
            refine sw_lload (n := 79) F 4 rfl dJ8_divideAndRound_77 rfl ?_
            refine sw_iload (n := 81) F 3 rfl dJ8_divideAndRound_79 rfl ?_
            refine sw_i2l (n := 82) F (by omega) dJ8_divideAndRound_81 rfl ?_
            refine sw_ladd (n := 83) F dJ8_divideAndRound_82 rfl ?_
            refine sw_goto F (n := 88) dJ8_divideAndRound_83 (by decide) ?_
            exact sw_lret F rfl dJ8_divideAndRound_88 (by rw [hPo]; exact ⟨(by first | (rw [(rd_c hd0 hm (by assumption) (by assumption) hsg).1 (by have := cnI_01 (m := m) (sg := sg) (cf := cmpI (2 * (x_.tmod d).natAbs) d.natAbs) (od := x_.tdiv d % 2) (by omega); omega)]) | (rw [(rd_c hd0 hm (by assumption) (by assumption) hsg).2 (by omega)])), (by exact rd_n hm (by assumption)), rfl⟩)
    refine sw_lload_n (n := 20) F 2 rfl rfl dJ8_divideAndRound_19 rfl ?_
    refine sw_lconst (n := 21) F 0 (by decide) dJ8_divideAndRound_20 rfl ?_
    refine sw_lcmp (n := 22) F (by omega) (by decide) dJ8_divideAndRound_21 rfl ?_
    refine sw_if_ge (n := 25) F (by omega) (tgt := 29) dJ8_divideAndRound_22 (by decide) rfl (fun c_22 => ?_) (fun c_22 => ?_)
    ·
      have c_22 : x_ ≥ 0 := by revert c_22; (repeat' split) <;> omega
      refine sw_iconst (n := 30) F (0) (by decide) dJ8_divideAndRound_29 rfl ?_
      refine sw_lload_n (n := 31) F 3 rfl rfl dJ8_divideAndRound_30 rfl ?_
      refine sw_lconst (n := 32) F 0 (by decide) dJ8_divideAndRound_31 rfl ?_
      refine sw_lcmp (n := 33) F (by omega) (by decide) dJ8_divideAndRound_32 rfl ?_
      refine sw_if_ge (n := 36) F (by omega) (tgt := 40) dJ8_divideAndRound_33 (by decide) rfl (fun c_33 => ?_) (fun c_33 => ?_)
      ·
        have c_33 : d ≥ 0 := by revert c_33; (repeat' split) <;> omega
        refine sw_iconst (n := 41) F (0) (by decide) dJ8_divideAndRound_40 rfl ?_
        refine sw_icmp_ne (n := 44) F (by decide) (by decide) (tgt := 48) dJ8_divideAndRound_41 (by decide) rfl (fun c_41 => ?_) (fun c_41 => ?_)
        · exfalso; exact absurd c_41 (by decide)
        ·
          refine sw_iconst (n := 45) F (1) (by decide) dJ8_divideAndRound_44 rfl ?_
          refine sw_goto F (n := 49) dJ8_divideAndRound_45 (by decide) ?_
          refine sw_istore (n := 51) F (L2 := [(5, .int (jI 1)), (8, .long (jL (x_.tmod d))), (6, .long (jL (x_.tdiv d))), (0, .long (jL x_)), (2, .long (jL d)), (4, .int (jI m))]) rfl (by decide) dJ8_divideAndRound_49 rfl ?_
          refine sw_loc [4, 5, 0, 2, 1] (L2 := [(2, .long (jL d)), (4, .int (jI m)), (5, .int (jI 1)), (6, .long (jL (x_.tdiv d))), (8, .long (jL (x_.tmod d)))]) rfl ?_
          exact K51 1 (by omega)
      ·
        have c_33 : d < 0 := by revert c_33; (repeat' split) <;> omega
        refine sw_iconst (n := 37) F (1) (by decide) dJ8_divideAndRound_36 rfl ?_
        refine sw_goto F (n := 41) dJ8_divideAndRound_37 (by decide) ?_
        refine sw_icmp_ne (n := 44) F (by decide) (by decide) (tgt := 48) dJ8_divideAndRound_41 (by decide) rfl (fun c_41 => ?_) (fun c_41 => ?_)
        ·
          refine sw_iconst (n := 49) F (-1) (by decide) dJ8_divideAndRound_48 rfl ?_
          refine sw_istore (n := 51) F (L2 := [(5, .int (jI (-1))), (8, .long (jL (x_.tmod d))), (6, .long (jL (x_.tdiv d))), (0, .long (jL x_)), (2, .long (jL d)), (4, .int (jI m))]) rfl (by decide) dJ8_divideAndRound_49 rfl ?_
          refine sw_loc [4, 5, 0, 2, 1] (L2 := [(2, .long (jL d)), (4, .int (jI m)), (5, .int (jI (-1))), (6, .long (jL (x_.tdiv d))), (8, .long (jL (x_.tmod d)))]) rfl ?_
          exact K51 (-1) (by omega)
        · exfalso; exact absurd c_41 (by decide)
    ·
      have c_22 : x_ < 0 := by revert c_22; (repeat' split) <;> omega
      refine sw_iconst (n := 26) F (1) (by decide) dJ8_divideAndRound_25 rfl ?_
      refine sw_goto F (n := 30) dJ8_divideAndRound_26 (by decide) ?_
      refine sw_lload_n (n := 31) F 3 rfl rfl dJ8_divideAndRound_30 rfl ?_
      refine sw_lconst (n := 32) F 0 (by decide) dJ8_divideAndRound_31 rfl ?_
      refine sw_lcmp (n := 33) F (by omega) (by decide) dJ8_divideAndRound_32 rfl ?_
      refine sw_if_ge (n := 36) F (by omega) (tgt := 40) dJ8_divideAndRound_33 (by decide) rfl (fun c_33 => ?_) (fun c_33 => ?_)
      ·
        have c_33 : d ≥ 0 := by revert c_33; (repeat' split) <;> omega
        refine sw_iconst (n := 41) F (0) (by decide) dJ8_divideAndRound_40 rfl ?_
        refine sw_icmp_ne (n := 44) F (by decide) (by decide) (tgt := 48) dJ8_divideAndRound_41 (by decide) rfl (fun c_41 => ?_) (fun c_41 => ?_)
        ·
          refine sw_iconst (n := 49) F (-1) (by decide) dJ8_divideAndRound_48 rfl ?_
          refine sw_istore (n := 51) F (L2 := [(5, .int (jI (-1))), (8, .long (jL (x_.tmod d))), (6, .long (jL (x_.tdiv d))), (0, .long (jL x_)), (2, .long (jL d)), (4, .int (jI m))]) rfl (by decide) dJ8_divideAndRound_49 rfl ?_
          refine sw_loc [4, 5, 0, 2, 1] (L2 := [(2, .long (jL d)), (4, .int (jI m)), (5, .int (jI (-1))), (6, .long (jL (x_.tdiv d))), (8, .long (jL (x_.tmod d)))]) rfl ?_
          exact K51 (-1) (by omega)
        · exfalso; exact absurd c_41 (by decide)
      ·
        have c_33 : d < 0 := by revert c_33; (repeat' split) <;> omega
        refine sw_iconst (n := 37) F (1) (by decide) dJ8_divideAndRound_36 rfl ?_
        refine sw_goto F (n := 41) dJ8_divideAndRound_37 (by decide) ?_
        refine sw_icmp_ne (n := 44) F (by decide) (by decide) (tgt := 48) dJ8_divideAndRound_41 (by decide) rfl (fun c_41 => ?_) (fun c_41 => ?_)
        · exfalso; exact absurd c_41 (by decide)
        ·
          refine sw_iconst (n := 45) F (1) (by decide) dJ8_divideAndRound_44 rfl ?_
          refine sw_goto F (n := 49) dJ8_divideAndRound_45 (by decide) ?_
          refine sw_istore (n := 51) F (L2 := [(5, .int (jI 1)), (8, .long (jL (x_.tmod d))), (6, .long (jL (x_.tdiv d))), (0, .long (jL x_)), (2, .long (jL d)), (4, .int (jI m))]) rfl (by decide) dJ8_divideAndRound_49 rfl ?_
          refine sw_loc [4, 5, 0, 2, 1] (L2 := [(2, .long (jL d)), (4, .int (jI m)), (5, .int (jI 1)), (6, .long (jL (x_.tdiv d))), (8, .long (jL (x_.tmod d)))]) rfl ?_
          exact K51 1 (by omega)
  ·
    refine sw_lload (n := 13) F 0 rfl dJ8_divideAndRound_11 rfl ?_
    exact sw_lret F rfl dJ8_divideAndRound_13 (by rw [hPo]; exact ⟨(by rw [show m = 1 by omega, rd_1 hd0]), (by exact rd_n hm (by omega)), rfl⟩)
theorem nd_J8_divideAndRound_4 : yJ8_divideAndRound_4.cls ≠ "java/lang/invoke/MethodHandle" ∧ yJ8_divideAndRound_4.cls ≠ "java/lang/invoke/VarHandle" ∧ (parseMethodDescriptor yJ8_divideAndRound_4.desc).map (fun d => d.parameters.length) = some 5 := by decide +kernel
set_option maxRecDepth 100000 in
set_option maxHeartbeats 16000000 in
theorem ct_J8_divideAndRound_4 {g : GG} {l : Launch} (M : Nat → Option PV) (x_ : Int) (d : Int) (s : Int) (m : Int) (hx : -9223372036854775807 ≤ x_ ∧ x_ ≤ 9223372036854775807) (hd : -9223372036854775807 ≤ d ∧ d ≤ 9223372036854775807) (hd0 : d ≠ 0) (hm : 0 ≤ m ∧ m ≤ 7) (hs : -2147483648 ≤ s ∧ s ≤ 2147483647) : Ct g l yJ8_divideAndRound_4 (ws_ yJ8_divideAndRound_4 cJ8_divideAndRound_4 13 (Option.some (Jvm.ClassFile.FieldType.object "java/math/BigDecimal"))) 8 133 2 11 [.long (jL x_), .long (jL d), .int (jI s), .int (jI m), .int (jI s)] [pl g M] (fun v9 Ws9 => ∃ M1 : Nat → Option PV, ∃ r1 : Nat, ∃ o1 : Option Nat, v9 = some (.ref r1) ∧ (le_ M M1) ∧ (at_ g M1 r1 (vD (rdV x_ d m) s o1)) ∧ (rdF x_ d m = false) ∧ Ws9 = [pl g M1]) (fun E9 Ws9 => (E9 = "java/lang/ArithmeticException" ∧ (rdF x_ d m = true) ∧ Ws9 = [pl g M])) := by
  refine Ct.of (cc := cJ8_divideAndRound_4) (nL := 13) (ret := (Option.some (Jvm.ClassFile.FieldType.object "java/math/BigDecimal"))) (by decide) rfl (Nat.le_of_ble_eq_true rfl) ?_
  intro x hg hl hPo hPx hmc hms F
  subst hg; subst hl
  refine SW.cast (L' := [(0, .long (jL x_)), (2, .long (jL d)), (4, .int (jI s)), (5, .int (jI m)), (6, .int (jI s))]) ?_ rfl rfl rfl
  have hrng := td_rng2 (x := x_) (d := d) hd0 hx
  have hrm := tmo_rng (x := x_) (d := d) hd0 hx
  have hxr := xr_s (x := x_) (d := d)
  refine sw_lload_n (n := 1) F 0 rfl rfl dJ8_divideAndRound_4_0 rfl ?_
  refine sw_lload_n (n := 2) F 1 rfl rfl dJ8_divideAndRound_4_1 rfl ?_
  refine sw_ldiv (n := 3) F (by omega) (by omega) (by omega) dJ8_divideAndRound_4_2 rfl ?_
  refine sw_lstore (n := 5) F (L2 := [(8, .long (jL (x_.tdiv d))), (0, .long (jL x_)), (2, .long (jL d)), (4, .int (jI s)), (5, .int (jI m)), (6, .int (jI s))]) rfl (by decide) dJ8_divideAndRound_4_3 rfl ?_
  refine sw_iload (n := 7) F 4 rfl dJ8_divideAndRound_4_5 rfl ?_
  refine sw_iconst (n := 8) F (1) (by decide) dJ8_divideAndRound_4_7 rfl ?_
  refine sw_icmp_ne (n := 11) F (by omega) (by decide) (tgt := 26) dJ8_divideAndRound_4_8 (by decide) rfl (fun c_8 => ?_) (fun c_8 => ?_)
  ·
    refine sw_lload_n (n := 27) F 1 rfl rfl dJ8_divideAndRound_4_26 rfl ?_
    refine sw_lload_n (n := 28) F 2 rfl rfl dJ8_divideAndRound_4_27 rfl ?_
    refine sw_lrem (n := 29) F (by omega) (by omega) (by omega) dJ8_divideAndRound_4_28 rfl ?_
    refine sw_lstore (n := 31) F (L2 := [(10, .long (jL (x_.tmod d))), (8, .long (jL (x_.tdiv d))), (0, .long (jL x_)), (2, .long (jL d)), (4, .int (jI s)), (5, .int (jI m)), (6, .int (jI s))]) rfl (by decide) dJ8_divideAndRound_4_29 rfl ?_
    have K63 : ∀ (sg : Int), ((sg = 1 ∧ xrI x_ d = 0) ∨ (sg = -1 ∧ xrI x_ d = 1)) → SW x [pl (xg x) M] 2 11 63 [(2, .long (jL d)), (4, .int (jI s)), (5, .int (jI m)), (6, .int (jI s)), (7, .int (jI sg)), (8, .long (jL (x_.tdiv d))), (10, .long (jL (x_.tmod d)))] [] := by
      intro sg hsg
      refine sw_lload (n := 65) F 6 rfl dJ8_divideAndRound_4_63 rfl ?_
      refine sw_lconst (n := 66) F 0 (by decide) dJ8_divideAndRound_4_65 rfl ?_
      refine sw_lcmp (n := 67) F (by omega) (by decide) dJ8_divideAndRound_4_66 rfl ?_
      refine sw_if_eq (n := 70) F (by omega) (tgt := 106) dJ8_divideAndRound_4_67 (by decide) rfl (fun c_67 => ?_) (fun c_67 => ?_)
      ·
        have c_67 : x_.tmod d = 0 := by revert c_67; (repeat' split) <;> omega
        refine sw_iload (n := 108) F 3 rfl dJ8_divideAndRound_4_106 rfl ?_
        refine sw_iload (n := 110) F 1 rfl dJ8_divideAndRound_4_108 rfl ?_
        refine sw_icmp_eq (n := 113) F (by omega) (by omega) (tgt := 124) dJ8_divideAndRound_4_110 (by decide) rfl (fun c_110 => ?_) (fun c_110 => ?_)
        ·
          refine sw_lload (n := 126) F 5 rfl dJ8_divideAndRound_4_124 rfl ?_
          refine sw_iload (n := 128) F 1 rfl dJ8_divideAndRound_4_126 rfl ?_
          refine sw_callS (n := 131) F (ct_J8_valueOf_2 (g := xg x) (l := xl x) M (x_.tdiv d) s (by first | omega | assumption) hs) q1043 q1044 q112 q1045 nd_J8_valueOf_2 rfl (by decide) [0] rfl [] rfl 1 6 ⟨by omega, by omega⟩ [] rfl (Nat.le_of_ble_eq_true rfl) dJ8_divideAndRound_4_128 rfl (fun _ _ h => h.elim) (fun v Ws h => ?_)
          obtain ⟨M1_1, r1_2, o1_3, rfl, hle_4, hat_5, rfl⟩ := h
          show SW x [pl (xg x) M1_1] _ _ _ _ [.ref r1_2]
          exact sw_aret F (some r1_2) _ rfl rfl (by first | exact Or.inl ⟨_, rfl⟩ | exact Or.inr ⟨_, rfl⟩) dJ8_divideAndRound_4_131 (by rw [hPo]; exact ⟨M1_1, r1_2, o1_3, rfl, hle_4, (by rw [← (rd_0 (m := m) hd0 (by omega)).1]; assumption), (by exact (rd_0 (m := m) hd0 (by omega)).2), rfl⟩)
        · exfalso; omega
      ·
        have c_67 : x_.tmod d ≠ 0 := by revert c_67; (repeat' split) <;> omega
        refine sw_lload_n (n := 71) F 0 rfl rfl dJ8_divideAndRound_4_70 rfl ?_
        refine sw_iload (n := 73) F 2 rfl dJ8_divideAndRound_4_71 rfl ?_
        refine sw_iload (n := 75) F 4 rfl dJ8_divideAndRound_4_73 rfl ?_
        refine sw_lload (n := 77) F 5 rfl dJ8_divideAndRound_4_75 rfl ?_
        refine sw_lload (n := 79) F 6 rfl dJ8_divideAndRound_4_77 rfl ?_
        refine sw_callS (n := 82) F (ct_J8_needIncrement (g := xg x) (l := xl x) d m sg (x_.tdiv d) (x_.tmod d) hd hm (by omega) (by first | omega | assumption) (by first | omega | assumption)) q1775 q1776 q112 q1777 nd_J8_needIncrement rfl (by decide) [0] rfl [pl (xg x) M] rfl 1 5 ⟨by omega, by omega⟩ [] rfl (Nat.le_of_ble_eq_true rfl) dJ8_divideAndRound_4_79 rfl (fun E Ws h => ?_) (fun v Ws h => ?_)
        ·
          obtain ⟨rfl, h7_7, rfl⟩ := h
          show SX x [pl (xg x) M] _ _ _ _ _
          exact sx_out F (by rw [hPx]; exact ⟨rfl, (by first | exact rd_n hm (by assumption) | (rw [show m = 7 by assumption]; exact rd_7 (by omega))), rfl⟩)
        ·
          obtain ⟨rfl, h7_6, rfl⟩ := h
          show SW x [pl (xg x) M] _ _ _ _ [.int (jI (cnI m sg (cmpI (2 * (x_.tmod d).natAbs) d.natAbs) ((x_.tdiv d) % 2)))]
          refine sw_istore (n := 84) F (L2 := [(12, .int (jI (cnI m sg (cmpI (2 * (x_.tmod d).natAbs) d.natAbs) ((x_.tdiv d) % 2)))), (2, .long (jL d)), (4, .int (jI s)), (5, .int (jI m)), (6, .int (jI s)), (7, .int (jI sg)), (8, .long (jL (x_.tdiv d))), (10, .long (jL (x_.tmod d)))]) rfl (by decide) dJ8_divideAndRound_4_82 rfl ?_
          refine sw_iload (n := 86) F 0 rfl dJ8_divideAndRound_4_84 rfl ?_
          have hcn9 := cnI_01 (m := m) (sg := sg) (cf := cmpI (2 * (x_.tmod d).natAbs) d.natAbs) (od := x_.tdiv d % 2) (by omega)
          refine sw_if_eq (n := 89) F (by omega) (tgt := 98) dJ8_divideAndRound_4_86 (by decide) rfl (fun c_86 => ?_) (fun c_86 => ?_)
          ·
            refine sw_lload (n := 100) F 6 rfl dJ8_divideAndRound_4_98 rfl ?_
            refine sw_iload (n := 102) F 2 rfl dJ8_divideAndRound_4_100 rfl ?_
            refine sw_callS (n := 105) F (ct_J8_valueOf_2 (g := xg x) (l := xl x) M (x_.tdiv d) s (by first | omega | assumption) hs) q1043 q1044 q112 q1045 nd_J8_valueOf_2 rfl (by decide) [0] rfl [] rfl 0 0 ⟨by omega, by omega⟩ [] rfl (Nat.le_of_ble_eq_true rfl) dJ8_divideAndRound_4_102 rfl (fun _ _ h => h.elim) (fun v Ws h => ?_)
            obtain ⟨M1_8, r1_9, o1_10, rfl, hle_11, hat_12, rfl⟩ := h
            show SW x [pl (xg x) M1_8] _ _ _ _ [.ref r1_9]
            exact sw_aret F (some r1_9) _ rfl rfl (by first | exact Or.inl ⟨_, rfl⟩ | exact Or.inr ⟨_, rfl⟩) dJ8_divideAndRound_4_105 (by rw [hPo]; exact ⟨M1_8, r1_9, o1_10, rfl, hle_11, (by first | (rw [← (rd_c hd0 hm (by assumption) (by assumption) hsg).1 (by have := cnI_01 (m := m) (sg := sg) (cf := cmpI (2 * (x_.tmod d).natAbs) d.natAbs) (od := x_.tdiv d % 2) (by omega); omega)]; assumption) | (rw [← (rd_c hd0 hm (by assumption) (by assumption) hsg).2 (by omega)]; assumption)), (by first | exact rd_n hm (by assumption) | (rw [show m = 7 by assumption]; exact rd_7 (by omega))), rfl⟩)
          ·
            refine sw_lload (n := 91) F 6 rfl dJ8_divideAndRound_4_89 rfl ?_
            refine sw_iload (n := 93) F 5 rfl dJ8_divideAndRound_4_91 rfl ?_
            refine sw_i2l (n := 94) F (by omega) dJ8_divideAndRound_4_93 rfl ?_
            refine sw_ladd (n := 95) F dJ8_divideAndRound_4_94 rfl ?_
            refine sw_goto F (n := 100) dJ8_divideAndRound_4_95 (by decide) ?_
            refine sw_iload (n := 102) F 2 rfl dJ8_divideAndRound_4_100 rfl ?_
            refine sw_callS (n := 105) F (ct_J8_valueOf_2 (g := xg x) (l := xl x) M ((x_.tdiv d) + sg) s (by first | omega | assumption) hs) q1043 q1044 q112 q1045 nd_J8_valueOf_2 rfl (by decide) [0] rfl [] rfl 0 0 ⟨by omega, by omega⟩ [] rfl (Nat.le_of_ble_eq_true rfl) dJ8_divideAndRound_4_102 rfl (fun _ _ h => h.elim) (fun v Ws h => ?_)
            obtain ⟨M1_13, r1_14, o1_15, rfl, hle_16, hat_17, rfl⟩ := h
            show SW x [pl (xg x) M1_13] _ _ _ _ [.ref r1_14]
            exact sw_aret F (some r1_14) _ rfl rfl (by first | exact Or.inl ⟨_, rfl⟩ | exact Or.inr ⟨_, rfl⟩) dJ8_divideAndRound_4_105 (by rw [hPo]; exact ⟨M1_13, r1_14, o1_15, rfl, hle_16, (by first | (rw [← (rd_c hd0 hm (by assumption) (by assumption) hsg).1 (by have := cnI_01 (m := m) (sg := sg) (cf := cmpI (2 * (x_.tmod d).natAbs) d.natAbs) (od := x_.tdiv d % 2) (by omega); omega)]; assumption) | (rw [← (rd_c hd0 hm (by assumption) (by assumption) hsg).2 (by omega)]; assumption)), (by first | exact rd_n hm (by assumption) | (rw [show m = 7 by assumption]; exact rd_7 (by omega))), rfl⟩)
    refine sw_lload_n (n := 32) F 2 rfl rfl dJ8_divideAndRound_4_31 rfl ?_
    refine sw_lconst (n := 33) F 0 (by decide) dJ8_divideAndRound_4_32 rfl ?_
    refine sw_lcmp (n := 34) F (by omega) (by decide) dJ8_divideAndRound_4_33 rfl ?_
    refine sw_if_ge (n := 37) F (by omega) (tgt := 41) dJ8_divideAndRound_4_34 (by decide) rfl (fun c_34 => ?_) (fun c_34 => ?_)
    ·
      have c_34 : x_ ≥ 0 := by revert c_34; (repeat' split) <;> omega
      refine sw_iconst (n := 42) F (0) (by decide) dJ8_divideAndRound_4_41 rfl ?_
      refine sw_lload_n (n := 43) F 3 rfl rfl dJ8_divideAndRound_4_42 rfl ?_
      refine sw_lconst (n := 44) F 0 (by decide) dJ8_divideAndRound_4_43 rfl ?_
      refine sw_lcmp (n := 45) F (by omega) (by decide) dJ8_divideAndRound_4_44 rfl ?_
      refine sw_if_ge (n := 48) F (by omega) (tgt := 52) dJ8_divideAndRound_4_45 (by decide) rfl (fun c_45 => ?_) (fun c_45 => ?_)
      ·
        have c_45 : d ≥ 0 := by revert c_45; (repeat' split) <;> omega
        refine sw_iconst (n := 53) F (0) (by decide) dJ8_divideAndRound_4_52 rfl ?_
        refine sw_icmp_ne (n := 56) F (by decide) (by decide) (tgt := 60) dJ8_divideAndRound_4_53 (by decide) rfl (fun c_53 => ?_) (fun c_53 => ?_)
        · exfalso; exact absurd c_53 (by decide)
        ·
          refine sw_iconst (n := 57) F (1) (by decide) dJ8_divideAndRound_4_56 rfl ?_
          refine sw_goto F (n := 61) dJ8_divideAndRound_4_57 (by decide) ?_
          refine sw_istore (n := 63) F (L2 := [(7, .int (jI 1)), (10, .long (jL (x_.tmod d))), (8, .long (jL (x_.tdiv d))), (0, .long (jL x_)), (2, .long (jL d)), (4, .int (jI s)), (5, .int (jI m)), (6, .int (jI s))]) rfl (by decide) dJ8_divideAndRound_4_61 rfl ?_
          refine sw_loc [4, 5, 6, 7, 0, 2, 1] (L2 := [(2, .long (jL d)), (4, .int (jI s)), (5, .int (jI m)), (6, .int (jI s)), (7, .int (jI 1)), (8, .long (jL (x_.tdiv d))), (10, .long (jL (x_.tmod d)))]) rfl ?_
          exact K63 1 (by omega)
      ·
        have c_45 : d < 0 := by revert c_45; (repeat' split) <;> omega
        refine sw_iconst (n := 49) F (1) (by decide) dJ8_divideAndRound_4_48 rfl ?_
        refine sw_goto F (n := 53) dJ8_divideAndRound_4_49 (by decide) ?_
        refine sw_icmp_ne (n := 56) F (by decide) (by decide) (tgt := 60) dJ8_divideAndRound_4_53 (by decide) rfl (fun c_53 => ?_) (fun c_53 => ?_)
        ·
          refine sw_iconst (n := 61) F (-1) (by decide) dJ8_divideAndRound_4_60 rfl ?_
          refine sw_istore (n := 63) F (L2 := [(7, .int (jI (-1))), (10, .long (jL (x_.tmod d))), (8, .long (jL (x_.tdiv d))), (0, .long (jL x_)), (2, .long (jL d)), (4, .int (jI s)), (5, .int (jI m)), (6, .int (jI s))]) rfl (by decide) dJ8_divideAndRound_4_61 rfl ?_
          refine sw_loc [4, 5, 6, 7, 0, 2, 1] (L2 := [(2, .long (jL d)), (4, .int (jI s)), (5, .int (jI m)), (6, .int (jI s)), (7, .int (jI (-1))), (8, .long (jL (x_.tdiv d))), (10, .long (jL (x_.tmod d)))]) rfl ?_
          exact K63 (-1) (by omega)
        · exfalso; exact absurd c_53 (by decide)
    ·
      have c_34 : x_ < 0 := by revert c_34; (repeat' split) <;> omega
      refine sw_iconst (n := 38) F (1) (by decide) dJ8_divideAndRound_4_37 rfl ?_
      refine sw_goto F (n := 42) dJ8_divideAndRound_4_38 (by decide) ?_
      refine sw_lload_n (n := 43) F 3 rfl rfl dJ8_divideAndRound_4_42 rfl ?_
      refine sw_lconst (n := 44) F 0 (by decide) dJ8_divideAndRound_4_43 rfl ?_
      refine sw_lcmp (n := 45) F (by omega) (by decide) dJ8_divideAndRound_4_44 rfl ?_
      refine sw_if_ge (n := 48) F (by omega) (tgt := 52) dJ8_divideAndRound_4_45 (by decide) rfl (fun c_45 => ?_) (fun c_45 => ?_)
      ·
        have c_45 : d ≥ 0 := by revert c_45; (repeat' split) <;> omega
        refine sw_iconst (n := 53) F (0) (by decide) dJ8_divideAndRound_4_52 rfl ?_
        refine sw_icmp_ne (n := 56) F (by decide) (by decide) (tgt := 60) dJ8_divideAndRound_4_53 (by decide) rfl (fun c_53 => ?_) (fun c_53 => ?_)
        ·
          refine sw_iconst (n := 61) F (-1) (by decide) dJ8_divideAndRound_4_60 rfl ?_
          refine sw_istore (n := 63) F (L2 := [(7, .int (jI (-1))), (10, .long (jL (x_.tmod d))), (8, .long (jL (x_.tdiv d))), (0, .long (jL x_)), (2, .long (jL d)), (4, .int (jI s)), (5, .int (jI m)), (6, .int (jI s))]) rfl (by decide) dJ8_divideAndRound_4_61 rfl ?_
          refine sw_loc [4, 5, 6, 7, 0, 2, 1] (L2 := [(2, .long (jL d)), (4, .int (jI s)), (5, .int (jI m)), (6, .int (jI s)), (7, .int (jI (-1))), (8, .long (jL (x_.tdiv d))), (10, .long (jL (x_.tmod d)))]) rfl ?_
          exact K63 (-1) (by omega)
        · exfalso; exact absurd c_53 (by decide)
      ·
        have c_45 : d < 0 := by revert c_45; (repeat' split) <;> omega
        refine sw_iconst (n := 49) F (1) (by decide) dJ8_divideAndRound_4_48 rfl ?_
        refine sw_goto F (n := 53) dJ8_divideAndRound_4_49 (by decide) ?_
        refine sw_icmp_ne (n := 56) F (by decide) (by decide) (tgt := 60) dJ8_divideAndRound_4_53 (by decide) rfl (fun c_53 => ?_) (fun c_53 => ?_)
        · exfalso; exact absurd c_53 (by decide)
        ·
          refine sw_iconst (n := 57) F (1) (by decide) dJ8_divideAndRound_4_56 rfl ?_
          refine sw_goto F (n := 61) dJ8_divideAndRound_4_57 (by decide) ?_
          refine sw_istore (n := 63) F (L2 := [(7, .int (jI 1)), (10, .long (jL (x_.tmod d))), (8, .long (jL (x_.tdiv d))), (0, .long (jL x_)), (2, .long (jL d)), (4, .int (jI s)), (5, .int (jI m)), (6, .int (jI s))]) rfl (by decide) dJ8_divideAndRound_4_61 rfl ?_
          refine sw_loc [4, 5, 6, 7, 0, 2, 1] (L2 := [(2, .long (jL d)), (4, .int (jI s)), (5, .int (jI m)), (6, .int (jI s)), (7, .int (jI 1)), (8, .long (jL (x_.tdiv d))), (10, .long (jL (x_.tmod d)))]) rfl ?_
          exact K63 1 (by omega)
  ·
    refine sw_iload (n := 13) F 3 rfl dJ8_divideAndRound_4_11 rfl ?_
    refine sw_iload (n := 15) F 5 rfl dJ8_divideAndRound_4_13 rfl ?_
    refine sw_icmp_ne (n := 18) F (by omega) (by omega) (tgt := 26) dJ8_divideAndRound_4_15 (by decide) rfl (fun c_15 => ?_) (fun c_15 => ?_)
    · exfalso; omega
    ·
      refine sw_lload (n := 20) F 0 rfl dJ8_divideAndRound_4_18 rfl ?_
      refine sw_iload (n := 22) F 3 rfl dJ8_divideAndRound_4_20 rfl ?_
      refine sw_callS (n := 25) F (ct_J8_valueOf_2 (g := xg x) (l := xl x) M (x_.tdiv d) s (by first | omega | assumption) hs) q1043 q1044 q112 q1045 nd_J8_valueOf_2 rfl (by decide) [0] rfl [] rfl 1 6 ⟨by omega, by omega⟩ [] rfl (Nat.le_of_ble_eq_true rfl) dJ8_divideAndRound_4_22 rfl (fun _ _ h => h.elim) (fun v Ws h => ?_)
      obtain ⟨M1_18, r1_19, o1_20, rfl, hle_21, hat_22, rfl⟩ := h
      show SW x [pl (xg x) M1_18] _ _ _ _ [.ref r1_19]
      exact sw_aret F (some r1_19) _ rfl rfl (by first | exact Or.inl ⟨_, rfl⟩ | exact Or.inr ⟨_, rfl⟩) dJ8_divideAndRound_4_25 (by rw [hPo]; exact ⟨M1_18, r1_19, o1_20, rfl, hle_21, (by rw [show m = 1 by omega, ← rd_1 hd0]; assumption), (by exact rd_n hm (by omega)), rfl⟩)
theorem nd_J8_createAndStripZerosToMatchScale : yJ8_createAndStripZerosToMatchScale.cls ≠ "java/lang/invoke/MethodHandle" ∧ yJ8_createAndStripZerosToMatchScale.cls ≠ "java/lang/invoke/VarHandle" ∧ (parseMethodDescriptor yJ8_createAndStripZerosToMatchScale.desc).map (fun d => d.parameters.length) = some 3 := by decide +kernel
set_option maxRecDepth 100000 in
set_option maxHeartbeats 16000000 in
theorem ct_J8_createAndStripZerosToMatchScale {g : GG} {l : Launch} (M : Nat → Option PV) (u : Int) (s : Int) (hu : -9223372036854775807 ≤ u ∧ u ≤ 9223372036854775807) (hu0 : u ≠ 0) (hs : -1000000 ≤ s ∧ s ≤ 1000000) : Ct g l yJ8_createAndStripZerosToMatchScale (ws_ yJ8_createAndStripZerosToMatchScale cJ8_createAndStripZerosToMatchScale 7 (Option.some (Jvm.ClassFile.FieldType.object "java/math/BigDecimal"))) 5 100 1 5 [.long (jL u), .int (jI s), .long (jL (-9223372036854775808))] [pl g M] (fun v9 Ws9 => ∃ M1 : Nat → Option PV, ∃ r1 : Nat, ∃ o1 : Option Nat, v9 = some (.ref r1) ∧ (le_ M M1) ∧ (at_ g M1 r1 (vD (stV u) (s - ↑(fac 10 u.natAbs)) o1)) ∧ Ws9 = [pl g M1]) (nox) := by
  refine Ct.of (cc := cJ8_createAndStripZerosToMatchScale) (nL := 7) (ret := (Option.some (Jvm.ClassFile.FieldType.object "java/math/BigDecimal"))) (by decide) rfl (Nat.le_of_ble_eq_true rfl) ?_
  intro x hg hl hPo hPx hmc hms F
  subst hg; subst hl
  refine SW.cast (L' := [(0, .long (jL u)), (2, .int (jI s)), (3, .long (jL (-9223372036854775808)))]) ?_ rfl rfl rfl
  have K0 : ∀ N0 : Nat, ∀ (c : Int) (k : Nat), (u = c * ((10 ^ k : Nat) : Int)) → (c ≠ 0) → (-9223372036854775807 ≤ c ∧ c ≤ 9223372036854775807) → ((c.natAbs) < N0) → SW x [pl (xg x) M] 1 5 0 [(0, .long (jL c)), (2, .int (jI (s - ↑k))), (3, .long (jL (-9223372036854775808)))] [] := by
    intro N0; induction N0 with
    | zero => intro c k hc hc0 hcr hmu0; omega
    | succ N0 ih0 =>
      intro c k hc hc0 hcr hmu0
      refine sw_lload_n (n := 1) F 0 rfl rfl dJ8_createAndStripZerosToMatchScale_0 rfl ?_
      have K64 : (c.natAbs % 10 ≠ 0) → SW x [pl (xg x) M] 1 5 64 [(0, .long (jL c)), (2, .int (jI (s - ↑k)))] [] := by
        intro hend
        have hkl := fac_len hc hc0 hu
        refine sw_lload_n (n := 65) F 0 rfl rfl dJ8_createAndStripZerosToMatchScale_64 rfl ?_
        refine sw_iload_n (n := 66) F 1 rfl rfl dJ8_createAndStripZerosToMatchScale_65 rfl ?_
        refine sw_callS (n := 69) F (ct_J8_valueOf_2 (g := xg x) (l := xl x) M c (s - ↑k) (by first | omega | assumption) (by omega)) q1043 q1044 q112 q1045 nd_J8_valueOf_2 rfl (by decide) [0] rfl [] rfl 0 0 ⟨by omega, by omega⟩ [] rfl (Nat.le_of_ble_eq_true rfl) dJ8_createAndStripZerosToMatchScale_66 rfl (fun _ _ h => h.elim) (fun v Ws h => ?_)
        obtain ⟨M1_1, r1_2, o1_3, rfl, hle_4, hat_5, rfl⟩ := h
        show SW x [pl (xg x) M1_1] _ _ _ _ [.ref r1_2]
        exact sw_aret F (some r1_2) _ rfl rfl (by first | exact Or.inl ⟨_, rfl⟩ | exact Or.inr ⟨_, rfl⟩) dJ8_createAndStripZerosToMatchScale_69 (by rw [hPo]; exact ⟨M1_1, r1_2, o1_3, rfl, hle_4, (by rw [← (strip_end hc hc0 (by omega)).1, (strip_end hc hc0 (by omega)).2]; assumption), rfl⟩)
      have hkl := fac_len hc hc0 hu
      refine sw_mabsL (n := 4) F (by omega) q1303 q1101 q132 q1102 (by decide) dJ8_createAndStripZerosToMatchScale_1 rfl ?_
      have hab_6 := abI_cases (c)
      refine sw_ldc2 (n := 7) F (10) q1529 (by decide) dJ8_createAndStripZerosToMatchScale_4 rfl ?_
      refine sw_lcmp (n := 8) F (by omega) (by decide) dJ8_createAndStripZerosToMatchScale_7 rfl ?_
      refine sw_if_lt (n := 11) F (by omega) (tgt := 64) dJ8_createAndStripZerosToMatchScale_8 (by decide) rfl (fun c_8 => ?_) (fun c_8 => ?_)
      ·
        have c_8 : abI c < 10 := by revert c_8; (repeat' split) <;> omega
        refine sw_loc [0, 1] (L2 := [(0, .long (jL c)), (2, .int (jI (s - ↑k)))]) rfl ?_
        exact K64  (by omega)
      ·
        have c_8 : abI c ≥ 10 := by revert c_8; (repeat' split) <;> omega
        refine sw_iload_n (n := 12) F 1 rfl rfl dJ8_createAndStripZerosToMatchScale_11 rfl ?_
        refine sw_i2l (n := 13) F (by omega) dJ8_createAndStripZerosToMatchScale_12 rfl ?_
        refine sw_lload_n (n := 14) F 2 rfl rfl dJ8_createAndStripZerosToMatchScale_13 rfl ?_
        refine sw_lcmp (n := 15) F (by omega) (by decide) dJ8_createAndStripZerosToMatchScale_14 rfl ?_
        refine sw_if_le (n := 18) F (by omega) (tgt := 64) dJ8_createAndStripZerosToMatchScale_15 (by decide) rfl (fun c_15 => ?_) (fun c_15 => ?_)
        · exfalso; omega
        ·
          have c_15 : s - ↑k > -9223372036854775808 := by revert c_15; (repeat' split) <;> omega
          refine sw_lload_n (n := 19) F 0 rfl rfl dJ8_createAndStripZerosToMatchScale_18 rfl ?_
          refine sw_lconst (n := 20) F 1 (by decide) dJ8_createAndStripZerosToMatchScale_19 rfl ?_
          refine sw_land (n := 21) F (jL (c % 2)) (jL_and 1 (by decide) (by rfl)) dJ8_createAndStripZerosToMatchScale_20 rfl ?_
          refine sw_lconst (n := 22) F 0 (by decide) dJ8_createAndStripZerosToMatchScale_21 rfl ?_
          refine sw_lcmp (n := 23) F (by omega) (by decide) dJ8_createAndStripZerosToMatchScale_22 rfl ?_
          refine sw_if_eq (n := 26) F (by omega) (tgt := 29) dJ8_createAndStripZerosToMatchScale_23 (by decide) rfl (fun c_23 => ?_) (fun c_23 => ?_)
          ·
            have c_23 : c % 2 = 0 := by revert c_23; (repeat' split) <;> omega
            refine sw_lload_n (n := 30) F 0 rfl rfl dJ8_createAndStripZerosToMatchScale_29 rfl ?_
            refine sw_ldc2 (n := 33) F (10) q1529 (by decide) dJ8_createAndStripZerosToMatchScale_30 rfl ?_
            refine sw_lrem (n := 34) F (by omega) (by decide) (by decide) dJ8_createAndStripZerosToMatchScale_33 rfl ?_
            have hta9 : (c.tmod 10).natAbs = c.natAbs % 10 := tm_abs c 10
            have htm := Int.mul_tdiv_add_tmod c 10
            have htr := tmo_rng (x := c) (d := 10) (by decide) hcr
            refine sw_lstore (n := 36) F (L2 := [(5, .long (jL (c.tmod 10))), (0, .long (jL c)), (2, .int (jI (s - ↑k))), (3, .long (jL (-9223372036854775808)))]) rfl (by decide) dJ8_createAndStripZerosToMatchScale_34 rfl ?_
            refine sw_lload (n := 38) F 0 rfl dJ8_createAndStripZerosToMatchScale_36 rfl ?_
            refine sw_lconst (n := 39) F 0 (by decide) dJ8_createAndStripZerosToMatchScale_38 rfl ?_
            refine sw_lcmp (n := 40) F (by omega) (by decide) dJ8_createAndStripZerosToMatchScale_39 rfl ?_
            refine sw_if_eq (n := 43) F (by omega) (tgt := 46) dJ8_createAndStripZerosToMatchScale_40 (by decide) rfl (fun c_40 => ?_) (fun c_40 => ?_)
            ·
              have c_40 : c.tmod 10 = 0 := by revert c_40; (repeat' split) <;> omega
              refine sw_lload_n (n := 47) F 1 rfl rfl dJ8_createAndStripZerosToMatchScale_46 rfl ?_
              refine sw_ldc2 (n := 50) F (10) q1529 (by decide) dJ8_createAndStripZerosToMatchScale_47 rfl ?_
              refine sw_ldiv (n := 51) F (by omega) (by decide) (by decide) dJ8_createAndStripZerosToMatchScale_50 rfl ?_
              have htd := td_rng2 (x := c) (d := 10) (by decide) hcr
              have hta := Int.natAbs_tdiv c 10
              refine sw_lstore_n (n := 52) F (L2 := [(0, .long (jL (c.tdiv 10))), (5, .long (jL (c.tmod 10))), (2, .int (jI (s - ↑k))), (3, .long (jL (-9223372036854775808)))]) rfl (by decide) rfl dJ8_createAndStripZerosToMatchScale_51 rfl ?_
              refine sw_lload_n (n := 53) F 0 rfl rfl dJ8_createAndStripZerosToMatchScale_52 rfl ?_
              refine sw_iload_n (n := 54) F 2 rfl rfl dJ8_createAndStripZerosToMatchScale_53 rfl ?_
              refine sw_i2l (n := 55) F (by omega) dJ8_createAndStripZerosToMatchScale_54 rfl ?_
              refine sw_lconst (n := 56) F 1 (by decide) dJ8_createAndStripZerosToMatchScale_55 rfl ?_
              refine sw_lsub (n := 57) F dJ8_createAndStripZerosToMatchScale_56 rfl ?_
              refine sw_callS (n := 60) F (ct_J8_checkScale (g := xg x) (l := xl x) (c.tdiv 10) ((s - ↑k) - 1) (by first | omega | assumption) (by first | omega | assumption)) q1286 q1287 q112 q1288 nd_J8_checkScale rfl (by decide) [0] rfl [pl (xg x) M] rfl 1 5 ⟨by omega, by omega⟩ [] rfl (Nat.le_of_ble_eq_true rfl) dJ8_createAndStripZerosToMatchScale_57 rfl (fun _ _ h => h.elim) (fun v Ws h => ?_)
              obtain ⟨rfl, rfl⟩ := h
              show SW x [pl (xg x) M] _ _ _ _ [.int (jI ((s - ↑k) - 1))]
              refine sw_istore_n (n := 61) F (L2 := [(2, .int (jI ((s - ↑k) - 1))), (0, .long (jL (c.tdiv 10))), (5, .long (jL (c.tmod 10))), (3, .long (jL (-9223372036854775808)))]) rfl (by decide) rfl dJ8_createAndStripZerosToMatchScale_60 rfl ?_
              refine sw_goto F (n := 0) dJ8_createAndStripZerosToMatchScale_61 (by decide) ?_
              refine sw_loc [1, 0, 3] (L2 := [(0, .long (jL (c.tdiv 10))), (2, .int (jI ((s - ↑k) - 1))), (3, .long (jL (-9223372036854775808)))]) rfl ?_
              rw [show ((s - ↑k) - 1 : Int) = s - ↑(k + 1) by omega]
              exact ih0 (c.tdiv 10) (k + 1) (by exact ten_step hc (by omega)) (by intro e0; rw [e0] at htm; omega) (by first | omega | assumption) (by have e9 : (c.natAbs.div (10 : Int).natAbs) = c.natAbs / 10 := rfl; omega)
            ·
              have c_40 : c.tmod 10 ≠ 0 := by revert c_40; (repeat' split) <;> omega
              refine sw_goto F (n := 64) dJ8_createAndStripZerosToMatchScale_43 (by decide) ?_
              refine sw_loc [1, 2] (L2 := [(0, .long (jL c)), (2, .int (jI (s - ↑k)))]) rfl ?_
              exact K64  (by omega)
          ·
            have c_23 : c % 2 ≠ 0 := by revert c_23; (repeat' split) <;> omega
            refine sw_goto F (n := 64) dJ8_createAndStripZerosToMatchScale_26 (by decide) ?_
            refine sw_loc [0, 1] (L2 := [(0, .long (jL c)), (2, .int (jI (s - ↑k)))]) rfl ?_
            exact K64  (by omega)
  rw [show (s : Int) = s - 0 by omega]
  exact K0 _ u 0 (by rw [Nat.pow_zero]; show u = u * 1; rw [Int.mul_one]) hu0 hu (Nat.lt_succ_self _)
theorem nd_J8_stripTrailingZeros : yJ8_stripTrailingZeros.cls ≠ "java/lang/invoke/MethodHandle" ∧ yJ8_stripTrailingZeros.cls ≠ "java/lang/invoke/VarHandle" ∧ (parseMethodDescriptor yJ8_stripTrailingZeros.desc).map (fun d => d.parameters.length) = some 0 := by decide +kernel
set_option maxRecDepth 100000 in
set_option maxHeartbeats 16000000 in
theorem ct_J8_stripTrailingZeros {g : GG} {l : Launch} (M : Nat → Option PV) (q : Nat) (u : Int) (s : Int) (o : Option Nat) (hx : at_ g M q (vD u s o)) (hf : fit u) (hs : -1000000 ≤ s ∧ s ≤ 1000000) : Ct g l yJ8_stripTrailingZeros (ws_ yJ8_stripTrailingZeros cJ8_stripTrailingZeros 1 (Option.some (Jvm.ClassFile.FieldType.object "java/math/BigDecimal"))) 6 126 1 5 [.ref q] [pl g M] (fun v9 Ws9 => ∃ M1 : Nat → Option PV, ∃ r1 : Nat, ∃ o1 : Option Nat, v9 = some (.ref r1) ∧ (le_ M M1) ∧ (at_ g M1 r1 (vD (stV u) (if u = 0 then 0 else s - ↑(fac 10 u.natAbs)) o1)) ∧ Ws9 = [pl g M1]) (nox) := by
  refine Ct.of (cc := cJ8_stripTrailingZeros) (nL := 1) (ret := (Option.some (Jvm.ClassFile.FieldType.object "java/math/BigDecimal"))) (by decide) rfl (Nat.le_of_ble_eq_true rfl) ?_
  intro x hg hl hPo hPx hmc hms F
  subst hg; subst hl
  refine SW.cast (L' := [(0, .ref q)]) ?_ rfl rfl rfl
  have hcr := cpt_rng u
  have hr9 := hf
  unfold fit at hr9
  refine sw_factD 0 rfl hx (fun hfo hfb => ?_)
  have hcu := cpt_1 hf
  have hs9 := sgI_cases u
  refine sw_aload_n (n := 1) F 0 (some q) rfl rfl rfl dJ8_stripTrailingZeros_0 rfl ?_
  refine sw_getD (n := 4) F 0 rfl hx (k := 4) ⟨(RJ8, TJ8, 5), rfl, by decide, q264, in_J8, Or.inl rfl⟩ (.long (jL (cpt u))) (fun _ => rfl) dJ8_stripTrailingZeros_1 rfl ?_
  refine sw_lconst (n := 5) F 0 (by decide) dJ8_stripTrailingZeros_4 rfl ?_
  refine sw_lcmp (n := 6) F (by omega) (by decide) dJ8_stripTrailingZeros_5 rfl ?_
  refine sw_if_eq (n := 9) F (by omega) (tgt := 26) dJ8_stripTrailingZeros_6 (by decide) rfl (fun c_6 => ?_) (fun c_6 => ?_)
  ·
    have c_6 : cpt u = 0 := by revert c_6; (repeat' split) <;> omega
    refine sw_gets (n := 29) F (kDZ F.gx.1).1 q2607 (Or.inl rfl) dJ8_stripTrailingZeros_26 rfl ?_
    have hk_1 : at_ (xg x) M (tR (xg x) (Jvm.Term.static "java/math/BigDecimal" "ZERO" "Ljava/math/BigDecimal;")) (vD 0 0 (some (tR (xg x) (.field (Jvm.Term.static "java/math/BigDecimal" "ZERO" "Ljava/math/BigDecimal;") "java/math/BigDecimal" "intVal" "Ljava/math/BigInteger;")))) := Or.inr (kDZ F.gx.1).2
    exact sw_aret F (some (tR (xg x) (Jvm.Term.static "java/math/BigDecimal" "ZERO" "Ljava/math/BigDecimal;"))) _ rfl rfl (by first | exact Or.inl ⟨_, rfl⟩ | exact Or.inr ⟨_, rfl⟩) dJ8_stripTrailingZeros_29 (by rw [hPo]; exact ⟨M, tR (xg x) (Jvm.Term.static "java/math/BigDecimal" "ZERO" "Ljava/math/BigDecimal;"), some (tR (xg x) (.field (Jvm.Term.static "java/math/BigDecimal" "ZERO" "Ljava/math/BigDecimal;") "java/math/BigDecimal" "intVal" "Ljava/math/BigInteger;")), rfl, le_.rf, (by have hs9 := sgI_cases u; have e7 : u = 0 := (by omega); have e9 : stV u = 0 := stV_0 e7; have e8 : (if u = 0 then (0 : Int) else s - ↑(fac 10 u.natAbs)) = 0 := if_pos e7; rw [e9, e8]; assumption), rfl⟩)
  ·
    have c_6 : cpt u ≠ 0 := by revert c_6; (repeat' split) <;> omega
    refine sw_aload_n (n := 10) F 0 (some q) rfl rfl rfl dJ8_stripTrailingZeros_9 rfl ?_
    refine sw_getD (n := 13) F 0 rfl hx (k := 0) ⟨(RJ8, TJ8, 5), rfl, by decide, q260, in_J8, Or.inl rfl⟩ (va_rf o) (fun _ => rfl) dJ8_stripTrailingZeros_10 rfl ?_
    refine sw_ifnull (n := 16) F (o := o) rfl (tgt := 30) dJ8_stripTrailingZeros_13 (by decide) rfl (fun c_13 => ?_) (fun q_2 c_13 => ?_)
    ·
      refine sw_aload_n (n := 31) F 0 (some q) rfl rfl rfl dJ8_stripTrailingZeros_30 rfl ?_
      refine sw_getD (n := 34) F 0 rfl hx (k := 4) ⟨(RJ8, TJ8, 5), rfl, by decide, q264, in_J8, Or.inl rfl⟩ (.long (jL (cpt u))) (fun _ => rfl) dJ8_stripTrailingZeros_31 rfl ?_
      refine sw_ldc2 (n := 37) F (-9223372036854775808) q250 (by decide) dJ8_stripTrailingZeros_34 rfl ?_
      refine sw_lcmp (n := 38) F (by omega) (by decide) dJ8_stripTrailingZeros_37 rfl ?_
      refine sw_if_eq (n := 41) F (by omega) (tgt := 56) dJ8_stripTrailingZeros_38 (by decide) rfl (fun c_38 => ?_) (fun c_38 => ?_)
      · exfalso; exact cpt_y (show cpt u = -9223372036854775808 by revert c_38; (repeat' split) <;> omega) hf
      ·
        have c_38 : cpt u ≠ -9223372036854775808 := by revert c_38; (repeat' split) <;> omega
        refine sw_aload_n (n := 42) F 0 (some q) rfl rfl rfl dJ8_stripTrailingZeros_41 rfl ?_
        refine sw_getD (n := 45) F 0 rfl hx (k := 4) ⟨(RJ8, TJ8, 5), rfl, by decide, q264, in_J8, Or.inl rfl⟩ (.long (jL (cpt u))) (fun _ => rfl) dJ8_stripTrailingZeros_42 rfl ?_
        refine sw_aload_n (n := 46) F 0 (some q) rfl rfl rfl dJ8_stripTrailingZeros_45 rfl ?_
        rw [cpt_1 hf]
        refine sw_getD (n := 49) F 0 rfl hx (k := 1) ⟨(RJ8, TJ8, 5), rfl, by decide, q261, in_J8, Or.inl rfl⟩ (.int (jI s)) (fun _ => rfl) dJ8_stripTrailingZeros_46 rfl ?_
        refine sw_ldc2 (n := 52) F (-9223372036854775808) q250 (by decide) dJ8_stripTrailingZeros_49 rfl ?_
        refine sw_callS (n := 55) F (ct_J8_createAndStripZerosToMatchScale (g := xg x) (l := xl x) M u s (by first | omega | assumption) (by have hs9 := sgI_cases u; omega) hs) q2609 q2610 q112 q2611 nd_J8_createAndStripZerosToMatchScale rfl (by decide) [0] rfl [] rfl 0 0 ⟨by omega, by omega⟩ [] rfl (Nat.le_of_ble_eq_true rfl) dJ8_stripTrailingZeros_52 rfl (fun _ _ h => h.elim) (fun v Ws h => ?_)
        obtain ⟨M1_3, r1_4, o1_5, rfl, hle_6, hat_7, rfl⟩ := h
        show SW x [pl (xg x) M1_3] _ _ _ _ [.ref r1_4]
        exact sw_aret F (some r1_4) _ rfl rfl (by first | exact Or.inl ⟨_, rfl⟩ | exact Or.inr ⟨_, rfl⟩) dJ8_stripTrailingZeros_55 (by rw [hPo]; exact ⟨M1_3, r1_4, o1_5, rfl, hle_6, (by have hs9 := sgI_cases u; rw [if_neg (by omega)]; assumption), rfl⟩)
    ·
      obtain ⟨a9, ha9⟩ := hfb q_2 c_13
      subst c_13
      refine sw_aload_n (n := 17) F 0 (some q) rfl rfl rfl dJ8_stripTrailingZeros_16 rfl ?_
      refine sw_getD (n := 20) F 0 rfl hx (k := 0) ⟨(RJ8, TJ8, 5), rfl, by decide, q260, in_J8, Or.inl rfl⟩ (.ref q_2) (fun _ => rfl) dJ8_stripTrailingZeros_17 rfl ?_
      refine sw_callV (n := 23) F (ct_J19_signum (g := xg x) (l := xl x) M q_2 u a9 ha9) (rcvI F 0 rfl ha9) q1496 q1497 q1498 q127 q1499 nd_J19_signum rfl (by decide) [0] rfl [] rfl 1 5 ⟨by omega, by omega⟩ [] rfl (Nat.le_of_ble_eq_true rfl) dJ8_stripTrailingZeros_20 rfl (fun _ _ h => h.elim) (fun v Ws h => ?_)
      obtain ⟨rfl, rfl⟩ := h
      show SW x [pl (xg x) M] _ _ _ _ [.int (jI (sgI u))]
      refine sw_if_ne (n := 26) F (by omega) (tgt := 30) dJ8_stripTrailingZeros_23 (by decide) rfl (fun c_23 => ?_) (fun c_23 => ?_)
      ·
        refine sw_aload_n (n := 31) F 0 (some q) rfl rfl rfl dJ8_stripTrailingZeros_30 rfl ?_
        refine sw_getD (n := 34) F 0 rfl hx (k := 4) ⟨(RJ8, TJ8, 5), rfl, by decide, q264, in_J8, Or.inl rfl⟩ (.long (jL (cpt u))) (fun _ => rfl) dJ8_stripTrailingZeros_31 rfl ?_
        refine sw_ldc2 (n := 37) F (-9223372036854775808) q250 (by decide) dJ8_stripTrailingZeros_34 rfl ?_
        refine sw_lcmp (n := 38) F (by omega) (by decide) dJ8_stripTrailingZeros_37 rfl ?_
        refine sw_if_eq (n := 41) F (by omega) (tgt := 56) dJ8_stripTrailingZeros_38 (by decide) rfl (fun c_38 => ?_) (fun c_38 => ?_)
        · exfalso; exact cpt_y (show cpt u = -9223372036854775808 by revert c_38; (repeat' split) <;> omega) hf
        ·
          have c_38 : cpt u ≠ -9223372036854775808 := by revert c_38; (repeat' split) <;> omega
          refine sw_aload_n (n := 42) F 0 (some q) rfl rfl rfl dJ8_stripTrailingZeros_41 rfl ?_
          refine sw_getD (n := 45) F 0 rfl hx (k := 4) ⟨(RJ8, TJ8, 5), rfl, by decide, q264, in_J8, Or.inl rfl⟩ (.long (jL (cpt u))) (fun _ => rfl) dJ8_stripTrailingZeros_42 rfl ?_
          refine sw_aload_n (n := 46) F 0 (some q) rfl rfl rfl dJ8_stripTrailingZeros_45 rfl ?_
          rw [cpt_1 hf]
          refine sw_getD (n := 49) F 0 rfl hx (k := 1) ⟨(RJ8, TJ8, 5), rfl, by decide, q261, in_J8, Or.inl rfl⟩ (.int (jI s)) (fun _ => rfl) dJ8_stripTrailingZeros_46 rfl ?_
          refine sw_ldc2 (n := 52) F (-9223372036854775808) q250 (by decide) dJ8_stripTrailingZeros_49 rfl ?_
          refine sw_callS (n := 55) F (ct_J8_createAndStripZerosToMatchScale (g := xg x) (l := xl x) M u s (by first | omega | assumption) (by have hs9 := sgI_cases u; omega) hs) q2609 q2610 q112 q2611 nd_J8_createAndStripZerosToMatchScale rfl (by decide) [0] rfl [] rfl 0 0 ⟨by omega, by omega⟩ [] rfl (Nat.le_of_ble_eq_true rfl) dJ8_stripTrailingZeros_52 rfl (fun _ _ h => h.elim) (fun v Ws h => ?_)
          obtain ⟨M1_8, r1_9, o1_10, rfl, hle_11, hat_12, rfl⟩ := h
          show SW x [pl (xg x) M1_8] _ _ _ _ [.ref r1_9]
          exact sw_aret F (some r1_9) _ rfl rfl (by first | exact Or.inl ⟨_, rfl⟩ | exact Or.inr ⟨_, rfl⟩) dJ8_stripTrailingZeros_55 (by rw [hPo]; exact ⟨M1_8, r1_9, o1_10, rfl, hle_11, (by have hs9 := sgI_cases u; rw [if_neg (by omega)]; assumption), rfl⟩)
      ·
        refine sw_gets (n := 29) F (kDZ F.gx.1).1 q2607 (Or.inl rfl) dJ8_stripTrailingZeros_26 rfl ?_
        have hk_13 : at_ (xg x) M (tR (xg x) (Jvm.Term.static "java/math/BigDecimal" "ZERO" "Ljava/math/BigDecimal;")) (vD 0 0 (some (tR (xg x) (.field (Jvm.Term.static "java/math/BigDecimal" "ZERO" "Ljava/math/BigDecimal;") "java/math/BigDecimal" "intVal" "Ljava/math/BigInteger;")))) := Or.inr (kDZ F.gx.1).2
        exact sw_aret F (some (tR (xg x) (Jvm.Term.static "java/math/BigDecimal" "ZERO" "Ljava/math/BigDecimal;"))) _ rfl rfl (by first | exact Or.inl ⟨_, rfl⟩ | exact Or.inr ⟨_, rfl⟩) dJ8_stripTrailingZeros_29 (by rw [hPo]; exact ⟨M, tR (xg x) (Jvm.Term.static "java/math/BigDecimal" "ZERO" "Ljava/math/BigDecimal;"), some (tR (xg x) (.field (Jvm.Term.static "java/math/BigDecimal" "ZERO" "Ljava/math/BigDecimal;") "java/math/BigDecimal" "intVal" "Ljava/math/BigInteger;")), rfl, le_.rf, (by have hs9 := sgI_cases u; have e7 : u = 0 := (by omega); have e9 : stV u = 0 := stV_0 e7; have e8 : (if u = 0 then (0 : Int) else s - ↑(fac 10 u.natAbs)) = 0 := if_pos e7; rw [e9, e8]; assumption), rfl⟩)
