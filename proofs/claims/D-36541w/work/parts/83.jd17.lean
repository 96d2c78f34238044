set_option maxRecDepth 100000
def dkwJ8_needIncrement_3_1 : List UInt8 := [42, 182, 3, 212, 54, 5, 27, 28, 21, 5, 45, 182, 3, 200, 184, 3, 169, 172]
abbrev dktJ8_needIncrement_3_1 : List UInt8 := dkwJ8_needIncrement_3_1 ++ []
def dkwJ8_needIncrement_3_0 : List UInt8 := [178, 1, 55, 154, 0, 19, 25, 4, 182, 3, 206, 153, 0, 11, 187, 1, 59, 89, 183, 1, 61, 191, 25, 4]
abbrev dktJ8_needIncrement_3_0 : List UInt8 := dkwJ8_needIncrement_3_0 ++ dktJ8_needIncrement_3_1
theorem dksJ8_needIncrement_3_0 : cJ8_needIncrement_3.data.toList.drop 0 = dktJ8_needIncrement_3_0 := by decide +kernel
theorem dksJ8_needIncrement_3_1 : cJ8_needIncrement_3.data.toList.drop 24 = dktJ8_needIncrement_3_1 := dk_seg dksJ8_needIncrement_3_0 24 rfl rfl
theorem dJ8_needIncrement_3_0 : decode cJ8_needIncrement_3 0 = .ok (.getstatic 311, 3) := dk_178 1 55 (dk_at dksJ8_needIncrement_3_0 0 rfl rfl)
theorem dJ8_needIncrement_3_3 : decode cJ8_needIncrement_3 3 = .ok (.ifCond .ne 19, 3) := dk_154 0 19 (dk_at dksJ8_needIncrement_3_0 3 rfl rfl)
theorem dJ8_needIncrement_3_6 : decode cJ8_needIncrement_3 6 = .ok (.aload 4, 2) := dk_25 4 (dk_at dksJ8_needIncrement_3_0 6 rfl rfl)
theorem dJ8_needIncrement_3_8 : decode cJ8_needIncrement_3 8 = .ok (.invokevirtual 974, 3) := dk_182 3 206 (dk_at dksJ8_needIncrement_3_0 8 rfl rfl)
theorem dJ8_needIncrement_3_11 : decode cJ8_needIncrement_3 11 = .ok (.ifCond .eq 11, 3) := dk_153 0 11 (dk_at dksJ8_needIncrement_3_0 11 rfl rfl)
theorem dJ8_needIncrement_3_14 : decode cJ8_needIncrement_3 14 = .ok (.new 315, 3) := dk_187 1 59 (dk_at dksJ8_needIncrement_3_0 14 rfl rfl)
theorem dJ8_needIncrement_3_17 : decode cJ8_needIncrement_3 17 = .ok (.dup, 1) := dk_89 (dk_at dksJ8_needIncrement_3_0 17 rfl rfl)
theorem dJ8_needIncrement_3_18 : decode cJ8_needIncrement_3 18 = .ok (.invokespecial 317, 3) := dk_183 1 61 (dk_at dksJ8_needIncrement_3_0 18 rfl rfl)
theorem dJ8_needIncrement_3_21 : decode cJ8_needIncrement_3 21 = .ok (.athrow, 1) := dk_191 (dk_at dksJ8_needIncrement_3_0 21 rfl rfl)
theorem dJ8_needIncrement_3_22 : decode cJ8_needIncrement_3 22 = .ok (.aload 4, 2) := dk_25 4 (dk_at dksJ8_needIncrement_3_0 22 rfl rfl)
theorem dJ8_needIncrement_3_24 : decode cJ8_needIncrement_3 24 = .ok (.aload_n 0, 1) := dk_42 (dk_at dksJ8_needIncrement_3_1 0 rfl rfl)
theorem dJ8_needIncrement_3_25 : decode cJ8_needIncrement_3 25 = .ok (.invokevirtual 980, 3) := dk_182 3 212 (dk_at dksJ8_needIncrement_3_1 1 rfl rfl)
theorem dJ8_needIncrement_3_28 : decode cJ8_needIncrement_3 28 = .ok (.istore 5, 2) := dk_54 5 (dk_at dksJ8_needIncrement_3_1 4 rfl rfl)
theorem dJ8_needIncrement_3_30 : decode cJ8_needIncrement_3 30 = .ok (.iload_n 1, 1) := dk_27 (dk_at dksJ8_needIncrement_3_1 6 rfl rfl)
theorem dJ8_needIncrement_3_31 : decode cJ8_needIncrement_3 31 = .ok (.iload_n 2, 1) := dk_28 (dk_at dksJ8_needIncrement_3_1 7 rfl rfl)
theorem dJ8_needIncrement_3_32 : decode cJ8_needIncrement_3 32 = .ok (.iload 5, 2) := dk_21 5 (dk_at dksJ8_needIncrement_3_1 8 rfl rfl)
theorem dJ8_needIncrement_3_34 : decode cJ8_needIncrement_3 34 = .ok (.aload_n 3, 1) := dk_45 (dk_at dksJ8_needIncrement_3_1 10 rfl rfl)
theorem dJ8_needIncrement_3_35 : decode cJ8_needIncrement_3 35 = .ok (.invokevirtual 968, 3) := dk_182 3 200 (dk_at dksJ8_needIncrement_3_1 11 rfl rfl)
theorem dJ8_needIncrement_3_38 : decode cJ8_needIncrement_3 38 = .ok (.invokestatic 937, 3) := dk_184 3 169 (dk_at dksJ8_needIncrement_3_1 14 rfl rfl)
theorem dJ8_needIncrement_3_41 : decode cJ8_needIncrement_3 41 = .ok (.ireturn, 1) := dk_172 (dk_at dksJ8_needIncrement_3_1 17 rfl rfl)
def dkwJ8_divideAndRound_5_7 : List UInt8 := [25, 8, 21, 6, 28, 182, 3, 193, 176]
abbrev dktJ8_divideAndRound_5_7 : List UInt8 := dkwJ8_divideAndRound_5_7 ++ []
def dkwJ8_divideAndRound_5_6 : List UInt8 := [184, 2, 109, 176, 25, 8, 21, 6, 182, 3, 191, 58, 13, 25, 13, 28, 21, 4, 133, 184, 2, 113, 176]
abbrev dktJ8_divideAndRound_5_6 : List UInt8 := dkwJ8_divideAndRound_5_6 ++ dktJ8_divideAndRound_5_7
def dkwJ8_divideAndRound_5_5 : List UInt8 := [21, 6, 182, 3, 196, 55, 11, 22, 11, 20, 0, 125, 148, 153, 0, 13, 22, 11, 28, 21, 4, 133]
abbrev dktJ8_divideAndRound_5_5 : List UInt8 := dkwJ8_divideAndRound_5_5 ++ dktJ8_divideAndRound_5_6
def dkwJ8_divideAndRound_5_4 : List UInt8 := [178, 3, 185, 182, 3, 188, 25, 8, 21, 6, 28, 182, 3, 193, 176, 21, 4, 28, 159, 0, 50, 25, 8]
abbrev dktJ8_divideAndRound_5_4 : List UInt8 := dkwJ8_divideAndRound_5_4 ++ dktJ8_divideAndRound_5_5
def dkwJ8_divideAndRound_5_3 : List UInt8 := [54, 6, 21, 5, 154, 0, 35, 25, 9, 29, 21, 6, 25, 8, 25, 10, 184, 3, 209, 153, 0, 11, 25, 8]
abbrev dktJ8_divideAndRound_5_3 : List UInt8 := dkwJ8_divideAndRound_5_3 ++ dktJ8_divideAndRound_5_4
def dkwJ8_divideAndRound_5_2 : List UInt8 := [25, 10, 182, 3, 206, 54, 5, 42, 180, 3, 102, 43, 180, 3, 102, 159, 0, 7, 2, 167, 0, 4, 4]
abbrev dktJ8_divideAndRound_5_2 : List UInt8 := dkwJ8_divideAndRound_5_2 ++ dktJ8_divideAndRound_5_3
def dkwJ8_divideAndRound_5_1 : List UInt8 := [187, 3, 173, 89, 43, 180, 3, 110, 183, 3, 175, 58, 9, 25, 7, 25, 9, 25, 8, 182, 3, 203, 58, 10]
abbrev dktJ8_divideAndRound_5_1 : List UInt8 := dkwJ8_divideAndRound_5_1 ++ dktJ8_divideAndRound_5_2
def dkwJ8_divideAndRound_5_0 : List UInt8 := [187, 3, 173, 89, 42, 180, 3, 110, 183, 3, 175, 58, 7, 187, 3, 173, 89, 183, 3, 178, 58, 8]
abbrev dktJ8_divideAndRound_5_0 : List UInt8 := dkwJ8_divideAndRound_5_0 ++ dktJ8_divideAndRound_5_1
theorem dksJ8_divideAndRound_5_0 : cJ8_divideAndRound_5.data.toList.drop 0 = dktJ8_divideAndRound_5_0 := by decide +kernel
theorem dksJ8_divideAndRound_5_1 : cJ8_divideAndRound_5.data.toList.drop 22 = dktJ8_divideAndRound_5_1 := dk_seg dksJ8_divideAndRound_5_0 22 rfl rfl
theorem dksJ8_divideAndRound_5_2 : cJ8_divideAndRound_5.data.toList.drop 46 = dktJ8_divideAndRound_5_2 := dk_seg dksJ8_divideAndRound_5_1 24 rfl rfl
theorem dksJ8_divideAndRound_5_3 : cJ8_divideAndRound_5.data.toList.drop 69 = dktJ8_divideAndRound_5_3 := dk_seg dksJ8_divideAndRound_5_2 23 rfl rfl
theorem dksJ8_divideAndRound_5_4 : cJ8_divideAndRound_5.data.toList.drop 93 = dktJ8_divideAndRound_5_4 := dk_seg dksJ8_divideAndRound_5_3 24 rfl rfl
theorem dksJ8_divideAndRound_5_5 : cJ8_divideAndRound_5.data.toList.drop 116 = dktJ8_divideAndRound_5_5 := dk_seg dksJ8_divideAndRound_5_4 23 rfl rfl
theorem dksJ8_divideAndRound_5_6 : cJ8_divideAndRound_5.data.toList.drop 138 = dktJ8_divideAndRound_5_6 := dk_seg dksJ8_divideAndRound_5_5 22 rfl rfl
theorem dksJ8_divideAndRound_5_7 : cJ8_divideAndRound_5.data.toList.drop 161 = dktJ8_divideAndRound_5_7 := dk_seg dksJ8_divideAndRound_5_6 23 rfl rfl
theorem dJ8_divideAndRound_5_0 : decode cJ8_divideAndRound_5 0 = .ok (.new 941, 3) := dk_187 3 173 (dk_at dksJ8_divideAndRound_5_0 0 rfl rfl)
theorem dJ8_divideAndRound_5_3 : decode cJ8_divideAndRound_5 3 = .ok (.dup, 1) := dk_89 (dk_at dksJ8_divideAndRound_5_0 3 rfl rfl)
theorem dJ8_divideAndRound_5_4 : decode cJ8_divideAndRound_5 4 = .ok (.aload_n 0, 1) := dk_42 (dk_at dksJ8_divideAndRound_5_0 4 rfl rfl)
theorem dJ8_divideAndRound_5_5 : decode cJ8_divideAndRound_5 5 = .ok (.getfield 878, 3) := dk_180 3 110 (dk_at dksJ8_divideAndRound_5_0 5 rfl rfl)
theorem dJ8_divideAndRound_5_8 : decode cJ8_divideAndRound_5 8 = .ok (.invokespecial 943, 3) := dk_183 3 175 (dk_at dksJ8_divideAndRound_5_0 8 rfl rfl)
theorem dJ8_divideAndRound_5_11 : decode cJ8_divideAndRound_5 11 = .ok (.astore 7, 2) := dk_58 7 (dk_at dksJ8_divideAndRound_5_0 11 rfl rfl)
theorem dJ8_divideAndRound_5_13 : decode cJ8_divideAndRound_5 13 = .ok (.new 941, 3) := dk_187 3 173 (dk_at dksJ8_divideAndRound_5_0 13 rfl rfl)
theorem dJ8_divideAndRound_5_16 : decode cJ8_divideAndRound_5 16 = .ok (.dup, 1) := dk_89 (dk_at dksJ8_divideAndRound_5_0 16 rfl rfl)
theorem dJ8_divideAndRound_5_17 : decode cJ8_divideAndRound_5 17 = .ok (.invokespecial 946, 3) := dk_183 3 178 (dk_at dksJ8_divideAndRound_5_0 17 rfl rfl)
theorem dJ8_divideAndRound_5_20 : decode cJ8_divideAndRound_5 20 = .ok (.astore 8, 2) := dk_58 8 (dk_at dksJ8_divideAndRound_5_0 20 rfl rfl)
theorem dJ8_divideAndRound_5_22 : decode cJ8_divideAndRound_5 22 = .ok (.new 941, 3) := dk_187 3 173 (dk_at dksJ8_divideAndRound_5_1 0 rfl rfl)
theorem dJ8_divideAndRound_5_25 : decode cJ8_divideAndRound_5 25 = .ok (.dup, 1) := dk_89 (dk_at dksJ8_divideAndRound_5_1 3 rfl rfl)
theorem dJ8_divideAndRound_5_26 : decode cJ8_divideAndRound_5 26 = .ok (.aload_n 1, 1) := dk_43 (dk_at dksJ8_divideAndRound_5_1 4 rfl rfl)
theorem dJ8_divideAndRound_5_27 : decode cJ8_divideAndRound_5 27 = .ok (.getfield 878, 3) := dk_180 3 110 (dk_at dksJ8_divideAndRound_5_1 5 rfl rfl)
theorem dJ8_divideAndRound_5_30 : decode cJ8_divideAndRound_5 30 = .ok (.invokespecial 943, 3) := dk_183 3 175 (dk_at dksJ8_divideAndRound_5_1 8 rfl rfl)
theorem dJ8_divideAndRound_5_33 : decode cJ8_divideAndRound_5 33 = .ok (.astore 9, 2) := dk_58 9 (dk_at dksJ8_divideAndRound_5_1 11 rfl rfl)
theorem dJ8_divideAndRound_5_35 : decode cJ8_divideAndRound_5 35 = .ok (.aload 7, 2) := dk_25 7 (dk_at dksJ8_divideAndRound_5_1 13 rfl rfl)
theorem dJ8_divideAndRound_5_37 : decode cJ8_divideAndRound_5 37 = .ok (.aload 9, 2) := dk_25 9 (dk_at dksJ8_divideAndRound_5_1 15 rfl rfl)
theorem dJ8_divideAndRound_5_39 : decode cJ8_divideAndRound_5 39 = .ok (.aload 8, 2) := dk_25 8 (dk_at dksJ8_divideAndRound_5_1 17 rfl rfl)
theorem dJ8_divideAndRound_5_41 : decode cJ8_divideAndRound_5 41 = .ok (.invokevirtual 971, 3) := dk_182 3 203 (dk_at dksJ8_divideAndRound_5_1 19 rfl rfl)
theorem dJ8_divideAndRound_5_44 : decode cJ8_divideAndRound_5 44 = .ok (.astore 10, 2) := dk_58 10 (dk_at dksJ8_divideAndRound_5_1 22 rfl rfl)
theorem dJ8_divideAndRound_5_46 : decode cJ8_divideAndRound_5 46 = .ok (.aload 10, 2) := dk_25 10 (dk_at dksJ8_divideAndRound_5_2 0 rfl rfl)
theorem dJ8_divideAndRound_5_48 : decode cJ8_divideAndRound_5 48 = .ok (.invokevirtual 974, 3) := dk_182 3 206 (dk_at dksJ8_divideAndRound_5_2 2 rfl rfl)
theorem dJ8_divideAndRound_5_51 : decode cJ8_divideAndRound_5 51 = .ok (.istore 5, 2) := dk_54 5 (dk_at dksJ8_divideAndRound_5_2 5 rfl rfl)
theorem dJ8_divideAndRound_5_53 : decode cJ8_divideAndRound_5 53 = .ok (.aload_n 0, 1) := dk_42 (dk_at dksJ8_divideAndRound_5_2 7 rfl rfl)
theorem dJ8_divideAndRound_5_54 : decode cJ8_divideAndRound_5 54 = .ok (.getfield 870, 3) := dk_180 3 102 (dk_at dksJ8_divideAndRound_5_2 8 rfl rfl)
theorem dJ8_divideAndRound_5_57 : decode cJ8_divideAndRound_5 57 = .ok (.aload_n 1, 1) := dk_43 (dk_at dksJ8_divideAndRound_5_2 11 rfl rfl)
theorem dJ8_divideAndRound_5_58 : decode cJ8_divideAndRound_5 58 = .ok (.getfield 870, 3) := dk_180 3 102 (dk_at dksJ8_divideAndRound_5_2 12 rfl rfl)
theorem dJ8_divideAndRound_5_61 : decode cJ8_divideAndRound_5 61 = .ok (.if_icmp .eq 7, 3) := dk_159 0 7 (dk_at dksJ8_divideAndRound_5_2 15 rfl rfl)
theorem dJ8_divideAndRound_5_64 : decode cJ8_divideAndRound_5 64 = .ok (.iconst (-1), 1) := dk_2 (dk_at dksJ8_divideAndRound_5_2 18 rfl rfl)
theorem dJ8_divideAndRound_5_65 : decode cJ8_divideAndRound_5 65 = .ok (.goto 4, 3) := dk_167 0 4 (dk_at dksJ8_divideAndRound_5_2 19 rfl rfl)
theorem dJ8_divideAndRound_5_68 : decode cJ8_divideAndRound_5 68 = .ok (.iconst 1, 1) := dk_4 (dk_at dksJ8_divideAndRound_5_2 22 rfl rfl)
theorem dJ8_divideAndRound_5_69 : decode cJ8_divideAndRound_5 69 = .ok (.istore 6, 2) := dk_54 6 (dk_at dksJ8_divideAndRound_5_3 0 rfl rfl)
theorem dJ8_divideAndRound_5_71 : decode cJ8_divideAndRound_5 71 = .ok (.iload 5, 2) := dk_21 5 (dk_at dksJ8_divideAndRound_5_3 2 rfl rfl)
theorem dJ8_divideAndRound_5_73 : decode cJ8_divideAndRound_5 73 = .ok (.ifCond .ne 35, 3) := dk_154 0 35 (dk_at dksJ8_divideAndRound_5_3 4 rfl rfl)
theorem dJ8_divideAndRound_5_76 : decode cJ8_divideAndRound_5 76 = .ok (.aload 9, 2) := dk_25 9 (dk_at dksJ8_divideAndRound_5_3 7 rfl rfl)
theorem dJ8_divideAndRound_5_78 : decode cJ8_divideAndRound_5 78 = .ok (.iload_n 3, 1) := dk_29 (dk_at dksJ8_divideAndRound_5_3 9 rfl rfl)
theorem dJ8_divideAndRound_5_79 : decode cJ8_divideAndRound_5 79 = .ok (.iload 6, 2) := dk_21 6 (dk_at dksJ8_divideAndRound_5_3 10 rfl rfl)
theorem dJ8_divideAndRound_5_81 : decode cJ8_divideAndRound_5 81 = .ok (.aload 8, 2) := dk_25 8 (dk_at dksJ8_divideAndRound_5_3 12 rfl rfl)
theorem dJ8_divideAndRound_5_83 : decode cJ8_divideAndRound_5 83 = .ok (.aload 10, 2) := dk_25 10 (dk_at dksJ8_divideAndRound_5_3 14 rfl rfl)
theorem dJ8_divideAndRound_5_85 : decode cJ8_divideAndRound_5 85 = .ok (.invokestatic 977, 3) := dk_184 3 209 (dk_at dksJ8_divideAndRound_5_3 16 rfl rfl)
theorem dJ8_divideAndRound_5_88 : decode cJ8_divideAndRound_5 88 = .ok (.ifCond .eq 11, 3) := dk_153 0 11 (dk_at dksJ8_divideAndRound_5_3 19 rfl rfl)
theorem dJ8_divideAndRound_5_91 : decode cJ8_divideAndRound_5 91 = .ok (.aload 8, 2) := dk_25 8 (dk_at dksJ8_divideAndRound_5_3 22 rfl rfl)
theorem dJ8_divideAndRound_5_93 : decode cJ8_divideAndRound_5 93 = .ok (.getstatic 953, 3) := dk_178 3 185 (dk_at dksJ8_divideAndRound_5_4 0 rfl rfl)
theorem dJ8_divideAndRound_5_96 : decode cJ8_divideAndRound_5 96 = .ok (.invokevirtual 956, 3) := dk_182 3 188 (dk_at dksJ8_divideAndRound_5_4 3 rfl rfl)
theorem dJ8_divideAndRound_5_99 : decode cJ8_divideAndRound_5 99 = .ok (.aload 8, 2) := dk_25 8 (dk_at dksJ8_divideAndRound_5_4 6 rfl rfl)
theorem dJ8_divideAndRound_5_101 : decode cJ8_divideAndRound_5 101 = .ok (.iload 6, 2) := dk_21 6 (dk_at dksJ8_divideAndRound_5_4 8 rfl rfl)
theorem dJ8_divideAndRound_5_103 : decode cJ8_divideAndRound_5 103 = .ok (.iload_n 2, 1) := dk_28 (dk_at dksJ8_divideAndRound_5_4 10 rfl rfl)
theorem dJ8_divideAndRound_5_104 : decode cJ8_divideAndRound_5 104 = .ok (.invokevirtual 961, 3) := dk_182 3 193 (dk_at dksJ8_divideAndRound_5_4 11 rfl rfl)
theorem dJ8_divideAndRound_5_107 : decode cJ8_divideAndRound_5 107 = .ok (.areturn, 1) := dk_176 (dk_at dksJ8_divideAndRound_5_4 14 rfl rfl)
theorem dJ8_divideAndRound_5_108 : decode cJ8_divideAndRound_5 108 = .ok (.iload 4, 2) := dk_21 4 (dk_at dksJ8_divideAndRound_5_4 15 rfl rfl)
theorem dJ8_divideAndRound_5_110 : decode cJ8_divideAndRound_5 110 = .ok (.iload_n 2, 1) := dk_28 (dk_at dksJ8_divideAndRound_5_4 17 rfl rfl)
theorem dJ8_divideAndRound_5_111 : decode cJ8_divideAndRound_5 111 = .ok (.if_icmp .eq 50, 3) := dk_159 0 50 (dk_at dksJ8_divideAndRound_5_4 18 rfl rfl)
theorem dJ8_divideAndRound_5_114 : decode cJ8_divideAndRound_5 114 = .ok (.aload 8, 2) := dk_25 8 (dk_at dksJ8_divideAndRound_5_4 21 rfl rfl)
theorem dJ8_divideAndRound_5_116 : decode cJ8_divideAndRound_5 116 = .ok (.iload 6, 2) := dk_21 6 (dk_at dksJ8_divideAndRound_5_5 0 rfl rfl)
theorem dJ8_divideAndRound_5_118 : decode cJ8_divideAndRound_5 118 = .ok (.invokevirtual 964, 3) := dk_182 3 196 (dk_at dksJ8_divideAndRound_5_5 2 rfl rfl)
theorem dJ8_divideAndRound_5_121 : decode cJ8_divideAndRound_5 121 = .ok (.lstore 11, 2) := dk_55 11 (dk_at dksJ8_divideAndRound_5_5 5 rfl rfl)
theorem dJ8_divideAndRound_5_123 : decode cJ8_divideAndRound_5 123 = .ok (.lload 11, 2) := dk_22 11 (dk_at dksJ8_divideAndRound_5_5 7 rfl rfl)
theorem dJ8_divideAndRound_5_125 : decode cJ8_divideAndRound_5 125 = .ok (.ldc2_w 125, 3) := dk_20 0 125 (dk_at dksJ8_divideAndRound_5_5 9 rfl rfl)
theorem dJ8_divideAndRound_5_128 : decode cJ8_divideAndRound_5 128 = .ok (.lcmp, 1) := dk_148 (dk_at dksJ8_divideAndRound_5_5 12 rfl rfl)
theorem dJ8_divideAndRound_5_129 : decode cJ8_divideAndRound_5 129 = .ok (.ifCond .eq 13, 3) := dk_153 0 13 (dk_at dksJ8_divideAndRound_5_5 13 rfl rfl)
theorem dJ8_divideAndRound_5_132 : decode cJ8_divideAndRound_5 132 = .ok (.lload 11, 2) := dk_22 11 (dk_at dksJ8_divideAndRound_5_5 16 rfl rfl)
theorem dJ8_divideAndRound_5_134 : decode cJ8_divideAndRound_5 134 = .ok (.iload_n 2, 1) := dk_28 (dk_at dksJ8_divideAndRound_5_5 18 rfl rfl)
theorem dJ8_divideAndRound_5_135 : decode cJ8_divideAndRound_5 135 = .ok (.iload 4, 2) := dk_21 4 (dk_at dksJ8_divideAndRound_5_5 19 rfl rfl)
theorem dJ8_divideAndRound_5_137 : decode cJ8_divideAndRound_5 137 = .ok (.i2l, 1) := dk_133 (dk_at dksJ8_divideAndRound_5_5 21 rfl rfl)
theorem dJ8_divideAndRound_5_138 : decode cJ8_divideAndRound_5 138 = .ok (.invokestatic 621, 3) := dk_184 2 109 (dk_at dksJ8_divideAndRound_5_6 0 rfl rfl)
theorem dJ8_divideAndRound_5_141 : decode cJ8_divideAndRound_5 141 = .ok (.areturn, 1) := dk_176 (dk_at dksJ8_divideAndRound_5_6 3 rfl rfl)
theorem dJ8_divideAndRound_5_142 : decode cJ8_divideAndRound_5 142 = .ok (.aload 8, 2) := dk_25 8 (dk_at dksJ8_divideAndRound_5_6 4 rfl rfl)
theorem dJ8_divideAndRound_5_144 : decode cJ8_divideAndRound_5 144 = .ok (.iload 6, 2) := dk_21 6 (dk_at dksJ8_divideAndRound_5_6 6 rfl rfl)
theorem dJ8_divideAndRound_5_146 : decode cJ8_divideAndRound_5 146 = .ok (.invokevirtual 959, 3) := dk_182 3 191 (dk_at dksJ8_divideAndRound_5_6 8 rfl rfl)
theorem dJ8_divideAndRound_5_149 : decode cJ8_divideAndRound_5 149 = .ok (.astore 13, 2) := dk_58 13 (dk_at dksJ8_divideAndRound_5_6 11 rfl rfl)
theorem dJ8_divideAndRound_5_151 : decode cJ8_divideAndRound_5 151 = .ok (.aload 13, 2) := dk_25 13 (dk_at dksJ8_divideAndRound_5_6 13 rfl rfl)
theorem dJ8_divideAndRound_5_153 : decode cJ8_divideAndRound_5 153 = .ok (.iload_n 2, 1) := dk_28 (dk_at dksJ8_divideAndRound_5_6 15 rfl rfl)
theorem dJ8_divideAndRound_5_154 : decode cJ8_divideAndRound_5 154 = .ok (.iload 4, 2) := dk_21 4 (dk_at dksJ8_divideAndRound_5_6 16 rfl rfl)
theorem dJ8_divideAndRound_5_156 : decode cJ8_divideAndRound_5 156 = .ok (.i2l, 1) := dk_133 (dk_at dksJ8_divideAndRound_5_6 18 rfl rfl)
theorem dJ8_divideAndRound_5_157 : decode cJ8_divideAndRound_5 157 = .ok (.invokestatic 625, 3) := dk_184 2 113 (dk_at dksJ8_divideAndRound_5_6 19 rfl rfl)
theorem dJ8_divideAndRound_5_160 : decode cJ8_divideAndRound_5 160 = .ok (.areturn, 1) := dk_176 (dk_at dksJ8_divideAndRound_5_6 22 rfl rfl)
theorem dJ8_divideAndRound_5_161 : decode cJ8_divideAndRound_5 161 = .ok (.aload 8, 2) := dk_25 8 (dk_at dksJ8_divideAndRound_5_7 0 rfl rfl)
theorem dJ8_divideAndRound_5_163 : decode cJ8_divideAndRound_5 163 = .ok (.iload 6, 2) := dk_21 6 (dk_at dksJ8_divideAndRound_5_7 2 rfl rfl)
theorem dJ8_divideAndRound_5_165 : decode cJ8_divideAndRound_5 165 = .ok (.iload_n 2, 1) := dk_28 (dk_at dksJ8_divideAndRound_5_7 4 rfl rfl)
theorem dJ8_divideAndRound_5_166 : decode cJ8_divideAndRound_5 166 = .ok (.invokevirtual 961, 3) := dk_182 3 193 (dk_at dksJ8_divideAndRound_5_7 5 rfl rfl)
theorem dJ8_divideAndRound_5_169 : decode cJ8_divideAndRound_5 169 = .ok (.areturn, 1) := dk_176 (dk_at dksJ8_divideAndRound_5_7 8 rfl rfl)
def dkwJ8_divide_0 : List UInt8 := [42, 43, 28, 45, 180, 0, 103, 182, 1, 125, 176]
abbrev dktJ8_divide_0 : List UInt8 := dkwJ8_divide_0 ++ []
theorem dksJ8_divide_0 : cJ8_divide.data.toList.drop 0 = dktJ8_divide_0 := by decide +kernel
theorem dJ8_divide_0 : decode cJ8_divide 0 = .ok (.aload_n 0, 1) := dk_42 (dk_at dksJ8_divide_0 0 rfl rfl)
theorem dJ8_divide_1 : decode cJ8_divide 1 = .ok (.aload_n 1, 1) := dk_43 (dk_at dksJ8_divide_0 1 rfl rfl)
theorem dJ8_divide_2 : decode cJ8_divide 2 = .ok (.iload_n 2, 1) := dk_28 (dk_at dksJ8_divide_0 2 rfl rfl)
theorem dJ8_divide_3 : decode cJ8_divide 3 = .ok (.aload_n 3, 1) := dk_45 (dk_at dksJ8_divide_0 3 rfl rfl)
theorem dJ8_divide_4 : decode cJ8_divide 4 = .ok (.getfield 103, 3) := dk_180 0 103 (dk_at dksJ8_divide_0 4 rfl rfl)
theorem dJ8_divide_7 : decode cJ8_divide 7 = .ok (.invokevirtual 381, 3) := dk_182 1 125 (dk_at dksJ8_divide_0 7 rfl rfl)
theorem dJ8_divide_10 : decode cJ8_divide 10 = .ok (.areturn, 1) := dk_176 (dk_at dksJ8_divide_0 10 rfl rfl)
def dkwJ8_divide_2_6 : List UInt8 := [180, 0, 17, 28, 29, 184, 1, 122, 176]
abbrev dktJ8_divide_2_6 : List UInt8 := dkwJ8_divide_2_6 ++ []
def dkwJ8_divide_2_5 : List UInt8 := [180, 0, 17, 28, 29, 184, 1, 119, 176, 42, 180, 0, 28, 42, 180, 0, 17, 43, 180, 0, 28, 43]
abbrev dktJ8_divide_2_5 : List UInt8 := dkwJ8_divide_2_5 ++ dktJ8_divide_2_6
def dkwJ8_divide_2_4 : List UInt8 := [180, 0, 24, 20, 0, 125, 148, 153, 0, 25, 42, 180, 0, 28, 42, 180, 0, 17, 43, 180, 0, 24, 43]
abbrev dktJ8_divide_2_4 : List UInt8 := dkwJ8_divide_2_4 ++ dktJ8_divide_2_5
def dkwJ8_divide_2_3 : List UInt8 := [180, 0, 24, 42, 180, 0, 17, 43, 180, 0, 28, 43, 180, 0, 17, 28, 29, 184, 1, 116, 176, 43]
abbrev dktJ8_divide_2_3 : List UInt8 := dkwJ8_divide_2_3 ++ dktJ8_divide_2_4
def dkwJ8_divide_2_2 : List UInt8 := [180, 0, 24, 42, 180, 0, 17, 43, 180, 0, 24, 43, 180, 0, 17, 28, 29, 184, 1, 112, 176, 42]
abbrev dktJ8_divide_2_2 : List UInt8 := dkwJ8_divide_2_2 ++ dktJ8_divide_2_3
def dkwJ8_divide_2_1 : List UInt8 := [180, 0, 24, 20, 0, 125, 148, 153, 0, 58, 43, 180, 0, 24, 20, 0, 125, 148, 153, 0, 25, 42]
abbrev dktJ8_divide_2_1 : List UInt8 := dkwJ8_divide_2_1 ++ dktJ8_divide_2_2
def dkwJ8_divide_2_0 : List UInt8 := [29, 155, 0, 9, 29, 16, 7, 164, 0, 14, 187, 1, 107, 89, 19, 1, 109, 183, 1, 111, 191, 42]
abbrev dktJ8_divide_2_0 : List UInt8 := dkwJ8_divide_2_0 ++ dktJ8_divide_2_1
theorem dksJ8_divide_2_0 : cJ8_divide_2.data.toList.drop 0 = dktJ8_divide_2_0 := by decide +kernel
theorem dksJ8_divide_2_1 : cJ8_divide_2.data.toList.drop 22 = dktJ8_divide_2_1 := dk_seg dksJ8_divide_2_0 22 rfl rfl
theorem dksJ8_divide_2_2 : cJ8_divide_2.data.toList.drop 44 = dktJ8_divide_2_2 := dk_seg dksJ8_divide_2_1 22 rfl rfl
theorem dksJ8_divide_2_3 : cJ8_divide_2.data.toList.drop 66 = dktJ8_divide_2_3 := dk_seg dksJ8_divide_2_2 22 rfl rfl
theorem dksJ8_divide_2_4 : cJ8_divide_2.data.toList.drop 88 = dktJ8_divide_2_4 := dk_seg dksJ8_divide_2_3 22 rfl rfl
theorem dksJ8_divide_2_5 : cJ8_divide_2.data.toList.drop 111 = dktJ8_divide_2_5 := dk_seg dksJ8_divide_2_4 23 rfl rfl
theorem dksJ8_divide_2_6 : cJ8_divide_2.data.toList.drop 133 = dktJ8_divide_2_6 := dk_seg dksJ8_divide_2_5 22 rfl rfl
theorem dJ8_divide_2_0 : decode cJ8_divide_2 0 = .ok (.iload_n 3, 1) := dk_29 (dk_at dksJ8_divide_2_0 0 rfl rfl)
theorem dJ8_divide_2_1 : decode cJ8_divide_2 1 = .ok (.ifCond .lt 9, 3) := dk_155 0 9 (dk_at dksJ8_divide_2_0 1 rfl rfl)
theorem dJ8_divide_2_4 : decode cJ8_divide_2 4 = .ok (.iload_n 3, 1) := dk_29 (dk_at dksJ8_divide_2_0 4 rfl rfl)
theorem dJ8_divide_2_5 : decode cJ8_divide_2 5 = .ok (.bipush 7, 2) := dk_16 7 (dk_at dksJ8_divide_2_0 5 rfl rfl)
theorem dJ8_divide_2_7 : decode cJ8_divide_2 7 = .ok (.if_icmp .le 14, 3) := dk_164 0 14 (dk_at dksJ8_divide_2_0 7 rfl rfl)
theorem dJ8_divide_2_10 : decode cJ8_divide_2 10 = .ok (.new 363, 3) := dk_187 1 107 (dk_at dksJ8_divide_2_0 10 rfl rfl)
theorem dJ8_divide_2_13 : decode cJ8_divide_2 13 = .ok (.dup, 1) := dk_89 (dk_at dksJ8_divide_2_0 13 rfl rfl)
theorem dJ8_divide_2_14 : decode cJ8_divide_2 14 = .ok (.ldc_w 365, 3) := dk_19 1 109 (dk_at dksJ8_divide_2_0 14 rfl rfl)
theorem dJ8_divide_2_17 : decode cJ8_divide_2 17 = .ok (.invokespecial 367, 3) := dk_183 1 111 (dk_at dksJ8_divide_2_0 17 rfl rfl)
theorem dJ8_divide_2_20 : decode cJ8_divide_2 20 = .ok (.athrow, 1) := dk_191 (dk_at dksJ8_divide_2_0 20 rfl rfl)
theorem dJ8_divide_2_21 : decode cJ8_divide_2 21 = .ok (.aload_n 0, 1) := dk_42 (dk_at dksJ8_divide_2_0 21 rfl rfl)
theorem dJ8_divide_2_22 : decode cJ8_divide_2 22 = .ok (.getfield 24, 3) := dk_180 0 24 (dk_at dksJ8_divide_2_1 0 rfl rfl)
theorem dJ8_divide_2_25 : decode cJ8_divide_2 25 = .ok (.ldc2_w 125, 3) := dk_20 0 125 (dk_at dksJ8_divide_2_1 3 rfl rfl)
theorem dJ8_divide_2_28 : decode cJ8_divide_2 28 = .ok (.lcmp, 1) := dk_148 (dk_at dksJ8_divide_2_1 6 rfl rfl)
theorem dJ8_divide_2_29 : decode cJ8_divide_2 29 = .ok (.ifCond .eq 58, 3) := dk_153 0 58 (dk_at dksJ8_divide_2_1 7 rfl rfl)
theorem dJ8_divide_2_32 : decode cJ8_divide_2 32 = .ok (.aload_n 1, 1) := dk_43 (dk_at dksJ8_divide_2_1 10 rfl rfl)
theorem dJ8_divide_2_33 : decode cJ8_divide_2 33 = .ok (.getfield 24, 3) := dk_180 0 24 (dk_at dksJ8_divide_2_1 11 rfl rfl)
theorem dJ8_divide_2_36 : decode cJ8_divide_2 36 = .ok (.ldc2_w 125, 3) := dk_20 0 125 (dk_at dksJ8_divide_2_1 14 rfl rfl)
theorem dJ8_divide_2_39 : decode cJ8_divide_2 39 = .ok (.lcmp, 1) := dk_148 (dk_at dksJ8_divide_2_1 17 rfl rfl)
theorem dJ8_divide_2_40 : decode cJ8_divide_2 40 = .ok (.ifCond .eq 25, 3) := dk_153 0 25 (dk_at dksJ8_divide_2_1 18 rfl rfl)
theorem dJ8_divide_2_43 : decode cJ8_divide_2 43 = .ok (.aload_n 0, 1) := dk_42 (dk_at dksJ8_divide_2_1 21 rfl rfl)
theorem dJ8_divide_2_44 : decode cJ8_divide_2 44 = .ok (.getfield 24, 3) := dk_180 0 24 (dk_at dksJ8_divide_2_2 0 rfl rfl)
theorem dJ8_divide_2_47 : decode cJ8_divide_2 47 = .ok (.aload_n 0, 1) := dk_42 (dk_at dksJ8_divide_2_2 3 rfl rfl)
theorem dJ8_divide_2_48 : decode cJ8_divide_2 48 = .ok (.getfield 17, 3) := dk_180 0 17 (dk_at dksJ8_divide_2_2 4 rfl rfl)
theorem dJ8_divide_2_51 : decode cJ8_divide_2 51 = .ok (.aload_n 1, 1) := dk_43 (dk_at dksJ8_divide_2_2 7 rfl rfl)
theorem dJ8_divide_2_52 : decode cJ8_divide_2 52 = .ok (.getfield 24, 3) := dk_180 0 24 (dk_at dksJ8_divide_2_2 8 rfl rfl)
theorem dJ8_divide_2_55 : decode cJ8_divide_2 55 = .ok (.aload_n 1, 1) := dk_43 (dk_at dksJ8_divide_2_2 11 rfl rfl)
theorem dJ8_divide_2_56 : decode cJ8_divide_2 56 = .ok (.getfield 17, 3) := dk_180 0 17 (dk_at dksJ8_divide_2_2 12 rfl rfl)
theorem dJ8_divide_2_59 : decode cJ8_divide_2 59 = .ok (.iload_n 2, 1) := dk_28 (dk_at dksJ8_divide_2_2 15 rfl rfl)
theorem dJ8_divide_2_60 : decode cJ8_divide_2 60 = .ok (.iload_n 3, 1) := dk_29 (dk_at dksJ8_divide_2_2 16 rfl rfl)
theorem dJ8_divide_2_61 : decode cJ8_divide_2 61 = .ok (.invokestatic 368, 3) := dk_184 1 112 (dk_at dksJ8_divide_2_2 17 rfl rfl)
theorem dJ8_divide_2_64 : decode cJ8_divide_2 64 = .ok (.areturn, 1) := dk_176 (dk_at dksJ8_divide_2_2 20 rfl rfl)
theorem dJ8_divide_2_65 : decode cJ8_divide_2 65 = .ok (.aload_n 0, 1) := dk_42 (dk_at dksJ8_divide_2_2 21 rfl rfl)
theorem dJ8_divide_2_66 : decode cJ8_divide_2 66 = .ok (.getfield 24, 3) := dk_180 0 24 (dk_at dksJ8_divide_2_3 0 rfl rfl)
theorem dJ8_divide_2_69 : decode cJ8_divide_2 69 = .ok (.aload_n 0, 1) := dk_42 (dk_at dksJ8_divide_2_3 3 rfl rfl)
theorem dJ8_divide_2_70 : decode cJ8_divide_2 70 = .ok (.getfield 17, 3) := dk_180 0 17 (dk_at dksJ8_divide_2_3 4 rfl rfl)
theorem dJ8_divide_2_73 : decode cJ8_divide_2 73 = .ok (.aload_n 1, 1) := dk_43 (dk_at dksJ8_divide_2_3 7 rfl rfl)
theorem dJ8_divide_2_74 : decode cJ8_divide_2 74 = .ok (.getfield 28, 3) := dk_180 0 28 (dk_at dksJ8_divide_2_3 8 rfl rfl)
theorem dJ8_divide_2_77 : decode cJ8_divide_2 77 = .ok (.aload_n 1, 1) := dk_43 (dk_at dksJ8_divide_2_3 11 rfl rfl)
theorem dJ8_divide_2_78 : decode cJ8_divide_2 78 = .ok (.getfield 17, 3) := dk_180 0 17 (dk_at dksJ8_divide_2_3 12 rfl rfl)
theorem dJ8_divide_2_81 : decode cJ8_divide_2 81 = .ok (.iload_n 2, 1) := dk_28 (dk_at dksJ8_divide_2_3 15 rfl rfl)
theorem dJ8_divide_2_82 : decode cJ8_divide_2 82 = .ok (.iload_n 3, 1) := dk_29 (dk_at dksJ8_divide_2_3 16 rfl rfl)
theorem dJ8_divide_2_83 : decode cJ8_divide_2 83 = .ok (.invokestatic 372, 3) := dk_184 1 116 (dk_at dksJ8_divide_2_3 17 rfl rfl)
theorem dJ8_divide_2_86 : decode cJ8_divide_2 86 = .ok (.areturn, 1) := dk_176 (dk_at dksJ8_divide_2_3 20 rfl rfl)
theorem dJ8_divide_2_87 : decode cJ8_divide_2 87 = .ok (.aload_n 1, 1) := dk_43 (dk_at dksJ8_divide_2_3 21 rfl rfl)
theorem dJ8_divide_2_88 : decode cJ8_divide_2 88 = .ok (.getfield 24, 3) := dk_180 0 24 (dk_at dksJ8_divide_2_4 0 rfl rfl)
theorem dJ8_divide_2_91 : decode cJ8_divide_2 91 = .ok (.ldc2_w 125, 3) := dk_20 0 125 (dk_at dksJ8_divide_2_4 3 rfl rfl)
theorem dJ8_divide_2_94 : decode cJ8_divide_2 94 = .ok (.lcmp, 1) := dk_148 (dk_at dksJ8_divide_2_4 6 rfl rfl)
theorem dJ8_divide_2_95 : decode cJ8_divide_2 95 = .ok (.ifCond .eq 25, 3) := dk_153 0 25 (dk_at dksJ8_divide_2_4 7 rfl rfl)
theorem dJ8_divide_2_98 : decode cJ8_divide_2 98 = .ok (.aload_n 0, 1) := dk_42 (dk_at dksJ8_divide_2_4 10 rfl rfl)
theorem dJ8_divide_2_99 : decode cJ8_divide_2 99 = .ok (.getfield 28, 3) := dk_180 0 28 (dk_at dksJ8_divide_2_4 11 rfl rfl)
theorem dJ8_divide_2_102 : decode cJ8_divide_2 102 = .ok (.aload_n 0, 1) := dk_42 (dk_at dksJ8_divide_2_4 14 rfl rfl)
theorem dJ8_divide_2_103 : decode cJ8_divide_2 103 = .ok (.getfield 17, 3) := dk_180 0 17 (dk_at dksJ8_divide_2_4 15 rfl rfl)
theorem dJ8_divide_2_106 : decode cJ8_divide_2 106 = .ok (.aload_n 1, 1) := dk_43 (dk_at dksJ8_divide_2_4 18 rfl rfl)
theorem dJ8_divide_2_107 : decode cJ8_divide_2 107 = .ok (.getfield 24, 3) := dk_180 0 24 (dk_at dksJ8_divide_2_4 19 rfl rfl)
theorem dJ8_divide_2_110 : decode cJ8_divide_2 110 = .ok (.aload_n 1, 1) := dk_43 (dk_at dksJ8_divide_2_4 22 rfl rfl)
theorem dJ8_divide_2_111 : decode cJ8_divide_2 111 = .ok (.getfield 17, 3) := dk_180 0 17 (dk_at dksJ8_divide_2_5 0 rfl rfl)
theorem dJ8_divide_2_114 : decode cJ8_divide_2 114 = .ok (.iload_n 2, 1) := dk_28 (dk_at dksJ8_divide_2_5 3 rfl rfl)
theorem dJ8_divide_2_115 : decode cJ8_divide_2 115 = .ok (.iload_n 3, 1) := dk_29 (dk_at dksJ8_divide_2_5 4 rfl rfl)
theorem dJ8_divide_2_116 : decode cJ8_divide_2 116 = .ok (.invokestatic 375, 3) := dk_184 1 119 (dk_at dksJ8_divide_2_5 5 rfl rfl)
theorem dJ8_divide_2_119 : decode cJ8_divide_2 119 = .ok (.areturn, 1) := dk_176 (dk_at dksJ8_divide_2_5 8 rfl rfl)
theorem dJ8_divide_2_120 : decode cJ8_divide_2 120 = .ok (.aload_n 0, 1) := dk_42 (dk_at dksJ8_divide_2_5 9 rfl rfl)
theorem dJ8_divide_2_121 : decode cJ8_divide_2 121 = .ok (.getfield 28, 3) := dk_180 0 28 (dk_at dksJ8_divide_2_5 10 rfl rfl)
theorem dJ8_divide_2_124 : decode cJ8_divide_2 124 = .ok (.aload_n 0, 1) := dk_42 (dk_at dksJ8_divide_2_5 13 rfl rfl)
theorem dJ8_divide_2_125 : decode cJ8_divide_2 125 = .ok (.getfield 17, 3) := dk_180 0 17 (dk_at dksJ8_divide_2_5 14 rfl rfl)
theorem dJ8_divide_2_128 : decode cJ8_divide_2 128 = .ok (.aload_n 1, 1) := dk_43 (dk_at dksJ8_divide_2_5 17 rfl rfl)
theorem dJ8_divide_2_129 : decode cJ8_divide_2 129 = .ok (.getfield 28, 3) := dk_180 0 28 (dk_at dksJ8_divide_2_5 18 rfl rfl)
theorem dJ8_divide_2_132 : decode cJ8_divide_2 132 = .ok (.aload_n 1, 1) := dk_43 (dk_at dksJ8_divide_2_5 21 rfl rfl)
theorem dJ8_divide_2_133 : decode cJ8_divide_2 133 = .ok (.getfield 17, 3) := dk_180 0 17 (dk_at dksJ8_divide_2_6 0 rfl rfl)
theorem dJ8_divide_2_136 : decode cJ8_divide_2 136 = .ok (.iload_n 2, 1) := dk_28 (dk_at dksJ8_divide_2_6 3 rfl rfl)
theorem dJ8_divide_2_137 : decode cJ8_divide_2 137 = .ok (.iload_n 3, 1) := dk_29 (dk_at dksJ8_divide_2_6 4 rfl rfl)
theorem dJ8_divide_2_138 : decode cJ8_divide_2 138 = .ok (.invokestatic 378, 3) := dk_184 1 122 (dk_at dksJ8_divide_2_6 5 rfl rfl)
theorem dJ8_divide_2_141 : decode cJ8_divide_2 141 = .ok (.areturn, 1) := dk_176 (dk_at dksJ8_divide_2_6 8 rfl rfl)
def dkwJ8_divide_3_8 : List UInt8 := [184, 0, 193, 25, 10, 21, 6, 21, 7, 21, 6, 184, 2, 100, 176]
abbrev dktJ8_divide_3_8 : List UInt8 := dkwJ8_divide_3_8 ++ []
def dkwJ8_divide_3_7 : List UInt8 := [30, 22, 10, 21, 6, 21, 7, 21, 6, 184, 2, 94, 176, 33, 21, 9, 184, 3, 234, 58, 10, 30]
abbrev dktJ8_divide_3_7 : List UInt8 := dkwJ8_divide_3_7 ++ dktJ8_divide_3_8
def dkwJ8_divide_3_6 : List UInt8 := [190, 162, 0, 36, 33, 55, 10, 22, 10, 21, 9, 184, 2, 87, 92, 55, 10, 20, 0, 125, 148, 153, 0, 16]
abbrev dktJ8_divide_3_6 : List UInt8 := dkwJ8_divide_3_6 ++ dktJ8_divide_3_7
def dkwJ8_divide_3_5 : List UInt8 := [33, 28, 133, 21, 6, 133, 101, 184, 3, 226, 54, 8, 21, 8, 21, 5, 100, 54, 9, 21, 9, 178, 0, 95]
abbrev dktJ8_divide_3_5 : List UInt8 := dkwJ8_divide_3_5 ++ dktJ8_divide_3_6
def dkwJ8_divide_3_4 : List UInt8 := [25, 12, 176, 30, 21, 9, 184, 3, 234, 58, 10, 25, 10, 33, 21, 6, 21, 7, 21, 6, 184, 2, 106, 176]
abbrev dktJ8_divide_3_4 : List UInt8 := dkwJ8_divide_3_4 ++ dktJ8_divide_3_5
def dkwJ8_divide_3_3 : List UInt8 := [178, 0, 95, 21, 9, 47, 30, 33, 21, 6, 21, 7, 21, 6, 184, 3, 237, 58, 12, 25, 12, 198, 0, 6]
abbrev dktJ8_divide_3_3 : List UInt8 := dkwJ8_divide_3_3 ++ dktJ8_divide_3_4
def dkwJ8_divide_3_2 : List UInt8 := [55, 10, 20, 0, 125, 148, 153, 0, 16, 22, 10, 33, 21, 6, 21, 7, 21, 6, 184, 2, 94, 176]
abbrev dktJ8_divide_3_2 : List UInt8 := dkwJ8_divide_3_2 ++ dktJ8_divide_3_3
def dkwJ8_divide_3_1 : List UInt8 := [28, 100, 54, 9, 21, 9, 178, 0, 95, 190, 162, 0, 63, 30, 55, 10, 22, 10, 21, 9, 184, 2, 87, 92]
abbrev dktJ8_divide_3_1 : List UInt8 := dkwJ8_divide_3_1 ++ dktJ8_divide_3_2
def dkwJ8_divide_3_0 : List UInt8 := [30, 21, 6, 133, 21, 5, 133, 97, 184, 3, 226, 28, 164, 0, 106, 21, 6, 21, 5, 96, 54, 8, 21, 8]
abbrev dktJ8_divide_3_0 : List UInt8 := dkwJ8_divide_3_0 ++ dktJ8_divide_3_1
theorem dksJ8_divide_3_0 : cJ8_divide_3.data.toList.drop 0 = dktJ8_divide_3_0 := by decide +kernel
theorem dksJ8_divide_3_1 : cJ8_divide_3.data.toList.drop 24 = dktJ8_divide_3_1 := dk_seg dksJ8_divide_3_0 24 rfl rfl
theorem dksJ8_divide_3_2 : cJ8_divide_3.data.toList.drop 48 = dktJ8_divide_3_2 := dk_seg dksJ8_divide_3_1 24 rfl rfl
theorem dksJ8_divide_3_3 : cJ8_divide_3.data.toList.drop 70 = dktJ8_divide_3_3 := dk_seg dksJ8_divide_3_2 22 rfl rfl
theorem dksJ8_divide_3_4 : cJ8_divide_3.data.toList.drop 94 = dktJ8_divide_3_4 := dk_seg dksJ8_divide_3_3 24 rfl rfl
theorem dksJ8_divide_3_5 : cJ8_divide_3.data.toList.drop 118 = dktJ8_divide_3_5 := dk_seg dksJ8_divide_3_4 24 rfl rfl
theorem dksJ8_divide_3_6 : cJ8_divide_3.data.toList.drop 142 = dktJ8_divide_3_6 := dk_seg dksJ8_divide_3_5 24 rfl rfl
theorem dksJ8_divide_3_7 : cJ8_divide_3.data.toList.drop 166 = dktJ8_divide_3_7 := dk_seg dksJ8_divide_3_6 24 rfl rfl
theorem dksJ8_divide_3_8 : cJ8_divide_3.data.toList.drop 188 = dktJ8_divide_3_8 := dk_seg dksJ8_divide_3_7 22 rfl rfl
theorem dJ8_divide_3_0 : decode cJ8_divide_3 0 = .ok (.lload_n 0, 1) := dk_30 (dk_at dksJ8_divide_3_0 0 rfl rfl)
theorem dJ8_divide_3_1 : decode cJ8_divide_3 1 = .ok (.iload 6, 2) := dk_21 6 (dk_at dksJ8_divide_3_0 1 rfl rfl)
theorem dJ8_divide_3_3 : decode cJ8_divide_3 3 = .ok (.i2l, 1) := dk_133 (dk_at dksJ8_divide_3_0 3 rfl rfl)
theorem dJ8_divide_3_4 : decode cJ8_divide_3 4 = .ok (.iload 5, 2) := dk_21 5 (dk_at dksJ8_divide_3_0 4 rfl rfl)
theorem dJ8_divide_3_6 : decode cJ8_divide_3 6 = .ok (.i2l, 1) := dk_133 (dk_at dksJ8_divide_3_0 6 rfl rfl)
theorem dJ8_divide_3_7 : decode cJ8_divide_3 7 = .ok (.ladd, 1) := dk_97 (dk_at dksJ8_divide_3_0 7 rfl rfl)
theorem dJ8_divide_3_8 : decode cJ8_divide_3 8 = .ok (.invokestatic 994, 3) := dk_184 3 226 (dk_at dksJ8_divide_3_0 8 rfl rfl)
theorem dJ8_divide_3_11 : decode cJ8_divide_3 11 = .ok (.iload_n 2, 1) := dk_28 (dk_at dksJ8_divide_3_0 11 rfl rfl)
theorem dJ8_divide_3_12 : decode cJ8_divide_3 12 = .ok (.if_icmp .le 106, 3) := dk_164 0 106 (dk_at dksJ8_divide_3_0 12 rfl rfl)
theorem dJ8_divide_3_15 : decode cJ8_divide_3 15 = .ok (.iload 6, 2) := dk_21 6 (dk_at dksJ8_divide_3_0 15 rfl rfl)
theorem dJ8_divide_3_17 : decode cJ8_divide_3 17 = .ok (.iload 5, 2) := dk_21 5 (dk_at dksJ8_divide_3_0 17 rfl rfl)
theorem dJ8_divide_3_19 : decode cJ8_divide_3 19 = .ok (.iadd, 1) := dk_96 (dk_at dksJ8_divide_3_0 19 rfl rfl)
theorem dJ8_divide_3_20 : decode cJ8_divide_3 20 = .ok (.istore 8, 2) := dk_54 8 (dk_at dksJ8_divide_3_0 20 rfl rfl)
theorem dJ8_divide_3_22 : decode cJ8_divide_3 22 = .ok (.iload 8, 2) := dk_21 8 (dk_at dksJ8_divide_3_0 22 rfl rfl)
theorem dJ8_divide_3_24 : decode cJ8_divide_3 24 = .ok (.iload_n 2, 1) := dk_28 (dk_at dksJ8_divide_3_1 0 rfl rfl)
theorem dJ8_divide_3_25 : decode cJ8_divide_3 25 = .ok (.isub, 1) := dk_100 (dk_at dksJ8_divide_3_1 1 rfl rfl)
theorem dJ8_divide_3_26 : decode cJ8_divide_3 26 = .ok (.istore 9, 2) := dk_54 9 (dk_at dksJ8_divide_3_1 2 rfl rfl)
theorem dJ8_divide_3_28 : decode cJ8_divide_3 28 = .ok (.iload 9, 2) := dk_21 9 (dk_at dksJ8_divide_3_1 4 rfl rfl)
theorem dJ8_divide_3_30 : decode cJ8_divide_3 30 = .ok (.getstatic 95, 3) := dk_178 0 95 (dk_at dksJ8_divide_3_1 6 rfl rfl)
theorem dJ8_divide_3_33 : decode cJ8_divide_3 33 = .ok (.arraylength, 1) := dk_190 (dk_at dksJ8_divide_3_1 9 rfl rfl)
theorem dJ8_divide_3_34 : decode cJ8_divide_3 34 = .ok (.if_icmp .ge 63, 3) := dk_162 0 63 (dk_at dksJ8_divide_3_1 10 rfl rfl)
theorem dJ8_divide_3_37 : decode cJ8_divide_3 37 = .ok (.lload_n 0, 1) := dk_30 (dk_at dksJ8_divide_3_1 13 rfl rfl)
theorem dJ8_divide_3_38 : decode cJ8_divide_3 38 = .ok (.lstore 10, 2) := dk_55 10 (dk_at dksJ8_divide_3_1 14 rfl rfl)
theorem dJ8_divide_3_40 : decode cJ8_divide_3 40 = .ok (.lload 10, 2) := dk_22 10 (dk_at dksJ8_divide_3_1 16 rfl rfl)
theorem dJ8_divide_3_42 : decode cJ8_divide_3 42 = .ok (.iload 9, 2) := dk_21 9 (dk_at dksJ8_divide_3_1 18 rfl rfl)
theorem dJ8_divide_3_44 : decode cJ8_divide_3 44 = .ok (.invokestatic 599, 3) := dk_184 2 87 (dk_at dksJ8_divide_3_1 20 rfl rfl)
theorem dJ8_divide_3_47 : decode cJ8_divide_3 47 = .ok (.dup2, 1) := dk_92 (dk_at dksJ8_divide_3_1 23 rfl rfl)
theorem dJ8_divide_3_48 : decode cJ8_divide_3 48 = .ok (.lstore 10, 2) := dk_55 10 (dk_at dksJ8_divide_3_2 0 rfl rfl)
theorem dJ8_divide_3_50 : decode cJ8_divide_3 50 = .ok (.ldc2_w 125, 3) := dk_20 0 125 (dk_at dksJ8_divide_3_2 2 rfl rfl)
theorem dJ8_divide_3_53 : decode cJ8_divide_3 53 = .ok (.lcmp, 1) := dk_148 (dk_at dksJ8_divide_3_2 5 rfl rfl)
theorem dJ8_divide_3_54 : decode cJ8_divide_3 54 = .ok (.ifCond .eq 16, 3) := dk_153 0 16 (dk_at dksJ8_divide_3_2 6 rfl rfl)
theorem dJ8_divide_3_57 : decode cJ8_divide_3 57 = .ok (.lload 10, 2) := dk_22 10 (dk_at dksJ8_divide_3_2 9 rfl rfl)
theorem dJ8_divide_3_59 : decode cJ8_divide_3 59 = .ok (.lload_n 3, 1) := dk_33 (dk_at dksJ8_divide_3_2 11 rfl rfl)
theorem dJ8_divide_3_60 : decode cJ8_divide_3 60 = .ok (.iload 6, 2) := dk_21 6 (dk_at dksJ8_divide_3_2 12 rfl rfl)
theorem dJ8_divide_3_62 : decode cJ8_divide_3 62 = .ok (.iload 7, 2) := dk_21 7 (dk_at dksJ8_divide_3_2 14 rfl rfl)
theorem dJ8_divide_3_64 : decode cJ8_divide_3 64 = .ok (.iload 6, 2) := dk_21 6 (dk_at dksJ8_divide_3_2 16 rfl rfl)
theorem dJ8_divide_3_66 : decode cJ8_divide_3 66 = .ok (.invokestatic 606, 3) := dk_184 2 94 (dk_at dksJ8_divide_3_2 18 rfl rfl)
theorem dJ8_divide_3_69 : decode cJ8_divide_3 69 = .ok (.areturn, 1) := dk_176 (dk_at dksJ8_divide_3_2 21 rfl rfl)
theorem dJ8_divide_3_70 : decode cJ8_divide_3 70 = .ok (.getstatic 95, 3) := dk_178 0 95 (dk_at dksJ8_divide_3_3 0 rfl rfl)
theorem dJ8_divide_3_73 : decode cJ8_divide_3 73 = .ok (.iload 9, 2) := dk_21 9 (dk_at dksJ8_divide_3_3 3 rfl rfl)
theorem dJ8_divide_3_75 : decode cJ8_divide_3 75 = .ok (.laload, 1) := dk_47 (dk_at dksJ8_divide_3_3 5 rfl rfl)
theorem dJ8_divide_3_76 : decode cJ8_divide_3 76 = .ok (.lload_n 0, 1) := dk_30 (dk_at dksJ8_divide_3_3 6 rfl rfl)
theorem dJ8_divide_3_77 : decode cJ8_divide_3 77 = .ok (.lload_n 3, 1) := dk_33 (dk_at dksJ8_divide_3_3 7 rfl rfl)
theorem dJ8_divide_3_78 : decode cJ8_divide_3 78 = .ok (.iload 6, 2) := dk_21 6 (dk_at dksJ8_divide_3_3 8 rfl rfl)
theorem dJ8_divide_3_80 : decode cJ8_divide_3 80 = .ok (.iload 7, 2) := dk_21 7 (dk_at dksJ8_divide_3_3 10 rfl rfl)
theorem dJ8_divide_3_82 : decode cJ8_divide_3 82 = .ok (.iload 6, 2) := dk_21 6 (dk_at dksJ8_divide_3_3 12 rfl rfl)
theorem dJ8_divide_3_84 : decode cJ8_divide_3 84 = .ok (.invokestatic 1005, 3) := dk_184 3 237 (dk_at dksJ8_divide_3_3 14 rfl rfl)
theorem dJ8_divide_3_87 : decode cJ8_divide_3 87 = .ok (.astore 12, 2) := dk_58 12 (dk_at dksJ8_divide_3_3 17 rfl rfl)
theorem dJ8_divide_3_89 : decode cJ8_divide_3 89 = .ok (.aload 12, 2) := dk_25 12 (dk_at dksJ8_divide_3_3 19 rfl rfl)
theorem dJ8_divide_3_91 : decode cJ8_divide_3 91 = .ok (.ifnull 6, 3) := dk_198 0 6 (dk_at dksJ8_divide_3_3 21 rfl rfl)
theorem dJ8_divide_3_94 : decode cJ8_divide_3 94 = .ok (.aload 12, 2) := dk_25 12 (dk_at dksJ8_divide_3_4 0 rfl rfl)
theorem dJ8_divide_3_96 : decode cJ8_divide_3 96 = .ok (.areturn, 1) := dk_176 (dk_at dksJ8_divide_3_4 2 rfl rfl)
theorem dJ8_divide_3_97 : decode cJ8_divide_3 97 = .ok (.lload_n 0, 1) := dk_30 (dk_at dksJ8_divide_3_4 3 rfl rfl)
theorem dJ8_divide_3_98 : decode cJ8_divide_3 98 = .ok (.iload 9, 2) := dk_21 9 (dk_at dksJ8_divide_3_4 4 rfl rfl)
theorem dJ8_divide_3_100 : decode cJ8_divide_3 100 = .ok (.invokestatic 1002, 3) := dk_184 3 234 (dk_at dksJ8_divide_3_4 6 rfl rfl)
theorem dJ8_divide_3_103 : decode cJ8_divide_3 103 = .ok (.astore 10, 2) := dk_58 10 (dk_at dksJ8_divide_3_4 9 rfl rfl)
theorem dJ8_divide_3_105 : decode cJ8_divide_3 105 = .ok (.aload 10, 2) := dk_25 10 (dk_at dksJ8_divide_3_4 11 rfl rfl)
theorem dJ8_divide_3_107 : decode cJ8_divide_3 107 = .ok (.lload_n 3, 1) := dk_33 (dk_at dksJ8_divide_3_4 13 rfl rfl)
theorem dJ8_divide_3_108 : decode cJ8_divide_3 108 = .ok (.iload 6, 2) := dk_21 6 (dk_at dksJ8_divide_3_4 14 rfl rfl)
theorem dJ8_divide_3_110 : decode cJ8_divide_3 110 = .ok (.iload 7, 2) := dk_21 7 (dk_at dksJ8_divide_3_4 16 rfl rfl)
theorem dJ8_divide_3_112 : decode cJ8_divide_3 112 = .ok (.iload 6, 2) := dk_21 6 (dk_at dksJ8_divide_3_4 18 rfl rfl)
theorem dJ8_divide_3_114 : decode cJ8_divide_3 114 = .ok (.invokestatic 618, 3) := dk_184 2 106 (dk_at dksJ8_divide_3_4 20 rfl rfl)
theorem dJ8_divide_3_117 : decode cJ8_divide_3 117 = .ok (.areturn, 1) := dk_176 (dk_at dksJ8_divide_3_4 23 rfl rfl)
theorem dJ8_divide_3_118 : decode cJ8_divide_3 118 = .ok (.lload_n 3, 1) := dk_33 (dk_at dksJ8_divide_3_5 0 rfl rfl)
theorem dJ8_divide_3_119 : decode cJ8_divide_3 119 = .ok (.iload_n 2, 1) := dk_28 (dk_at dksJ8_divide_3_5 1 rfl rfl)
theorem dJ8_divide_3_120 : decode cJ8_divide_3 120 = .ok (.i2l, 1) := dk_133 (dk_at dksJ8_divide_3_5 2 rfl rfl)
theorem dJ8_divide_3_121 : decode cJ8_divide_3 121 = .ok (.iload 6, 2) := dk_21 6 (dk_at dksJ8_divide_3_5 3 rfl rfl)
theorem dJ8_divide_3_123 : decode cJ8_divide_3 123 = .ok (.i2l, 1) := dk_133 (dk_at dksJ8_divide_3_5 5 rfl rfl)
theorem dJ8_divide_3_124 : decode cJ8_divide_3 124 = .ok (.lsub, 1) := dk_101 (dk_at dksJ8_divide_3_5 6 rfl rfl)
theorem dJ8_divide_3_125 : decode cJ8_divide_3 125 = .ok (.invokestatic 994, 3) := dk_184 3 226 (dk_at dksJ8_divide_3_5 7 rfl rfl)
theorem dJ8_divide_3_128 : decode cJ8_divide_3 128 = .ok (.istore 8, 2) := dk_54 8 (dk_at dksJ8_divide_3_5 10 rfl rfl)
theorem dJ8_divide_3_130 : decode cJ8_divide_3 130 = .ok (.iload 8, 2) := dk_21 8 (dk_at dksJ8_divide_3_5 12 rfl rfl)
theorem dJ8_divide_3_132 : decode cJ8_divide_3 132 = .ok (.iload 5, 2) := dk_21 5 (dk_at dksJ8_divide_3_5 14 rfl rfl)
theorem dJ8_divide_3_134 : decode cJ8_divide_3 134 = .ok (.isub, 1) := dk_100 (dk_at dksJ8_divide_3_5 16 rfl rfl)
theorem dJ8_divide_3_135 : decode cJ8_divide_3 135 = .ok (.istore 9, 2) := dk_54 9 (dk_at dksJ8_divide_3_5 17 rfl rfl)
theorem dJ8_divide_3_137 : decode cJ8_divide_3 137 = .ok (.iload 9, 2) := dk_21 9 (dk_at dksJ8_divide_3_5 19 rfl rfl)
theorem dJ8_divide_3_139 : decode cJ8_divide_3 139 = .ok (.getstatic 95, 3) := dk_178 0 95 (dk_at dksJ8_divide_3_5 21 rfl rfl)
theorem dJ8_divide_3_142 : decode cJ8_divide_3 142 = .ok (.arraylength, 1) := dk_190 (dk_at dksJ8_divide_3_6 0 rfl rfl)
theorem dJ8_divide_3_143 : decode cJ8_divide_3 143 = .ok (.if_icmp .ge 36, 3) := dk_162 0 36 (dk_at dksJ8_divide_3_6 1 rfl rfl)
theorem dJ8_divide_3_146 : decode cJ8_divide_3 146 = .ok (.lload_n 3, 1) := dk_33 (dk_at dksJ8_divide_3_6 4 rfl rfl)
theorem dJ8_divide_3_147 : decode cJ8_divide_3 147 = .ok (.lstore 10, 2) := dk_55 10 (dk_at dksJ8_divide_3_6 5 rfl rfl)
theorem dJ8_divide_3_149 : decode cJ8_divide_3 149 = .ok (.lload 10, 2) := dk_22 10 (dk_at dksJ8_divide_3_6 7 rfl rfl)
theorem dJ8_divide_3_151 : decode cJ8_divide_3 151 = .ok (.iload 9, 2) := dk_21 9 (dk_at dksJ8_divide_3_6 9 rfl rfl)
theorem dJ8_divide_3_153 : decode cJ8_divide_3 153 = .ok (.invokestatic 599, 3) := dk_184 2 87 (dk_at dksJ8_divide_3_6 11 rfl rfl)
theorem dJ8_divide_3_156 : decode cJ8_divide_3 156 = .ok (.dup2, 1) := dk_92 (dk_at dksJ8_divide_3_6 14 rfl rfl)
theorem dJ8_divide_3_157 : decode cJ8_divide_3 157 = .ok (.lstore 10, 2) := dk_55 10 (dk_at dksJ8_divide_3_6 15 rfl rfl)
theorem dJ8_divide_3_159 : decode cJ8_divide_3 159 = .ok (.ldc2_w 125, 3) := dk_20 0 125 (dk_at dksJ8_divide_3_6 17 rfl rfl)
theorem dJ8_divide_3_162 : decode cJ8_divide_3 162 = .ok (.lcmp, 1) := dk_148 (dk_at dksJ8_divide_3_6 20 rfl rfl)
theorem dJ8_divide_3_163 : decode cJ8_divide_3 163 = .ok (.ifCond .eq 16, 3) := dk_153 0 16 (dk_at dksJ8_divide_3_6 21 rfl rfl)
theorem dJ8_divide_3_166 : decode cJ8_divide_3 166 = .ok (.lload_n 0, 1) := dk_30 (dk_at dksJ8_divide_3_7 0 rfl rfl)
theorem dJ8_divide_3_167 : decode cJ8_divide_3 167 = .ok (.lload 10, 2) := dk_22 10 (dk_at dksJ8_divide_3_7 1 rfl rfl)
theorem dJ8_divide_3_169 : decode cJ8_divide_3 169 = .ok (.iload 6, 2) := dk_21 6 (dk_at dksJ8_divide_3_7 3 rfl rfl)
theorem dJ8_divide_3_171 : decode cJ8_divide_3 171 = .ok (.iload 7, 2) := dk_21 7 (dk_at dksJ8_divide_3_7 5 rfl rfl)
theorem dJ8_divide_3_173 : decode cJ8_divide_3 173 = .ok (.iload 6, 2) := dk_21 6 (dk_at dksJ8_divide_3_7 7 rfl rfl)
theorem dJ8_divide_3_175 : decode cJ8_divide_3 175 = .ok (.invokestatic 606, 3) := dk_184 2 94 (dk_at dksJ8_divide_3_7 9 rfl rfl)
theorem dJ8_divide_3_178 : decode cJ8_divide_3 178 = .ok (.areturn, 1) := dk_176 (dk_at dksJ8_divide_3_7 12 rfl rfl)
theorem dJ8_divide_3_179 : decode cJ8_divide_3 179 = .ok (.lload_n 3, 1) := dk_33 (dk_at dksJ8_divide_3_7 13 rfl rfl)
theorem dJ8_divide_3_180 : decode cJ8_divide_3 180 = .ok (.iload 9, 2) := dk_21 9 (dk_at dksJ8_divide_3_7 14 rfl rfl)
theorem dJ8_divide_3_182 : decode cJ8_divide_3 182 = .ok (.invokestatic 1002, 3) := dk_184 3 234 (dk_at dksJ8_divide_3_7 16 rfl rfl)
theorem dJ8_divide_3_185 : decode cJ8_divide_3 185 = .ok (.astore 10, 2) := dk_58 10 (dk_at dksJ8_divide_3_7 19 rfl rfl)
theorem dJ8_divide_3_187 : decode cJ8_divide_3 187 = .ok (.lload_n 0, 1) := dk_30 (dk_at dksJ8_divide_3_7 21 rfl rfl)
theorem dJ8_divide_3_188 : decode cJ8_divide_3 188 = .ok (.invokestatic 193, 3) := dk_184 0 193 (dk_at dksJ8_divide_3_8 0 rfl rfl)
theorem dJ8_divide_3_191 : decode cJ8_divide_3 191 = .ok (.aload 10, 2) := dk_25 10 (dk_at dksJ8_divide_3_8 3 rfl rfl)
theorem dJ8_divide_3_193 : decode cJ8_divide_3 193 = .ok (.iload 6, 2) := dk_21 6 (dk_at dksJ8_divide_3_8 5 rfl rfl)
theorem dJ8_divide_3_195 : decode cJ8_divide_3 195 = .ok (.iload 7, 2) := dk_21 7 (dk_at dksJ8_divide_3_8 7 rfl rfl)
theorem dJ8_divide_3_197 : decode cJ8_divide_3 197 = .ok (.iload 6, 2) := dk_21 6 (dk_at dksJ8_divide_3_8 9 rfl rfl)
theorem dJ8_divide_3_199 : decode cJ8_divide_3 199 = .ok (.invokestatic 612, 3) := dk_184 2 100 (dk_at dksJ8_divide_3_8 11 rfl rfl)
theorem dJ8_divide_3_202 : decode cJ8_divide_3 202 = .ok (.areturn, 1) := dk_176 (dk_at dksJ8_divide_3_8 14 rfl rfl)
def dkwJ8_divide_5_5 : List UInt8 := [42, 25, 9, 21, 5, 21, 6, 21, 5, 184, 2, 100, 176]
abbrev dktJ8_divide_5_5 : List UInt8 := dkwJ8_divide_5_5 ++ []
def dkwJ8_divide_5_4 : List UInt8 := [153, 0, 16, 42, 22, 9, 21, 5, 21, 6, 21, 5, 184, 2, 106, 176, 32, 21, 8, 184, 3, 234, 58, 9]
abbrev dktJ8_divide_5_4 : List UInt8 := dkwJ8_divide_5_4 ++ dktJ8_divide_5_5
def dkwJ8_divide_5_3 : List UInt8 := [178, 0, 95, 190, 162, 0, 36, 32, 55, 9, 22, 9, 21, 8, 184, 2, 87, 92, 55, 9, 20, 0, 125, 148]
abbrev dktJ8_divide_5_3 : List UInt8 := dkwJ8_divide_5_3 ++ dktJ8_divide_5_4
def dkwJ8_divide_5_2 : List UInt8 := [176, 32, 27, 133, 21, 5, 133, 101, 184, 3, 226, 54, 7, 21, 7, 21, 4, 100, 54, 8, 21, 8]
abbrev dktJ8_divide_5_2 : List UInt8 := dkwJ8_divide_5_2 ++ dktJ8_divide_5_3
def dkwJ8_divide_5_1 : List UInt8 := [27, 100, 54, 8, 42, 21, 8, 184, 2, 103, 58, 9, 25, 9, 32, 21, 5, 21, 6, 21, 5, 184, 2, 106]
abbrev dktJ8_divide_5_1 : List UInt8 := dkwJ8_divide_5_1 ++ dktJ8_divide_5_2
def dkwJ8_divide_5_0 : List UInt8 := [42, 21, 5, 133, 21, 4, 133, 97, 184, 3, 220, 27, 164, 0, 37, 21, 5, 21, 4, 96, 54, 7, 21, 7]
abbrev dktJ8_divide_5_0 : List UInt8 := dkwJ8_divide_5_0 ++ dktJ8_divide_5_1
theorem dksJ8_divide_5_0 : cJ8_divide_5.data.toList.drop 0 = dktJ8_divide_5_0 := by decide +kernel
theorem dksJ8_divide_5_1 : cJ8_divide_5.data.toList.drop 24 = dktJ8_divide_5_1 := dk_seg dksJ8_divide_5_0 24 rfl rfl
theorem dksJ8_divide_5_2 : cJ8_divide_5.data.toList.drop 48 = dktJ8_divide_5_2 := dk_seg dksJ8_divide_5_1 24 rfl rfl
theorem dksJ8_divide_5_3 : cJ8_divide_5.data.toList.drop 70 = dktJ8_divide_5_3 := dk_seg dksJ8_divide_5_2 22 rfl rfl
theorem dksJ8_divide_5_4 : cJ8_divide_5.data.toList.drop 94 = dktJ8_divide_5_4 := dk_seg dksJ8_divide_5_3 24 rfl rfl
theorem dksJ8_divide_5_5 : cJ8_divide_5.data.toList.drop 118 = dktJ8_divide_5_5 := dk_seg dksJ8_divide_5_4 24 rfl rfl
theorem dJ8_divide_5_0 : decode cJ8_divide_5 0 = .ok (.aload_n 0, 1) := dk_42 (dk_at dksJ8_divide_5_0 0 rfl rfl)
theorem dJ8_divide_5_1 : decode cJ8_divide_5 1 = .ok (.iload 5, 2) := dk_21 5 (dk_at dksJ8_divide_5_0 1 rfl rfl)
theorem dJ8_divide_5_3 : decode cJ8_divide_5 3 = .ok (.i2l, 1) := dk_133 (dk_at dksJ8_divide_5_0 3 rfl rfl)
theorem dJ8_divide_5_4 : decode cJ8_divide_5 4 = .ok (.iload 4, 2) := dk_21 4 (dk_at dksJ8_divide_5_0 4 rfl rfl)
theorem dJ8_divide_5_6 : decode cJ8_divide_5 6 = .ok (.i2l, 1) := dk_133 (dk_at dksJ8_divide_5_0 6 rfl rfl)
theorem dJ8_divide_5_7 : decode cJ8_divide_5 7 = .ok (.ladd, 1) := dk_97 (dk_at dksJ8_divide_5_0 7 rfl rfl)
theorem dJ8_divide_5_8 : decode cJ8_divide_5 8 = .ok (.invokestatic 988, 3) := dk_184 3 220 (dk_at dksJ8_divide_5_0 8 rfl rfl)
theorem dJ8_divide_5_11 : decode cJ8_divide_5 11 = .ok (.iload_n 1, 1) := dk_27 (dk_at dksJ8_divide_5_0 11 rfl rfl)
theorem dJ8_divide_5_12 : decode cJ8_divide_5 12 = .ok (.if_icmp .le 37, 3) := dk_164 0 37 (dk_at dksJ8_divide_5_0 12 rfl rfl)
theorem dJ8_divide_5_15 : decode cJ8_divide_5 15 = .ok (.iload 5, 2) := dk_21 5 (dk_at dksJ8_divide_5_0 15 rfl rfl)
theorem dJ8_divide_5_17 : decode cJ8_divide_5 17 = .ok (.iload 4, 2) := dk_21 4 (dk_at dksJ8_divide_5_0 17 rfl rfl)
theorem dJ8_divide_5_19 : decode cJ8_divide_5 19 = .ok (.iadd, 1) := dk_96 (dk_at dksJ8_divide_5_0 19 rfl rfl)
theorem dJ8_divide_5_20 : decode cJ8_divide_5 20 = .ok (.istore 7, 2) := dk_54 7 (dk_at dksJ8_divide_5_0 20 rfl rfl)
theorem dJ8_divide_5_22 : decode cJ8_divide_5 22 = .ok (.iload 7, 2) := dk_21 7 (dk_at dksJ8_divide_5_0 22 rfl rfl)
theorem dJ8_divide_5_24 : decode cJ8_divide_5 24 = .ok (.iload_n 1, 1) := dk_27 (dk_at dksJ8_divide_5_1 0 rfl rfl)
theorem dJ8_divide_5_25 : decode cJ8_divide_5 25 = .ok (.isub, 1) := dk_100 (dk_at dksJ8_divide_5_1 1 rfl rfl)
theorem dJ8_divide_5_26 : decode cJ8_divide_5 26 = .ok (.istore 8, 2) := dk_54 8 (dk_at dksJ8_divide_5_1 2 rfl rfl)
theorem dJ8_divide_5_28 : decode cJ8_divide_5 28 = .ok (.aload_n 0, 1) := dk_42 (dk_at dksJ8_divide_5_1 4 rfl rfl)
theorem dJ8_divide_5_29 : decode cJ8_divide_5 29 = .ok (.iload 8, 2) := dk_21 8 (dk_at dksJ8_divide_5_1 5 rfl rfl)
theorem dJ8_divide_5_31 : decode cJ8_divide_5 31 = .ok (.invokestatic 615, 3) := dk_184 2 103 (dk_at dksJ8_divide_5_1 7 rfl rfl)
theorem dJ8_divide_5_34 : decode cJ8_divide_5 34 = .ok (.astore 9, 2) := dk_58 9 (dk_at dksJ8_divide_5_1 10 rfl rfl)
theorem dJ8_divide_5_36 : decode cJ8_divide_5 36 = .ok (.aload 9, 2) := dk_25 9 (dk_at dksJ8_divide_5_1 12 rfl rfl)
theorem dJ8_divide_5_38 : decode cJ8_divide_5 38 = .ok (.lload_n 2, 1) := dk_32 (dk_at dksJ8_divide_5_1 14 rfl rfl)
theorem dJ8_divide_5_39 : decode cJ8_divide_5 39 = .ok (.iload 5, 2) := dk_21 5 (dk_at dksJ8_divide_5_1 15 rfl rfl)
theorem dJ8_divide_5_41 : decode cJ8_divide_5 41 = .ok (.iload 6, 2) := dk_21 6 (dk_at dksJ8_divide_5_1 17 rfl rfl)
theorem dJ8_divide_5_43 : decode cJ8_divide_5 43 = .ok (.iload 5, 2) := dk_21 5 (dk_at dksJ8_divide_5_1 19 rfl rfl)
theorem dJ8_divide_5_45 : decode cJ8_divide_5 45 = .ok (.invokestatic 618, 3) := dk_184 2 106 (dk_at dksJ8_divide_5_1 21 rfl rfl)
theorem dJ8_divide_5_48 : decode cJ8_divide_5 48 = .ok (.areturn, 1) := dk_176 (dk_at dksJ8_divide_5_2 0 rfl rfl)
theorem dJ8_divide_5_49 : decode cJ8_divide_5 49 = .ok (.lload_n 2, 1) := dk_32 (dk_at dksJ8_divide_5_2 1 rfl rfl)
theorem dJ8_divide_5_50 : decode cJ8_divide_5 50 = .ok (.iload_n 1, 1) := dk_27 (dk_at dksJ8_divide_5_2 2 rfl rfl)
theorem dJ8_divide_5_51 : decode cJ8_divide_5 51 = .ok (.i2l, 1) := dk_133 (dk_at dksJ8_divide_5_2 3 rfl rfl)
theorem dJ8_divide_5_52 : decode cJ8_divide_5 52 = .ok (.iload 5, 2) := dk_21 5 (dk_at dksJ8_divide_5_2 4 rfl rfl)
theorem dJ8_divide_5_54 : decode cJ8_divide_5 54 = .ok (.i2l, 1) := dk_133 (dk_at dksJ8_divide_5_2 6 rfl rfl)
theorem dJ8_divide_5_55 : decode cJ8_divide_5 55 = .ok (.lsub, 1) := dk_101 (dk_at dksJ8_divide_5_2 7 rfl rfl)
theorem dJ8_divide_5_56 : decode cJ8_divide_5 56 = .ok (.invokestatic 994, 3) := dk_184 3 226 (dk_at dksJ8_divide_5_2 8 rfl rfl)
theorem dJ8_divide_5_59 : decode cJ8_divide_5 59 = .ok (.istore 7, 2) := dk_54 7 (dk_at dksJ8_divide_5_2 11 rfl rfl)
theorem dJ8_divide_5_61 : decode cJ8_divide_5 61 = .ok (.iload 7, 2) := dk_21 7 (dk_at dksJ8_divide_5_2 13 rfl rfl)
theorem dJ8_divide_5_63 : decode cJ8_divide_5 63 = .ok (.iload 4, 2) := dk_21 4 (dk_at dksJ8_divide_5_2 15 rfl rfl)
theorem dJ8_divide_5_65 : decode cJ8_divide_5 65 = .ok (.isub, 1) := dk_100 (dk_at dksJ8_divide_5_2 17 rfl rfl)
theorem dJ8_divide_5_66 : decode cJ8_divide_5 66 = .ok (.istore 8, 2) := dk_54 8 (dk_at dksJ8_divide_5_2 18 rfl rfl)
theorem dJ8_divide_5_68 : decode cJ8_divide_5 68 = .ok (.iload 8, 2) := dk_21 8 (dk_at dksJ8_divide_5_2 20 rfl rfl)
theorem dJ8_divide_5_70 : decode cJ8_divide_5 70 = .ok (.getstatic 95, 3) := dk_178 0 95 (dk_at dksJ8_divide_5_3 0 rfl rfl)
theorem dJ8_divide_5_73 : decode cJ8_divide_5 73 = .ok (.arraylength, 1) := dk_190 (dk_at dksJ8_divide_5_3 3 rfl rfl)
theorem dJ8_divide_5_74 : decode cJ8_divide_5 74 = .ok (.if_icmp .ge 36, 3) := dk_162 0 36 (dk_at dksJ8_divide_5_3 4 rfl rfl)
theorem dJ8_divide_5_77 : decode cJ8_divide_5 77 = .ok (.lload_n 2, 1) := dk_32 (dk_at dksJ8_divide_5_3 7 rfl rfl)
theorem dJ8_divide_5_78 : decode cJ8_divide_5 78 = .ok (.lstore 9, 2) := dk_55 9 (dk_at dksJ8_divide_5_3 8 rfl rfl)
theorem dJ8_divide_5_80 : decode cJ8_divide_5 80 = .ok (.lload 9, 2) := dk_22 9 (dk_at dksJ8_divide_5_3 10 rfl rfl)
theorem dJ8_divide_5_82 : decode cJ8_divide_5 82 = .ok (.iload 8, 2) := dk_21 8 (dk_at dksJ8_divide_5_3 12 rfl rfl)
theorem dJ8_divide_5_84 : decode cJ8_divide_5 84 = .ok (.invokestatic 599, 3) := dk_184 2 87 (dk_at dksJ8_divide_5_3 14 rfl rfl)
theorem dJ8_divide_5_87 : decode cJ8_divide_5 87 = .ok (.dup2, 1) := dk_92 (dk_at dksJ8_divide_5_3 17 rfl rfl)
theorem dJ8_divide_5_88 : decode cJ8_divide_5 88 = .ok (.lstore 9, 2) := dk_55 9 (dk_at dksJ8_divide_5_3 18 rfl rfl)
theorem dJ8_divide_5_90 : decode cJ8_divide_5 90 = .ok (.ldc2_w 125, 3) := dk_20 0 125 (dk_at dksJ8_divide_5_3 20 rfl rfl)
theorem dJ8_divide_5_93 : decode cJ8_divide_5 93 = .ok (.lcmp, 1) := dk_148 (dk_at dksJ8_divide_5_3 23 rfl rfl)
theorem dJ8_divide_5_94 : decode cJ8_divide_5 94 = .ok (.ifCond .eq 16, 3) := dk_153 0 16 (dk_at dksJ8_divide_5_4 0 rfl rfl)
theorem dJ8_divide_5_97 : decode cJ8_divide_5 97 = .ok (.aload_n 0, 1) := dk_42 (dk_at dksJ8_divide_5_4 3 rfl rfl)
theorem dJ8_divide_5_98 : decode cJ8_divide_5 98 = .ok (.lload 9, 2) := dk_22 9 (dk_at dksJ8_divide_5_4 4 rfl rfl)
theorem dJ8_divide_5_100 : decode cJ8_divide_5 100 = .ok (.iload 5, 2) := dk_21 5 (dk_at dksJ8_divide_5_4 6 rfl rfl)
theorem dJ8_divide_5_102 : decode cJ8_divide_5 102 = .ok (.iload 6, 2) := dk_21 6 (dk_at dksJ8_divide_5_4 8 rfl rfl)
theorem dJ8_divide_5_104 : decode cJ8_divide_5 104 = .ok (.iload 5, 2) := dk_21 5 (dk_at dksJ8_divide_5_4 10 rfl rfl)
theorem dJ8_divide_5_106 : decode cJ8_divide_5 106 = .ok (.invokestatic 618, 3) := dk_184 2 106 (dk_at dksJ8_divide_5_4 12 rfl rfl)
theorem dJ8_divide_5_109 : decode cJ8_divide_5 109 = .ok (.areturn, 1) := dk_176 (dk_at dksJ8_divide_5_4 15 rfl rfl)
theorem dJ8_divide_5_110 : decode cJ8_divide_5 110 = .ok (.lload_n 2, 1) := dk_32 (dk_at dksJ8_divide_5_4 16 rfl rfl)
theorem dJ8_divide_5_111 : decode cJ8_divide_5 111 = .ok (.iload 8, 2) := dk_21 8 (dk_at dksJ8_divide_5_4 17 rfl rfl)
theorem dJ8_divide_5_113 : decode cJ8_divide_5 113 = .ok (.invokestatic 1002, 3) := dk_184 3 234 (dk_at dksJ8_divide_5_4 19 rfl rfl)
theorem dJ8_divide_5_116 : decode cJ8_divide_5 116 = .ok (.astore 9, 2) := dk_58 9 (dk_at dksJ8_divide_5_4 22 rfl rfl)
theorem dJ8_divide_5_118 : decode cJ8_divide_5 118 = .ok (.aload_n 0, 1) := dk_42 (dk_at dksJ8_divide_5_5 0 rfl rfl)
theorem dJ8_divide_5_119 : decode cJ8_divide_5 119 = .ok (.aload 9, 2) := dk_25 9 (dk_at dksJ8_divide_5_5 1 rfl rfl)
theorem dJ8_divide_5_121 : decode cJ8_divide_5 121 = .ok (.iload 5, 2) := dk_21 5 (dk_at dksJ8_divide_5_5 3 rfl rfl)
theorem dJ8_divide_5_123 : decode cJ8_divide_5 123 = .ok (.iload 6, 2) := dk_21 6 (dk_at dksJ8_divide_5_5 5 rfl rfl)
theorem dJ8_divide_5_125 : decode cJ8_divide_5 125 = .ok (.iload 5, 2) := dk_21 5 (dk_at dksJ8_divide_5_5 7 rfl rfl)
theorem dJ8_divide_5_127 : decode cJ8_divide_5 127 = .ok (.invokestatic 612, 3) := dk_184 2 100 (dk_at dksJ8_divide_5_5 9 rfl rfl)
theorem dJ8_divide_5_130 : decode cJ8_divide_5 130 = .ok (.areturn, 1) := dk_176 (dk_at dksJ8_divide_5_5 12 rfl rfl)
def dkwJ35_divide_2_0 : List UInt8 := [42, 43, 44, 4, 182, 0, 159, 176]
abbrev dktJ35_divide_2_0 : List UInt8 := dkwJ35_divide_2_0 ++ []
theorem dksJ35_divide_2_0 : cJ35_divide_2.data.toList.drop 0 = dktJ35_divide_2_0 := by decide +kernel
theorem dJ35_divide_2_0 : decode cJ35_divide_2 0 = .ok (.aload_n 0, 1) := dk_42 (dk_at dksJ35_divide_2_0 0 rfl rfl)
theorem dJ35_divide_2_1 : decode cJ35_divide_2 1 = .ok (.aload_n 1, 1) := dk_43 (dk_at dksJ35_divide_2_0 1 rfl rfl)
theorem dJ35_divide_2_2 : decode cJ35_divide_2 2 = .ok (.aload_n 2, 1) := dk_44 (dk_at dksJ35_divide_2_0 2 rfl rfl)
theorem dJ35_divide_2_3 : decode cJ35_divide_2 3 = .ok (.iconst 1, 1) := dk_4 (dk_at dksJ35_divide_2_0 3 rfl rfl)
theorem dJ35_divide_2_4 : decode cJ35_divide_2 4 = .ok (.invokevirtual 159, 3) := dk_182 0 159 (dk_at dksJ35_divide_2_0 4 rfl rfl)
theorem dJ35_divide_2_7 : decode cJ35_divide_2 7 = .ok (.areturn, 1) := dk_176 (dk_at dksJ35_divide_2_0 7 rfl rfl)
def dkwJ35_divide_3_1 : List UInt8 := [43, 44, 29, 182, 0, 163, 176, 42, 43, 44, 182, 0, 166, 176]
abbrev dktJ35_divide_3_1 : List UInt8 := dkwJ35_divide_3_1 ++ []
def dkwJ35_divide_3_0 : List UInt8 := [43, 180, 0, 21, 16, 80, 161, 0, 17, 42, 180, 0, 21, 43, 180, 0, 21, 100, 16, 40, 162, 0, 11, 42]
abbrev dktJ35_divide_3_0 : List UInt8 := dkwJ35_divide_3_0 ++ dktJ35_divide_3_1
theorem dksJ35_divide_3_0 : cJ35_divide_3.data.toList.drop 0 = dktJ35_divide_3_0 := by decide +kernel
theorem dksJ35_divide_3_1 : cJ35_divide_3.data.toList.drop 24 = dktJ35_divide_3_1 := dk_seg dksJ35_divide_3_0 24 rfl rfl
theorem dJ35_divide_3_0 : decode cJ35_divide_3 0 = .ok (.aload_n 1, 1) := dk_43 (dk_at dksJ35_divide_3_0 0 rfl rfl)
theorem dJ35_divide_3_1 : decode cJ35_divide_3 1 = .ok (.getfield 21, 3) := dk_180 0 21 (dk_at dksJ35_divide_3_0 1 rfl rfl)
theorem dJ35_divide_3_4 : decode cJ35_divide_3 4 = .ok (.bipush 80, 2) := dk_16 80 (dk_at dksJ35_divide_3_0 4 rfl rfl)
theorem dJ35_divide_3_6 : decode cJ35_divide_3 6 = .ok (.if_icmp .lt 17, 3) := dk_161 0 17 (dk_at dksJ35_divide_3_0 6 rfl rfl)
theorem dJ35_divide_3_9 : decode cJ35_divide_3 9 = .ok (.aload_n 0, 1) := dk_42 (dk_at dksJ35_divide_3_0 9 rfl rfl)
theorem dJ35_divide_3_10 : decode cJ35_divide_3 10 = .ok (.getfield 21, 3) := dk_180 0 21 (dk_at dksJ35_divide_3_0 10 rfl rfl)
theorem dJ35_divide_3_13 : decode cJ35_divide_3 13 = .ok (.aload_n 1, 1) := dk_43 (dk_at dksJ35_divide_3_0 13 rfl rfl)
theorem dJ35_divide_3_14 : decode cJ35_divide_3 14 = .ok (.getfield 21, 3) := dk_180 0 21 (dk_at dksJ35_divide_3_0 14 rfl rfl)
theorem dJ35_divide_3_17 : decode cJ35_divide_3 17 = .ok (.isub, 1) := dk_100 (dk_at dksJ35_divide_3_0 17 rfl rfl)
theorem dJ35_divide_3_18 : decode cJ35_divide_3 18 = .ok (.bipush 40, 2) := dk_16 40 (dk_at dksJ35_divide_3_0 18 rfl rfl)
theorem dJ35_divide_3_20 : decode cJ35_divide_3 20 = .ok (.if_icmp .ge 11, 3) := dk_162 0 11 (dk_at dksJ35_divide_3_0 20 rfl rfl)
theorem dJ35_divide_3_23 : decode cJ35_divide_3 23 = .ok (.aload_n 0, 1) := dk_42 (dk_at dksJ35_divide_3_0 23 rfl rfl)
theorem dJ35_divide_3_24 : decode cJ35_divide_3 24 = .ok (.aload_n 1, 1) := dk_43 (dk_at dksJ35_divide_3_1 0 rfl rfl)
theorem dJ35_divide_3_25 : decode cJ35_divide_3 25 = .ok (.aload_n 2, 1) := dk_44 (dk_at dksJ35_divide_3_1 1 rfl rfl)
theorem dJ35_divide_3_26 : decode cJ35_divide_3 26 = .ok (.iload_n 3, 1) := dk_29 (dk_at dksJ35_divide_3_1 2 rfl rfl)
theorem dJ35_divide_3_27 : decode cJ35_divide_3 27 = .ok (.invokevirtual 163, 3) := dk_182 0 163 (dk_at dksJ35_divide_3_1 3 rfl rfl)
theorem dJ35_divide_3_30 : decode cJ35_divide_3 30 = .ok (.areturn, 1) := dk_176 (dk_at dksJ35_divide_3_1 6 rfl rfl)
theorem dJ35_divide_3_31 : decode cJ35_divide_3 31 = .ok (.aload_n 0, 1) := dk_42 (dk_at dksJ35_divide_3_1 7 rfl rfl)
theorem dJ35_divide_3_32 : decode cJ35_divide_3 32 = .ok (.aload_n 1, 1) := dk_43 (dk_at dksJ35_divide_3_1 8 rfl rfl)
theorem dJ35_divide_3_33 : decode cJ35_divide_3 33 = .ok (.aload_n 2, 1) := dk_44 (dk_at dksJ35_divide_3_1 9 rfl rfl)
theorem dJ35_divide_3_34 : decode cJ35_divide_3 34 = .ok (.invokevirtual 166, 3) := dk_182 0 166 (dk_at dksJ35_divide_3_1 10 rfl rfl)
theorem dJ35_divide_3_37 : decode cJ35_divide_3 37 = .ok (.areturn, 1) := dk_176 (dk_at dksJ35_divide_3_1 13 rfl rfl)
def dkwJ35_divideKnuth_11 : List UInt8 := [182, 0, 121, 25, 7, 176, 42, 43, 44, 29, 182, 0, 190, 176]
abbrev dktJ35_divideKnuth_11 : List UInt8 := dkwJ35_divideKnuth_11 ++ []
def dkwJ35_divideKnuth_10 : List UInt8 := [21, 5, 182, 0, 108, 43, 21, 5, 182, 0, 108, 25, 6, 43, 44, 182, 0, 188, 58, 7, 25, 7, 21, 5]
abbrev dktJ35_divideKnuth_10 : List UInt8 := dkwJ35_divideKnuth_10 ++ dktJ35_divideKnuth_11
def dkwJ35_divideKnuth_9 : List UInt8 := [161, 0, 54, 187, 0, 12, 89, 42, 183, 0, 136, 58, 6, 187, 0, 12, 89, 43, 183, 0, 136, 76, 25, 6]
abbrev dktJ35_divideKnuth_9 : List UInt8 := dkwJ35_divideKnuth_9 ++ dktJ35_divideKnuth_10
def dkwJ35_divideKnuth_8 : List UInt8 := [16, 6, 161, 0, 74, 42, 182, 0, 184, 43, 182, 0, 184, 184, 0, 130, 54, 5, 21, 5, 16, 96]
abbrev dktJ35_divideKnuth_8 : List UInt8 := dkwJ35_divideKnuth_8 ++ dktJ35_divideKnuth_9
def dkwJ35_divideKnuth_7 : List UInt8 := [187, 0, 12, 89, 183, 0, 177, 176, 187, 0, 12, 89, 21, 5, 183, 0, 182, 176, 1, 176, 42, 180, 0, 21]
abbrev dktJ35_divideKnuth_7 : List UInt8 := dkwJ35_divideKnuth_7 ++ dktJ35_divideKnuth_8
def dkwJ35_divideKnuth_6 : List UInt8 := [180, 0, 17, 43, 180, 0, 11, 46, 44, 182, 0, 178, 54, 5, 29, 153, 0, 26, 21, 5, 154, 0, 11]
abbrev dktJ35_divideKnuth_6 : List UInt8 := dkwJ35_divideKnuth_6 ++ dktJ35_divideKnuth_7
def dkwJ35_divideKnuth_5 : List UInt8 := [183, 0, 177, 167, 0, 4, 1, 176, 44, 182, 0, 149, 43, 180, 0, 21, 4, 160, 0, 48, 42, 43]
abbrev dktJ35_divideKnuth_5 : List UInt8 := dkwJ35_divideKnuth_5 ++ dktJ35_divideKnuth_6
def dkwJ35_divideKnuth_4 : List UInt8 := [180, 0, 17, 3, 44, 4, 90, 181, 0, 21, 79, 44, 3, 181, 0, 11, 29, 153, 0, 13, 187, 0, 12, 89]
abbrev dktJ35_divideKnuth_4 : List UInt8 := dkwJ35_divideKnuth_4 ++ dktJ35_divideKnuth_5
def dkwJ35_divideKnuth_3 : List UInt8 := [29, 153, 0, 14, 187, 0, 12, 89, 42, 183, 0, 136, 167, 0, 4, 1, 176, 21, 4, 154, 0, 36, 44]
abbrev dktJ35_divideKnuth_3 : List UInt8 := dkwJ35_divideKnuth_3 ++ dktJ35_divideKnuth_4
def dkwJ35_divideKnuth_2 : List UInt8 := [1, 176, 42, 43, 182, 0, 142, 54, 4, 21, 4, 156, 0, 30, 44, 44, 3, 90, 181, 0, 11, 181, 0, 21]
abbrev dktJ35_divideKnuth_2 : List UInt8 := dkwJ35_divideKnuth_2 ++ dktJ35_divideKnuth_3
def dkwJ35_divideKnuth_1 : List UInt8 := [44, 44, 3, 90, 181, 0, 11, 181, 0, 21, 29, 153, 0, 13, 187, 0, 12, 89, 183, 0, 177, 167, 0, 4]
abbrev dktJ35_divideKnuth_1 : List UInt8 := dkwJ35_divideKnuth_1 ++ dktJ35_divideKnuth_2
def dkwJ35_divideKnuth_0 : List UInt8 := [43, 180, 0, 21, 154, 0, 13, 187, 0, 170, 89, 18, 172, 183, 0, 174, 191, 42, 180, 0, 21, 154, 0, 29]
abbrev dktJ35_divideKnuth_0 : List UInt8 := dkwJ35_divideKnuth_0 ++ dktJ35_divideKnuth_1
theorem dksJ35_divideKnuth_0 : cJ35_divideKnuth.data.toList.drop 0 = dktJ35_divideKnuth_0 := by decide +kernel
theorem dksJ35_divideKnuth_1 : cJ35_divideKnuth.data.toList.drop 24 = dktJ35_divideKnuth_1 := dk_seg dksJ35_divideKnuth_0 24 rfl rfl
theorem dksJ35_divideKnuth_2 : cJ35_divideKnuth.data.toList.drop 48 = dktJ35_divideKnuth_2 := dk_seg dksJ35_divideKnuth_1 24 rfl rfl
theorem dksJ35_divideKnuth_3 : cJ35_divideKnuth.data.toList.drop 72 = dktJ35_divideKnuth_3 := dk_seg dksJ35_divideKnuth_2 24 rfl rfl
theorem dksJ35_divideKnuth_4 : cJ35_divideKnuth.data.toList.drop 95 = dktJ35_divideKnuth_4 := dk_seg dksJ35_divideKnuth_3 23 rfl rfl
theorem dksJ35_divideKnuth_5 : cJ35_divideKnuth.data.toList.drop 119 = dktJ35_divideKnuth_5 := dk_seg dksJ35_divideKnuth_4 24 rfl rfl
theorem dksJ35_divideKnuth_6 : cJ35_divideKnuth.data.toList.drop 141 = dktJ35_divideKnuth_6 := dk_seg dksJ35_divideKnuth_5 22 rfl rfl
theorem dksJ35_divideKnuth_7 : cJ35_divideKnuth.data.toList.drop 164 = dktJ35_divideKnuth_7 := dk_seg dksJ35_divideKnuth_6 23 rfl rfl
theorem dksJ35_divideKnuth_8 : cJ35_divideKnuth.data.toList.drop 188 = dktJ35_divideKnuth_8 := dk_seg dksJ35_divideKnuth_7 24 rfl rfl
theorem dksJ35_divideKnuth_9 : cJ35_divideKnuth.data.toList.drop 210 = dktJ35_divideKnuth_9 := dk_seg dksJ35_divideKnuth_8 22 rfl rfl
theorem dksJ35_divideKnuth_10 : cJ35_divideKnuth.data.toList.drop 234 = dktJ35_divideKnuth_10 := dk_seg dksJ35_divideKnuth_9 24 rfl rfl
theorem dksJ35_divideKnuth_11 : cJ35_divideKnuth.data.toList.drop 258 = dktJ35_divideKnuth_11 := dk_seg dksJ35_divideKnuth_10 24 rfl rfl
theorem dJ35_divideKnuth_0 : decode cJ35_divideKnuth 0 = .ok (.aload_n 1, 1) := dk_43 (dk_at dksJ35_divideKnuth_0 0 rfl rfl)
theorem dJ35_divideKnuth_1 : decode cJ35_divideKnuth 1 = .ok (.getfield 21, 3) := dk_180 0 21 (dk_at dksJ35_divideKnuth_0 1 rfl rfl)
theorem dJ35_divideKnuth_4 : decode cJ35_divideKnuth 4 = .ok (.ifCond .ne 13, 3) := dk_154 0 13 (dk_at dksJ35_divideKnuth_0 4 rfl rfl)
theorem dJ35_divideKnuth_7 : decode cJ35_divideKnuth 7 = .ok (.new 170, 3) := dk_187 0 170 (dk_at dksJ35_divideKnuth_0 7 rfl rfl)
theorem dJ35_divideKnuth_10 : decode cJ35_divideKnuth 10 = .ok (.dup, 1) := dk_89 (dk_at dksJ35_divideKnuth_0 10 rfl rfl)
theorem dJ35_divideKnuth_11 : decode cJ35_divideKnuth 11 = .ok (.ldc 172, 2) := dk_18 172 (dk_at dksJ35_divideKnuth_0 11 rfl rfl)
theorem dJ35_divideKnuth_13 : decode cJ35_divideKnuth 13 = .ok (.invokespecial 174, 3) := dk_183 0 174 (dk_at dksJ35_divideKnuth_0 13 rfl rfl)
theorem dJ35_divideKnuth_16 : decode cJ35_divideKnuth 16 = .ok (.athrow, 1) := dk_191 (dk_at dksJ35_divideKnuth_0 16 rfl rfl)
theorem dJ35_divideKnuth_17 : decode cJ35_divideKnuth 17 = .ok (.aload_n 0, 1) := dk_42 (dk_at dksJ35_divideKnuth_0 17 rfl rfl)
theorem dJ35_divideKnuth_18 : decode cJ35_divideKnuth 18 = .ok (.getfield 21, 3) := dk_180 0 21 (dk_at dksJ35_divideKnuth_0 18 rfl rfl)
theorem dJ35_divideKnuth_21 : decode cJ35_divideKnuth 21 = .ok (.ifCond .ne 29, 3) := dk_154 0 29 (dk_at dksJ35_divideKnuth_0 21 rfl rfl)
theorem dJ35_divideKnuth_24 : decode cJ35_divideKnuth 24 = .ok (.aload_n 2, 1) := dk_44 (dk_at dksJ35_divideKnuth_1 0 rfl rfl)
theorem dJ35_divideKnuth_25 : decode cJ35_divideKnuth 25 = .ok (.aload_n 2, 1) := dk_44 (dk_at dksJ35_divideKnuth_1 1 rfl rfl)
theorem dJ35_divideKnuth_26 : decode cJ35_divideKnuth 26 = .ok (.iconst 0, 1) := dk_3 (dk_at dksJ35_divideKnuth_1 2 rfl rfl)
theorem dJ35_divideKnuth_27 : decode cJ35_divideKnuth 27 = .ok (.dup_x1, 1) := dk_90 (dk_at dksJ35_divideKnuth_1 3 rfl rfl)
theorem dJ35_divideKnuth_28 : decode cJ35_divideKnuth 28 = .ok (.putfield 11, 3) := dk_181 0 11 (dk_at dksJ35_divideKnuth_1 4 rfl rfl)
theorem dJ35_divideKnuth_31 : decode cJ35_divideKnuth 31 = .ok (.putfield 21, 3) := dk_181 0 21 (dk_at dksJ35_divideKnuth_1 7 rfl rfl)
theorem dJ35_divideKnuth_34 : decode cJ35_divideKnuth 34 = .ok (.iload_n 3, 1) := dk_29 (dk_at dksJ35_divideKnuth_1 10 rfl rfl)
theorem dJ35_divideKnuth_35 : decode cJ35_divideKnuth 35 = .ok (.ifCond .eq 13, 3) := dk_153 0 13 (dk_at dksJ35_divideKnuth_1 11 rfl rfl)
theorem dJ35_divideKnuth_38 : decode cJ35_divideKnuth 38 = .ok (.new 12, 3) := dk_187 0 12 (dk_at dksJ35_divideKnuth_1 14 rfl rfl)
theorem dJ35_divideKnuth_41 : decode cJ35_divideKnuth 41 = .ok (.dup, 1) := dk_89 (dk_at dksJ35_divideKnuth_1 17 rfl rfl)
theorem dJ35_divideKnuth_42 : decode cJ35_divideKnuth 42 = .ok (.invokespecial 177, 3) := dk_183 0 177 (dk_at dksJ35_divideKnuth_1 18 rfl rfl)
theorem dJ35_divideKnuth_45 : decode cJ35_divideKnuth 45 = .ok (.goto 4, 3) := dk_167 0 4 (dk_at dksJ35_divideKnuth_1 21 rfl rfl)
theorem dJ35_divideKnuth_48 : decode cJ35_divideKnuth 48 = .ok (.aconst_null, 1) := dk_1 (dk_at dksJ35_divideKnuth_2 0 rfl rfl)
theorem dJ35_divideKnuth_49 : decode cJ35_divideKnuth 49 = .ok (.areturn, 1) := dk_176 (dk_at dksJ35_divideKnuth_2 1 rfl rfl)
theorem dJ35_divideKnuth_50 : decode cJ35_divideKnuth 50 = .ok (.aload_n 0, 1) := dk_42 (dk_at dksJ35_divideKnuth_2 2 rfl rfl)
theorem dJ35_divideKnuth_51 : decode cJ35_divideKnuth 51 = .ok (.aload_n 1, 1) := dk_43 (dk_at dksJ35_divideKnuth_2 3 rfl rfl)
theorem dJ35_divideKnuth_52 : decode cJ35_divideKnuth 52 = .ok (.invokevirtual 142, 3) := dk_182 0 142 (dk_at dksJ35_divideKnuth_2 4 rfl rfl)
theorem dJ35_divideKnuth_55 : decode cJ35_divideKnuth 55 = .ok (.istore 4, 2) := dk_54 4 (dk_at dksJ35_divideKnuth_2 7 rfl rfl)
theorem dJ35_divideKnuth_57 : decode cJ35_divideKnuth 57 = .ok (.iload 4, 2) := dk_21 4 (dk_at dksJ35_divideKnuth_2 9 rfl rfl)
theorem dJ35_divideKnuth_59 : decode cJ35_divideKnuth 59 = .ok (.ifCond .ge 30, 3) := dk_156 0 30 (dk_at dksJ35_divideKnuth_2 11 rfl rfl)
theorem dJ35_divideKnuth_62 : decode cJ35_divideKnuth 62 = .ok (.aload_n 2, 1) := dk_44 (dk_at dksJ35_divideKnuth_2 14 rfl rfl)
theorem dJ35_divideKnuth_63 : decode cJ35_divideKnuth 63 = .ok (.aload_n 2, 1) := dk_44 (dk_at dksJ35_divideKnuth_2 15 rfl rfl)
theorem dJ35_divideKnuth_64 : decode cJ35_divideKnuth 64 = .ok (.iconst 0, 1) := dk_3 (dk_at dksJ35_divideKnuth_2 16 rfl rfl)
theorem dJ35_divideKnuth_65 : decode cJ35_divideKnuth 65 = .ok (.dup_x1, 1) := dk_90 (dk_at dksJ35_divideKnuth_2 17 rfl rfl)
theorem dJ35_divideKnuth_66 : decode cJ35_divideKnuth 66 = .ok (.putfield 11, 3) := dk_181 0 11 (dk_at dksJ35_divideKnuth_2 18 rfl rfl)
theorem dJ35_divideKnuth_69 : decode cJ35_divideKnuth 69 = .ok (.putfield 21, 3) := dk_181 0 21 (dk_at dksJ35_divideKnuth_2 21 rfl rfl)
theorem dJ35_divideKnuth_72 : decode cJ35_divideKnuth 72 = .ok (.iload_n 3, 1) := dk_29 (dk_at dksJ35_divideKnuth_3 0 rfl rfl)
theorem dJ35_divideKnuth_73 : decode cJ35_divideKnuth 73 = .ok (.ifCond .eq 14, 3) := dk_153 0 14 (dk_at dksJ35_divideKnuth_3 1 rfl rfl)
theorem dJ35_divideKnuth_76 : decode cJ35_divideKnuth 76 = .ok (.new 12, 3) := dk_187 0 12 (dk_at dksJ35_divideKnuth_3 4 rfl rfl)
theorem dJ35_divideKnuth_79 : decode cJ35_divideKnuth 79 = .ok (.dup, 1) := dk_89 (dk_at dksJ35_divideKnuth_3 7 rfl rfl)
theorem dJ35_divideKnuth_80 : decode cJ35_divideKnuth 80 = .ok (.aload_n 0, 1) := dk_42 (dk_at dksJ35_divideKnuth_3 8 rfl rfl)
theorem dJ35_divideKnuth_81 : decode cJ35_divideKnuth 81 = .ok (.invokespecial 136, 3) := dk_183 0 136 (dk_at dksJ35_divideKnuth_3 9 rfl rfl)
theorem dJ35_divideKnuth_84 : decode cJ35_divideKnuth 84 = .ok (.goto 4, 3) := dk_167 0 4 (dk_at dksJ35_divideKnuth_3 12 rfl rfl)
theorem dJ35_divideKnuth_87 : decode cJ35_divideKnuth 87 = .ok (.aconst_null, 1) := dk_1 (dk_at dksJ35_divideKnuth_3 15 rfl rfl)
theorem dJ35_divideKnuth_88 : decode cJ35_divideKnuth 88 = .ok (.areturn, 1) := dk_176 (dk_at dksJ35_divideKnuth_3 16 rfl rfl)
theorem dJ35_divideKnuth_89 : decode cJ35_divideKnuth 89 = .ok (.iload 4, 2) := dk_21 4 (dk_at dksJ35_divideKnuth_3 17 rfl rfl)
theorem dJ35_divideKnuth_91 : decode cJ35_divideKnuth 91 = .ok (.ifCond .ne 36, 3) := dk_154 0 36 (dk_at dksJ35_divideKnuth_3 19 rfl rfl)
theorem dJ35_divideKnuth_94 : decode cJ35_divideKnuth 94 = .ok (.aload_n 2, 1) := dk_44 (dk_at dksJ35_divideKnuth_3 22 rfl rfl)
theorem dJ35_divideKnuth_95 : decode cJ35_divideKnuth 95 = .ok (.getfield 17, 3) := dk_180 0 17 (dk_at dksJ35_divideKnuth_4 0 rfl rfl)
theorem dJ35_divideKnuth_98 : decode cJ35_divideKnuth 98 = .ok (.iconst 0, 1) := dk_3 (dk_at dksJ35_divideKnuth_4 3 rfl rfl)
theorem dJ35_divideKnuth_99 : decode cJ35_divideKnuth 99 = .ok (.aload_n 2, 1) := dk_44 (dk_at dksJ35_divideKnuth_4 4 rfl rfl)
theorem dJ35_divideKnuth_100 : decode cJ35_divideKnuth 100 = .ok (.iconst 1, 1) := dk_4 (dk_at dksJ35_divideKnuth_4 5 rfl rfl)
theorem dJ35_divideKnuth_101 : decode cJ35_divideKnuth 101 = .ok (.dup_x1, 1) := dk_90 (dk_at dksJ35_divideKnuth_4 6 rfl rfl)
theorem dJ35_divideKnuth_102 : decode cJ35_divideKnuth 102 = .ok (.putfield 21, 3) := dk_181 0 21 (dk_at dksJ35_divideKnuth_4 7 rfl rfl)
theorem dJ35_divideKnuth_105 : decode cJ35_divideKnuth 105 = .ok (.iastore, 1) := dk_79 (dk_at dksJ35_divideKnuth_4 10 rfl rfl)
theorem dJ35_divideKnuth_106 : decode cJ35_divideKnuth 106 = .ok (.aload_n 2, 1) := dk_44 (dk_at dksJ35_divideKnuth_4 11 rfl rfl)
theorem dJ35_divideKnuth_107 : decode cJ35_divideKnuth 107 = .ok (.iconst 0, 1) := dk_3 (dk_at dksJ35_divideKnuth_4 12 rfl rfl)
theorem dJ35_divideKnuth_108 : decode cJ35_divideKnuth 108 = .ok (.putfield 11, 3) := dk_181 0 11 (dk_at dksJ35_divideKnuth_4 13 rfl rfl)
theorem dJ35_divideKnuth_111 : decode cJ35_divideKnuth 111 = .ok (.iload_n 3, 1) := dk_29 (dk_at dksJ35_divideKnuth_4 16 rfl rfl)
theorem dJ35_divideKnuth_112 : decode cJ35_divideKnuth 112 = .ok (.ifCond .eq 13, 3) := dk_153 0 13 (dk_at dksJ35_divideKnuth_4 17 rfl rfl)
theorem dJ35_divideKnuth_115 : decode cJ35_divideKnuth 115 = .ok (.new 12, 3) := dk_187 0 12 (dk_at dksJ35_divideKnuth_4 20 rfl rfl)
theorem dJ35_divideKnuth_118 : decode cJ35_divideKnuth 118 = .ok (.dup, 1) := dk_89 (dk_at dksJ35_divideKnuth_4 23 rfl rfl)
theorem dJ35_divideKnuth_119 : decode cJ35_divideKnuth 119 = .ok (.invokespecial 177, 3) := dk_183 0 177 (dk_at dksJ35_divideKnuth_5 0 rfl rfl)
theorem dJ35_divideKnuth_122 : decode cJ35_divideKnuth 122 = .ok (.goto 4, 3) := dk_167 0 4 (dk_at dksJ35_divideKnuth_5 3 rfl rfl)
theorem dJ35_divideKnuth_125 : decode cJ35_divideKnuth 125 = .ok (.aconst_null, 1) := dk_1 (dk_at dksJ35_divideKnuth_5 6 rfl rfl)
theorem dJ35_divideKnuth_126 : decode cJ35_divideKnuth 126 = .ok (.areturn, 1) := dk_176 (dk_at dksJ35_divideKnuth_5 7 rfl rfl)
theorem dJ35_divideKnuth_127 : decode cJ35_divideKnuth 127 = .ok (.aload_n 2, 1) := dk_44 (dk_at dksJ35_divideKnuth_5 8 rfl rfl)
theorem dJ35_divideKnuth_128 : decode cJ35_divideKnuth 128 = .ok (.invokevirtual 149, 3) := dk_182 0 149 (dk_at dksJ35_divideKnuth_5 9 rfl rfl)
theorem dJ35_divideKnuth_131 : decode cJ35_divideKnuth 131 = .ok (.aload_n 1, 1) := dk_43 (dk_at dksJ35_divideKnuth_5 12 rfl rfl)
theorem dJ35_divideKnuth_132 : decode cJ35_divideKnuth 132 = .ok (.getfield 21, 3) := dk_180 0 21 (dk_at dksJ35_divideKnuth_5 13 rfl rfl)
theorem dJ35_divideKnuth_135 : decode cJ35_divideKnuth 135 = .ok (.iconst 1, 1) := dk_4 (dk_at dksJ35_divideKnuth_5 16 rfl rfl)
theorem dJ35_divideKnuth_136 : decode cJ35_divideKnuth 136 = .ok (.if_icmp .ne 48, 3) := dk_160 0 48 (dk_at dksJ35_divideKnuth_5 17 rfl rfl)
theorem dJ35_divideKnuth_139 : decode cJ35_divideKnuth 139 = .ok (.aload_n 0, 1) := dk_42 (dk_at dksJ35_divideKnuth_5 20 rfl rfl)
theorem dJ35_divideKnuth_140 : decode cJ35_divideKnuth 140 = .ok (.aload_n 1, 1) := dk_43 (dk_at dksJ35_divideKnuth_5 21 rfl rfl)
theorem dJ35_divideKnuth_141 : decode cJ35_divideKnuth 141 = .ok (.getfield 17, 3) := dk_180 0 17 (dk_at dksJ35_divideKnuth_6 0 rfl rfl)
theorem dJ35_divideKnuth_144 : decode cJ35_divideKnuth 144 = .ok (.aload_n 1, 1) := dk_43 (dk_at dksJ35_divideKnuth_6 3 rfl rfl)
theorem dJ35_divideKnuth_145 : decode cJ35_divideKnuth 145 = .ok (.getfield 11, 3) := dk_180 0 11 (dk_at dksJ35_divideKnuth_6 4 rfl rfl)
theorem dJ35_divideKnuth_148 : decode cJ35_divideKnuth 148 = .ok (.iaload, 1) := dk_46 (dk_at dksJ35_divideKnuth_6 7 rfl rfl)
theorem dJ35_divideKnuth_149 : decode cJ35_divideKnuth 149 = .ok (.aload_n 2, 1) := dk_44 (dk_at dksJ35_divideKnuth_6 8 rfl rfl)
theorem dJ35_divideKnuth_150 : decode cJ35_divideKnuth 150 = .ok (.invokevirtual 178, 3) := dk_182 0 178 (dk_at dksJ35_divideKnuth_6 9 rfl rfl)
theorem dJ35_divideKnuth_153 : decode cJ35_divideKnuth 153 = .ok (.istore 5, 2) := dk_54 5 (dk_at dksJ35_divideKnuth_6 12 rfl rfl)
theorem dJ35_divideKnuth_155 : decode cJ35_divideKnuth 155 = .ok (.iload_n 3, 1) := dk_29 (dk_at dksJ35_divideKnuth_6 14 rfl rfl)
theorem dJ35_divideKnuth_156 : decode cJ35_divideKnuth 156 = .ok (.ifCond .eq 26, 3) := dk_153 0 26 (dk_at dksJ35_divideKnuth_6 15 rfl rfl)
theorem dJ35_divideKnuth_159 : decode cJ35_divideKnuth 159 = .ok (.iload 5, 2) := dk_21 5 (dk_at dksJ35_divideKnuth_6 18 rfl rfl)
theorem dJ35_divideKnuth_161 : decode cJ35_divideKnuth 161 = .ok (.ifCond .ne 11, 3) := dk_154 0 11 (dk_at dksJ35_divideKnuth_6 20 rfl rfl)
theorem dJ35_divideKnuth_164 : decode cJ35_divideKnuth 164 = .ok (.new 12, 3) := dk_187 0 12 (dk_at dksJ35_divideKnuth_7 0 rfl rfl)
theorem dJ35_divideKnuth_167 : decode cJ35_divideKnuth 167 = .ok (.dup, 1) := dk_89 (dk_at dksJ35_divideKnuth_7 3 rfl rfl)
theorem dJ35_divideKnuth_168 : decode cJ35_divideKnuth 168 = .ok (.invokespecial 177, 3) := dk_183 0 177 (dk_at dksJ35_divideKnuth_7 4 rfl rfl)
theorem dJ35_divideKnuth_171 : decode cJ35_divideKnuth 171 = .ok (.areturn, 1) := dk_176 (dk_at dksJ35_divideKnuth_7 7 rfl rfl)
theorem dJ35_divideKnuth_172 : decode cJ35_divideKnuth 172 = .ok (.new 12, 3) := dk_187 0 12 (dk_at dksJ35_divideKnuth_7 8 rfl rfl)
theorem dJ35_divideKnuth_175 : decode cJ35_divideKnuth 175 = .ok (.dup, 1) := dk_89 (dk_at dksJ35_divideKnuth_7 11 rfl rfl)
theorem dJ35_divideKnuth_176 : decode cJ35_divideKnuth 176 = .ok (.iload 5, 2) := dk_21 5 (dk_at dksJ35_divideKnuth_7 12 rfl rfl)
theorem dJ35_divideKnuth_178 : decode cJ35_divideKnuth 178 = .ok (.invokespecial 182, 3) := dk_183 0 182 (dk_at dksJ35_divideKnuth_7 14 rfl rfl)
theorem dJ35_divideKnuth_181 : decode cJ35_divideKnuth 181 = .ok (.areturn, 1) := dk_176 (dk_at dksJ35_divideKnuth_7 17 rfl rfl)
theorem dJ35_divideKnuth_182 : decode cJ35_divideKnuth 182 = .ok (.aconst_null, 1) := dk_1 (dk_at dksJ35_divideKnuth_7 18 rfl rfl)
theorem dJ35_divideKnuth_183 : decode cJ35_divideKnuth 183 = .ok (.areturn, 1) := dk_176 (dk_at dksJ35_divideKnuth_7 19 rfl rfl)
theorem dJ35_divideKnuth_184 : decode cJ35_divideKnuth 184 = .ok (.aload_n 0, 1) := dk_42 (dk_at dksJ35_divideKnuth_7 20 rfl rfl)
theorem dJ35_divideKnuth_185 : decode cJ35_divideKnuth 185 = .ok (.getfield 21, 3) := dk_180 0 21 (dk_at dksJ35_divideKnuth_7 21 rfl rfl)
theorem dJ35_divideKnuth_188 : decode cJ35_divideKnuth 188 = .ok (.bipush 6, 2) := dk_16 6 (dk_at dksJ35_divideKnuth_8 0 rfl rfl)
theorem dJ35_divideKnuth_190 : decode cJ35_divideKnuth 190 = .ok (.if_icmp .lt 74, 3) := dk_161 0 74 (dk_at dksJ35_divideKnuth_8 2 rfl rfl)
theorem dJ35_divideKnuth_193 : decode cJ35_divideKnuth 193 = .ok (.aload_n 0, 1) := dk_42 (dk_at dksJ35_divideKnuth_8 5 rfl rfl)
theorem dJ35_divideKnuth_194 : decode cJ35_divideKnuth 194 = .ok (.invokevirtual 184, 3) := dk_182 0 184 (dk_at dksJ35_divideKnuth_8 6 rfl rfl)
theorem dJ35_divideKnuth_197 : decode cJ35_divideKnuth 197 = .ok (.aload_n 1, 1) := dk_43 (dk_at dksJ35_divideKnuth_8 9 rfl rfl)
theorem dJ35_divideKnuth_198 : decode cJ35_divideKnuth 198 = .ok (.invokevirtual 184, 3) := dk_182 0 184 (dk_at dksJ35_divideKnuth_8 10 rfl rfl)
theorem dJ35_divideKnuth_201 : decode cJ35_divideKnuth 201 = .ok (.invokestatic 130, 3) := dk_184 0 130 (dk_at dksJ35_divideKnuth_8 13 rfl rfl)
theorem dJ35_divideKnuth_204 : decode cJ35_divideKnuth 204 = .ok (.istore 5, 2) := dk_54 5 (dk_at dksJ35_divideKnuth_8 16 rfl rfl)
theorem dJ35_divideKnuth_206 : decode cJ35_divideKnuth 206 = .ok (.iload 5, 2) := dk_21 5 (dk_at dksJ35_divideKnuth_8 18 rfl rfl)
theorem dJ35_divideKnuth_208 : decode cJ35_divideKnuth 208 = .ok (.bipush 96, 2) := dk_16 96 (dk_at dksJ35_divideKnuth_8 20 rfl rfl)
theorem dJ35_divideKnuth_210 : decode cJ35_divideKnuth 210 = .ok (.if_icmp .lt 54, 3) := dk_161 0 54 (dk_at dksJ35_divideKnuth_9 0 rfl rfl)
theorem dJ35_divideKnuth_213 : decode cJ35_divideKnuth 213 = .ok (.new 12, 3) := dk_187 0 12 (dk_at dksJ35_divideKnuth_9 3 rfl rfl)
theorem dJ35_divideKnuth_216 : decode cJ35_divideKnuth 216 = .ok (.dup, 1) := dk_89 (dk_at dksJ35_divideKnuth_9 6 rfl rfl)
theorem dJ35_divideKnuth_217 : decode cJ35_divideKnuth 217 = .ok (.aload_n 0, 1) := dk_42 (dk_at dksJ35_divideKnuth_9 7 rfl rfl)
theorem dJ35_divideKnuth_218 : decode cJ35_divideKnuth 218 = .ok (.invokespecial 136, 3) := dk_183 0 136 (dk_at dksJ35_divideKnuth_9 8 rfl rfl)
theorem dJ35_divideKnuth_221 : decode cJ35_divideKnuth 221 = .ok (.astore 6, 2) := dk_58 6 (dk_at dksJ35_divideKnuth_9 11 rfl rfl)
theorem dJ35_divideKnuth_223 : decode cJ35_divideKnuth 223 = .ok (.new 12, 3) := dk_187 0 12 (dk_at dksJ35_divideKnuth_9 13 rfl rfl)
theorem dJ35_divideKnuth_226 : decode cJ35_divideKnuth 226 = .ok (.dup, 1) := dk_89 (dk_at dksJ35_divideKnuth_9 16 rfl rfl)
theorem dJ35_divideKnuth_227 : decode cJ35_divideKnuth 227 = .ok (.aload_n 1, 1) := dk_43 (dk_at dksJ35_divideKnuth_9 17 rfl rfl)
theorem dJ35_divideKnuth_228 : decode cJ35_divideKnuth 228 = .ok (.invokespecial 136, 3) := dk_183 0 136 (dk_at dksJ35_divideKnuth_9 18 rfl rfl)
theorem dJ35_divideKnuth_231 : decode cJ35_divideKnuth 231 = .ok (.astore_n 1, 1) := dk_76 (dk_at dksJ35_divideKnuth_9 21 rfl rfl)
theorem dJ35_divideKnuth_232 : decode cJ35_divideKnuth 232 = .ok (.aload 6, 2) := dk_25 6 (dk_at dksJ35_divideKnuth_9 22 rfl rfl)
theorem dJ35_divideKnuth_234 : decode cJ35_divideKnuth 234 = .ok (.iload 5, 2) := dk_21 5 (dk_at dksJ35_divideKnuth_10 0 rfl rfl)
theorem dJ35_divideKnuth_236 : decode cJ35_divideKnuth 236 = .ok (.invokevirtual 108, 3) := dk_182 0 108 (dk_at dksJ35_divideKnuth_10 2 rfl rfl)
theorem dJ35_divideKnuth_239 : decode cJ35_divideKnuth 239 = .ok (.aload_n 1, 1) := dk_43 (dk_at dksJ35_divideKnuth_10 5 rfl rfl)
theorem dJ35_divideKnuth_240 : decode cJ35_divideKnuth 240 = .ok (.iload 5, 2) := dk_21 5 (dk_at dksJ35_divideKnuth_10 6 rfl rfl)
theorem dJ35_divideKnuth_242 : decode cJ35_divideKnuth 242 = .ok (.invokevirtual 108, 3) := dk_182 0 108 (dk_at dksJ35_divideKnuth_10 8 rfl rfl)
theorem dJ35_divideKnuth_245 : decode cJ35_divideKnuth 245 = .ok (.aload 6, 2) := dk_25 6 (dk_at dksJ35_divideKnuth_10 11 rfl rfl)
theorem dJ35_divideKnuth_247 : decode cJ35_divideKnuth 247 = .ok (.aload_n 1, 1) := dk_43 (dk_at dksJ35_divideKnuth_10 13 rfl rfl)
theorem dJ35_divideKnuth_248 : decode cJ35_divideKnuth 248 = .ok (.aload_n 2, 1) := dk_44 (dk_at dksJ35_divideKnuth_10 14 rfl rfl)
theorem dJ35_divideKnuth_249 : decode cJ35_divideKnuth 249 = .ok (.invokevirtual 188, 3) := dk_182 0 188 (dk_at dksJ35_divideKnuth_10 15 rfl rfl)
theorem dJ35_divideKnuth_252 : decode cJ35_divideKnuth 252 = .ok (.astore 7, 2) := dk_58 7 (dk_at dksJ35_divideKnuth_10 18 rfl rfl)
theorem dJ35_divideKnuth_254 : decode cJ35_divideKnuth 254 = .ok (.aload 7, 2) := dk_25 7 (dk_at dksJ35_divideKnuth_10 20 rfl rfl)
theorem dJ35_divideKnuth_256 : decode cJ35_divideKnuth 256 = .ok (.iload 5, 2) := dk_21 5 (dk_at dksJ35_divideKnuth_10 22 rfl rfl)
theorem dJ35_divideKnuth_258 : decode cJ35_divideKnuth 258 = .ok (.invokevirtual 121, 3) := dk_182 0 121 (dk_at dksJ35_divideKnuth_11 0 rfl rfl)
theorem dJ35_divideKnuth_261 : decode cJ35_divideKnuth 261 = .ok (.aload 7, 2) := dk_25 7 (dk_at dksJ35_divideKnuth_11 3 rfl rfl)
theorem dJ35_divideKnuth_263 : decode cJ35_divideKnuth 263 = .ok (.areturn, 1) := dk_176 (dk_at dksJ35_divideKnuth_11 5 rfl rfl)
theorem dJ35_divideKnuth_264 : decode cJ35_divideKnuth 264 = .ok (.aload_n 0, 1) := dk_42 (dk_at dksJ35_divideKnuth_11 6 rfl rfl)
theorem dJ35_divideKnuth_265 : decode cJ35_divideKnuth 265 = .ok (.aload_n 1, 1) := dk_43 (dk_at dksJ35_divideKnuth_11 7 rfl rfl)
theorem dJ35_divideKnuth_266 : decode cJ35_divideKnuth 266 = .ok (.aload_n 2, 1) := dk_44 (dk_at dksJ35_divideKnuth_11 8 rfl rfl)
theorem dJ35_divideKnuth_267 : decode cJ35_divideKnuth 267 = .ok (.iload_n 3, 1) := dk_29 (dk_at dksJ35_divideKnuth_11 9 rfl rfl)
theorem dJ35_divideKnuth_268 : decode cJ35_divideKnuth 268 = .ok (.invokevirtual 190, 3) := dk_182 0 190 (dk_at dksJ35_divideKnuth_11 10 rfl rfl)
theorem dJ35_divideKnuth_271 : decode cJ35_divideKnuth 271 = .ok (.areturn, 1) := dk_176 (dk_at dksJ35_divideKnuth_11 13 rfl rfl)
def dkwJ35_compare_4 : List UInt8 := [132, 4, 1, 132, 5, 1, 167, 255, 197, 3, 172]
abbrev dktJ35_compare_4 : List UInt8 := dkwJ35_compare_4 ++ []
def dkwJ35_compare_3 : List UInt8 := [18, 88, 96, 54, 7, 21, 6, 21, 7, 162, 0, 5, 2, 172, 21, 6, 21, 7, 164, 0, 5, 4, 172]
abbrev dktJ35_compare_3 : List UInt8 := dkwJ35_compare_3 ++ dktJ35_compare_4
def dkwJ35_compare_2 : List UInt8 := [42, 180, 0, 11, 96, 162, 0, 51, 42, 180, 0, 17, 21, 4, 46, 18, 88, 96, 54, 6, 45, 21, 5, 46]
abbrev dktJ35_compare_2 : List UInt8 := dkwJ35_compare_2 ++ dktJ35_compare_3
def dkwJ35_compare_1 : List UInt8 := [172, 43, 180, 0, 17, 78, 42, 180, 0, 11, 54, 4, 43, 180, 0, 11, 54, 5, 21, 4, 42, 180, 0, 21]
abbrev dktJ35_compare_1 : List UInt8 := dkwJ35_compare_1 ++ dktJ35_compare_2
def dkwJ35_compare_0 : List UInt8 := [43, 180, 0, 21, 61, 42, 180, 0, 21, 28, 162, 0, 5, 2, 172, 42, 180, 0, 21, 28, 164, 0, 5, 4]
abbrev dktJ35_compare_0 : List UInt8 := dkwJ35_compare_0 ++ dktJ35_compare_1
theorem dksJ35_compare_0 : cJ35_compare.data.toList.drop 0 = dktJ35_compare_0 := by decide +kernel
theorem dksJ35_compare_1 : cJ35_compare.data.toList.drop 24 = dktJ35_compare_1 := dk_seg dksJ35_compare_0 24 rfl rfl
theorem dksJ35_compare_2 : cJ35_compare.data.toList.drop 48 = dktJ35_compare_2 := dk_seg dksJ35_compare_1 24 rfl rfl
theorem dksJ35_compare_3 : cJ35_compare.data.toList.drop 72 = dktJ35_compare_3 := dk_seg dksJ35_compare_2 24 rfl rfl
theorem dksJ35_compare_4 : cJ35_compare.data.toList.drop 95 = dktJ35_compare_4 := dk_seg dksJ35_compare_3 23 rfl rfl
theorem dJ35_compare_0 : decode cJ35_compare 0 = .ok (.aload_n 1, 1) := dk_43 (dk_at dksJ35_compare_0 0 rfl rfl)
theorem dJ35_compare_1 : decode cJ35_compare 1 = .ok (.getfield 21, 3) := dk_180 0 21 (dk_at dksJ35_compare_0 1 rfl rfl)
theorem dJ35_compare_4 : decode cJ35_compare 4 = .ok (.istore_n 2, 1) := dk_61 (dk_at dksJ35_compare_0 4 rfl rfl)
theorem dJ35_compare_5 : decode cJ35_compare 5 = .ok (.aload_n 0, 1) := dk_42 (dk_at dksJ35_compare_0 5 rfl rfl)
theorem dJ35_compare_6 : decode cJ35_compare 6 = .ok (.getfield 21, 3) := dk_180 0 21 (dk_at dksJ35_compare_0 6 rfl rfl)
theorem dJ35_compare_9 : decode cJ35_compare 9 = .ok (.iload_n 2, 1) := dk_28 (dk_at dksJ35_compare_0 9 rfl rfl)
theorem dJ35_compare_10 : decode cJ35_compare 10 = .ok (.if_icmp .ge 5, 3) := dk_162 0 5 (dk_at dksJ35_compare_0 10 rfl rfl)
theorem dJ35_compare_13 : decode cJ35_compare 13 = .ok (.iconst (-1), 1) := dk_2 (dk_at dksJ35_compare_0 13 rfl rfl)
theorem dJ35_compare_14 : decode cJ35_compare 14 = .ok (.ireturn, 1) := dk_172 (dk_at dksJ35_compare_0 14 rfl rfl)
theorem dJ35_compare_15 : decode cJ35_compare 15 = .ok (.aload_n 0, 1) := dk_42 (dk_at dksJ35_compare_0 15 rfl rfl)
theorem dJ35_compare_16 : decode cJ35_compare 16 = .ok (.getfield 21, 3) := dk_180 0 21 (dk_at dksJ35_compare_0 16 rfl rfl)
theorem dJ35_compare_19 : decode cJ35_compare 19 = .ok (.iload_n 2, 1) := dk_28 (dk_at dksJ35_compare_0 19 rfl rfl)
theorem dJ35_compare_20 : decode cJ35_compare 20 = .ok (.if_icmp .le 5, 3) := dk_164 0 5 (dk_at dksJ35_compare_0 20 rfl rfl)
theorem dJ35_compare_23 : decode cJ35_compare 23 = .ok (.iconst 1, 1) := dk_4 (dk_at dksJ35_compare_0 23 rfl rfl)
theorem dJ35_compare_24 : decode cJ35_compare 24 = .ok (.ireturn, 1) := dk_172 (dk_at dksJ35_compare_1 0 rfl rfl)
theorem dJ35_compare_25 : decode cJ35_compare 25 = .ok (.aload_n 1, 1) := dk_43 (dk_at dksJ35_compare_1 1 rfl rfl)
theorem dJ35_compare_26 : decode cJ35_compare 26 = .ok (.getfield 17, 3) := dk_180 0 17 (dk_at dksJ35_compare_1 2 rfl rfl)
theorem dJ35_compare_29 : decode cJ35_compare 29 = .ok (.astore_n 3, 1) := dk_78 (dk_at dksJ35_compare_1 5 rfl rfl)
theorem dJ35_compare_30 : decode cJ35_compare 30 = .ok (.aload_n 0, 1) := dk_42 (dk_at dksJ35_compare_1 6 rfl rfl)
theorem dJ35_compare_31 : decode cJ35_compare 31 = .ok (.getfield 11, 3) := dk_180 0 11 (dk_at dksJ35_compare_1 7 rfl rfl)
theorem dJ35_compare_34 : decode cJ35_compare 34 = .ok (.istore 4, 2) := dk_54 4 (dk_at dksJ35_compare_1 10 rfl rfl)
theorem dJ35_compare_36 : decode cJ35_compare 36 = .ok (.aload_n 1, 1) := dk_43 (dk_at dksJ35_compare_1 12 rfl rfl)
theorem dJ35_compare_37 : decode cJ35_compare 37 = .ok (.getfield 11, 3) := dk_180 0 11 (dk_at dksJ35_compare_1 13 rfl rfl)
theorem dJ35_compare_40 : decode cJ35_compare 40 = .ok (.istore 5, 2) := dk_54 5 (dk_at dksJ35_compare_1 16 rfl rfl)
theorem dJ35_compare_42 : decode cJ35_compare 42 = .ok (.iload 4, 2) := dk_21 4 (dk_at dksJ35_compare_1 18 rfl rfl)
theorem dJ35_compare_44 : decode cJ35_compare 44 = .ok (.aload_n 0, 1) := dk_42 (dk_at dksJ35_compare_1 20 rfl rfl)
theorem dJ35_compare_45 : decode cJ35_compare 45 = .ok (.getfield 21, 3) := dk_180 0 21 (dk_at dksJ35_compare_1 21 rfl rfl)
theorem dJ35_compare_48 : decode cJ35_compare 48 = .ok (.aload_n 0, 1) := dk_42 (dk_at dksJ35_compare_2 0 rfl rfl)
theorem dJ35_compare_49 : decode cJ35_compare 49 = .ok (.getfield 11, 3) := dk_180 0 11 (dk_at dksJ35_compare_2 1 rfl rfl)
theorem dJ35_compare_52 : decode cJ35_compare 52 = .ok (.iadd, 1) := dk_96 (dk_at dksJ35_compare_2 4 rfl rfl)
theorem dJ35_compare_53 : decode cJ35_compare 53 = .ok (.if_icmp .ge 51, 3) := dk_162 0 51 (dk_at dksJ35_compare_2 5 rfl rfl)
theorem dJ35_compare_56 : decode cJ35_compare 56 = .ok (.aload_n 0, 1) := dk_42 (dk_at dksJ35_compare_2 8 rfl rfl)
theorem dJ35_compare_57 : decode cJ35_compare 57 = .ok (.getfield 17, 3) := dk_180 0 17 (dk_at dksJ35_compare_2 9 rfl rfl)
theorem dJ35_compare_60 : decode cJ35_compare 60 = .ok (.iload 4, 2) := dk_21 4 (dk_at dksJ35_compare_2 12 rfl rfl)
theorem dJ35_compare_62 : decode cJ35_compare 62 = .ok (.iaload, 1) := dk_46 (dk_at dksJ35_compare_2 14 rfl rfl)
theorem dJ35_compare_63 : decode cJ35_compare 63 = .ok (.ldc 88, 2) := dk_18 88 (dk_at dksJ35_compare_2 15 rfl rfl)
theorem dJ35_compare_65 : decode cJ35_compare 65 = .ok (.iadd, 1) := dk_96 (dk_at dksJ35_compare_2 17 rfl rfl)
theorem dJ35_compare_66 : decode cJ35_compare 66 = .ok (.istore 6, 2) := dk_54 6 (dk_at dksJ35_compare_2 18 rfl rfl)
theorem dJ35_compare_68 : decode cJ35_compare 68 = .ok (.aload_n 3, 1) := dk_45 (dk_at dksJ35_compare_2 20 rfl rfl)
theorem dJ35_compare_69 : decode cJ35_compare 69 = .ok (.iload 5, 2) := dk_21 5 (dk_at dksJ35_compare_2 21 rfl rfl)
theorem dJ35_compare_71 : decode cJ35_compare 71 = .ok (.iaload, 1) := dk_46 (dk_at dksJ35_compare_2 23 rfl rfl)
theorem dJ35_compare_72 : decode cJ35_compare 72 = .ok (.ldc 88, 2) := dk_18 88 (dk_at dksJ35_compare_3 0 rfl rfl)
theorem dJ35_compare_74 : decode cJ35_compare 74 = .ok (.iadd, 1) := dk_96 (dk_at dksJ35_compare_3 2 rfl rfl)
theorem dJ35_compare_75 : decode cJ35_compare 75 = .ok (.istore 7, 2) := dk_54 7 (dk_at dksJ35_compare_3 3 rfl rfl)
theorem dJ35_compare_77 : decode cJ35_compare 77 = .ok (.iload 6, 2) := dk_21 6 (dk_at dksJ35_compare_3 5 rfl rfl)
theorem dJ35_compare_79 : decode cJ35_compare 79 = .ok (.iload 7, 2) := dk_21 7 (dk_at dksJ35_compare_3 7 rfl rfl)
theorem dJ35_compare_81 : decode cJ35_compare 81 = .ok (.if_icmp .ge 5, 3) := dk_162 0 5 (dk_at dksJ35_compare_3 9 rfl rfl)
theorem dJ35_compare_84 : decode cJ35_compare 84 = .ok (.iconst (-1), 1) := dk_2 (dk_at dksJ35_compare_3 12 rfl rfl)
theorem dJ35_compare_85 : decode cJ35_compare 85 = .ok (.ireturn, 1) := dk_172 (dk_at dksJ35_compare_3 13 rfl rfl)
theorem dJ35_compare_86 : decode cJ35_compare 86 = .ok (.iload 6, 2) := dk_21 6 (dk_at dksJ35_compare_3 14 rfl rfl)
theorem dJ35_compare_88 : decode cJ35_compare 88 = .ok (.iload 7, 2) := dk_21 7 (dk_at dksJ35_compare_3 16 rfl rfl)
theorem dJ35_compare_90 : decode cJ35_compare 90 = .ok (.if_icmp .le 5, 3) := dk_164 0 5 (dk_at dksJ35_compare_3 18 rfl rfl)
theorem dJ35_compare_93 : decode cJ35_compare 93 = .ok (.iconst 1, 1) := dk_4 (dk_at dksJ35_compare_3 21 rfl rfl)
theorem dJ35_compare_94 : decode cJ35_compare 94 = .ok (.ireturn, 1) := dk_172 (dk_at dksJ35_compare_3 22 rfl rfl)
theorem dJ35_compare_95 : decode cJ35_compare 95 = .ok (.iinc 4 1, 3) := dk_132 4 1 (dk_at dksJ35_compare_4 0 rfl rfl)
theorem dJ35_compare_98 : decode cJ35_compare 98 = .ok (.iinc 5 1, 3) := dk_132 5 1 (dk_at dksJ35_compare_4 3 rfl rfl)
theorem dJ35_compare_101 : decode cJ35_compare 101 = .ok (.goto (-59), 3) := dk_167 255 197 (dk_at dksJ35_compare_4 6 rfl rfl)
theorem dJ35_compare_104 : decode cJ35_compare 104 = .ok (.iconst 0, 1) := dk_3 (dk_at dksJ35_compare_4 9 rfl rfl)
theorem dJ35_compare_105 : decode cJ35_compare 105 = .ok (.ireturn, 1) := dk_172 (dk_at dksJ35_compare_4 10 rfl rfl)
def dkwJ35_init_3_1 : List UInt8 := [180, 0, 11, 43, 180, 0, 11, 42, 180, 0, 21, 96, 184, 0, 33, 181, 0, 17, 177]
abbrev dktJ35_init_3_1 : List UInt8 := dkwJ35_init_3_1 ++ []
def dkwJ35_init_3_0 : List UInt8 := [42, 183, 0, 5, 42, 3, 181, 0, 11, 42, 43, 180, 0, 21, 181, 0, 21, 42, 43, 180, 0, 17, 43]
abbrev dktJ35_init_3_0 : List UInt8 := dkwJ35_init_3_0 ++ dktJ35_init_3_1
theorem dksJ35_init_3_0 : cJ35_init_3.data.toList.drop 0 = dktJ35_init_3_0 := by decide +kernel
theorem dksJ35_init_3_1 : cJ35_init_3.data.toList.drop 23 = dktJ35_init_3_1 := dk_seg dksJ35_init_3_0 23 rfl rfl
theorem dJ35_init_3_0 : decode cJ35_init_3 0 = .ok (.aload_n 0, 1) := dk_42 (dk_at dksJ35_init_3_0 0 rfl rfl)
theorem dJ35_init_3_1 : decode cJ35_init_3 1 = .ok (.invokespecial 5, 3) := dk_183 0 5 (dk_at dksJ35_init_3_0 1 rfl rfl)
theorem dJ35_init_3_4 : decode cJ35_init_3 4 = .ok (.aload_n 0, 1) := dk_42 (dk_at dksJ35_init_3_0 4 rfl rfl)
theorem dJ35_init_3_5 : decode cJ35_init_3 5 = .ok (.iconst 0, 1) := dk_3 (dk_at dksJ35_init_3_0 5 rfl rfl)
theorem dJ35_init_3_6 : decode cJ35_init_3 6 = .ok (.putfield 11, 3) := dk_181 0 11 (dk_at dksJ35_init_3_0 6 rfl rfl)
theorem dJ35_init_3_9 : decode cJ35_init_3 9 = .ok (.aload_n 0, 1) := dk_42 (dk_at dksJ35_init_3_0 9 rfl rfl)
theorem dJ35_init_3_10 : decode cJ35_init_3 10 = .ok (.aload_n 1, 1) := dk_43 (dk_at dksJ35_init_3_0 10 rfl rfl)
theorem dJ35_init_3_11 : decode cJ35_init_3 11 = .ok (.getfield 21, 3) := dk_180 0 21 (dk_at dksJ35_init_3_0 11 rfl rfl)
theorem dJ35_init_3_14 : decode cJ35_init_3 14 = .ok (.putfield 21, 3) := dk_181 0 21 (dk_at dksJ35_init_3_0 14 rfl rfl)
theorem dJ35_init_3_17 : decode cJ35_init_3 17 = .ok (.aload_n 0, 1) := dk_42 (dk_at dksJ35_init_3_0 17 rfl rfl)
theorem dJ35_init_3_18 : decode cJ35_init_3 18 = .ok (.aload_n 1, 1) := dk_43 (dk_at dksJ35_init_3_0 18 rfl rfl)
theorem dJ35_init_3_19 : decode cJ35_init_3 19 = .ok (.getfield 17, 3) := dk_180 0 17 (dk_at dksJ35_init_3_0 19 rfl rfl)
theorem dJ35_init_3_22 : decode cJ35_init_3 22 = .ok (.aload_n 1, 1) := dk_43 (dk_at dksJ35_init_3_0 22 rfl rfl)
theorem dJ35_init_3_23 : decode cJ35_init_3 23 = .ok (.getfield 11, 3) := dk_180 0 11 (dk_at dksJ35_init_3_1 0 rfl rfl)
theorem dJ35_init_3_26 : decode cJ35_init_3 26 = .ok (.aload_n 1, 1) := dk_43 (dk_at dksJ35_init_3_1 3 rfl rfl)
theorem dJ35_init_3_27 : decode cJ35_init_3 27 = .ok (.getfield 11, 3) := dk_180 0 11 (dk_at dksJ35_init_3_1 4 rfl rfl)
theorem dJ35_init_3_30 : decode cJ35_init_3 30 = .ok (.aload_n 0, 1) := dk_42 (dk_at dksJ35_init_3_1 7 rfl rfl)
theorem dJ35_init_3_31 : decode cJ35_init_3 31 = .ok (.getfield 21, 3) := dk_180 0 21 (dk_at dksJ35_init_3_1 8 rfl rfl)
theorem dJ35_init_3_34 : decode cJ35_init_3 34 = .ok (.iadd, 1) := dk_96 (dk_at dksJ35_init_3_1 11 rfl rfl)
theorem dJ35_init_3_35 : decode cJ35_init_3 35 = .ok (.invokestatic 33, 3) := dk_184 0 33 (dk_at dksJ35_init_3_1 12 rfl rfl)
theorem dJ35_init_3_38 : decode cJ35_init_3 38 = .ok (.putfield 17, 3) := dk_181 0 17 (dk_at dksJ35_init_3_1 15 rfl rfl)
theorem dJ35_init_3_41 : decode cJ35_init_3 41 = .ok (.return_, 1) := dk_177 (dk_at dksJ35_init_3_1 18 rfl rfl)
def dkwJ35_compareHalf_7 : List UInt8 := [21, 10, 4, 126, 16, 31, 120, 54, 6, 167, 255, 175, 21, 6, 154, 0, 7, 3, 167, 0, 4, 2, 172]
abbrev dktJ35_compareHalf_7 : List UInt8 := dkwJ35_compareHalf_7 ++ []
def dkwJ35_compareHalf_6 : List UInt8 := [55, 13, 22, 13, 22, 11, 148, 153, 0, 17, 22, 13, 22, 11, 148, 156, 0, 7, 2, 167, 0, 4, 4, 172]
abbrev dktJ35_compareHalf_6 : List UInt8 := dkwJ35_compareHalf_6 ++ dktJ35_compareHalf_7
def dkwJ35_compareHalf_5 : List UInt8 := [124, 21, 6, 96, 133, 20, 0, 52, 127, 55, 11, 25, 7, 21, 8, 132, 8, 1, 46, 133, 20, 0, 52, 127]
abbrev dktJ35_compareHalf_5 : List UInt8 := dkwJ35_compareHalf_5 ++ dktJ35_compareHalf_6
def dkwJ35_compareHalf_4 : List UInt8 := [21, 8, 29, 42, 180, 0, 11, 96, 162, 0, 76, 25, 4, 21, 9, 132, 9, 1, 46, 54, 10, 21, 10, 4]
abbrev dktJ35_compareHalf_4 : List UInt8 := dkwJ35_compareHalf_4 ++ dktJ35_compareHalf_5
def dkwJ35_compareHalf_3 : List UInt8 := [54, 6, 167, 0, 5, 2, 172, 42, 180, 0, 17, 58, 7, 42, 180, 0, 11, 54, 8, 21, 5, 54, 9]
abbrev dktJ35_compareHalf_3 : List UInt8 := dkwJ35_compareHalf_3 ++ dktJ35_compareHalf_4
def dkwJ35_compareHalf_2 : List UInt8 := [54, 5, 3, 54, 6, 29, 28, 159, 0, 24, 25, 4, 21, 5, 46, 4, 160, 0, 13, 132, 5, 1, 18, 88]
abbrev dktJ35_compareHalf_2 : List UInt8 := dkwJ35_compareHalf_2 ++ dktJ35_compareHalf_3
def dkwJ35_compareHalf_1 : List UInt8 := [29, 28, 164, 0, 5, 4, 172, 29, 28, 4, 100, 162, 0, 5, 2, 172, 43, 180, 0, 17, 58, 4, 3]
abbrev dktJ35_compareHalf_1 : List UInt8 := dkwJ35_compareHalf_1 ++ dktJ35_compareHalf_2
def dkwJ35_compareHalf_0 : List UInt8 := [43, 180, 0, 21, 61, 42, 180, 0, 21, 62, 29, 157, 0, 13, 28, 157, 0, 7, 3, 167, 0, 4, 2, 172]
abbrev dktJ35_compareHalf_0 : List UInt8 := dkwJ35_compareHalf_0 ++ dktJ35_compareHalf_1
theorem dksJ35_compareHalf_0 : cJ35_compareHalf.data.toList.drop 0 = dktJ35_compareHalf_0 := by decide +kernel
theorem dksJ35_compareHalf_1 : cJ35_compareHalf.data.toList.drop 24 = dktJ35_compareHalf_1 := dk_seg dksJ35_compareHalf_0 24 rfl rfl
theorem dksJ35_compareHalf_2 : cJ35_compareHalf.data.toList.drop 47 = dktJ35_compareHalf_2 := dk_seg dksJ35_compareHalf_1 23 rfl rfl
theorem dksJ35_compareHalf_3 : cJ35_compareHalf.data.toList.drop 71 = dktJ35_compareHalf_3 := dk_seg dksJ35_compareHalf_2 24 rfl rfl
theorem dksJ35_compareHalf_4 : cJ35_compareHalf.data.toList.drop 94 = dktJ35_compareHalf_4 := dk_seg dksJ35_compareHalf_3 23 rfl rfl
theorem dksJ35_compareHalf_5 : cJ35_compareHalf.data.toList.drop 118 = dktJ35_compareHalf_5 := dk_seg dksJ35_compareHalf_4 24 rfl rfl
theorem dksJ35_compareHalf_6 : cJ35_compareHalf.data.toList.drop 142 = dktJ35_compareHalf_6 := dk_seg dksJ35_compareHalf_5 24 rfl rfl
theorem dksJ35_compareHalf_7 : cJ35_compareHalf.data.toList.drop 166 = dktJ35_compareHalf_7 := dk_seg dksJ35_compareHalf_6 24 rfl rfl
theorem dJ35_compareHalf_0 : decode cJ35_compareHalf 0 = .ok (.aload_n 1, 1) := dk_43 (dk_at dksJ35_compareHalf_0 0 rfl rfl)
theorem dJ35_compareHalf_1 : decode cJ35_compareHalf 1 = .ok (.getfield 21, 3) := dk_180 0 21 (dk_at dksJ35_compareHalf_0 1 rfl rfl)
theorem dJ35_compareHalf_4 : decode cJ35_compareHalf 4 = .ok (.istore_n 2, 1) := dk_61 (dk_at dksJ35_compareHalf_0 4 rfl rfl)
theorem dJ35_compareHalf_5 : decode cJ35_compareHalf 5 = .ok (.aload_n 0, 1) := dk_42 (dk_at dksJ35_compareHalf_0 5 rfl rfl)
theorem dJ35_compareHalf_6 : decode cJ35_compareHalf 6 = .ok (.getfield 21, 3) := dk_180 0 21 (dk_at dksJ35_compareHalf_0 6 rfl rfl)
theorem dJ35_compareHalf_9 : decode cJ35_compareHalf 9 = .ok (.istore_n 3, 1) := dk_62 (dk_at dksJ35_compareHalf_0 9 rfl rfl)
theorem dJ35_compareHalf_10 : decode cJ35_compareHalf 10 = .ok (.iload_n 3, 1) := dk_29 (dk_at dksJ35_compareHalf_0 10 rfl rfl)
theorem dJ35_compareHalf_11 : decode cJ35_compareHalf 11 = .ok (.ifCond .gt 13, 3) := dk_157 0 13 (dk_at dksJ35_compareHalf_0 11 rfl rfl)
theorem dJ35_compareHalf_14 : decode cJ35_compareHalf 14 = .ok (.iload_n 2, 1) := dk_28 (dk_at dksJ35_compareHalf_0 14 rfl rfl)
theorem dJ35_compareHalf_15 : decode cJ35_compareHalf 15 = .ok (.ifCond .gt 7, 3) := dk_157 0 7 (dk_at dksJ35_compareHalf_0 15 rfl rfl)
theorem dJ35_compareHalf_18 : decode cJ35_compareHalf 18 = .ok (.iconst 0, 1) := dk_3 (dk_at dksJ35_compareHalf_0 18 rfl rfl)
theorem dJ35_compareHalf_19 : decode cJ35_compareHalf 19 = .ok (.goto 4, 3) := dk_167 0 4 (dk_at dksJ35_compareHalf_0 19 rfl rfl)
theorem dJ35_compareHalf_22 : decode cJ35_compareHalf 22 = .ok (.iconst (-1), 1) := dk_2 (dk_at dksJ35_compareHalf_0 22 rfl rfl)
theorem dJ35_compareHalf_23 : decode cJ35_compareHalf 23 = .ok (.ireturn, 1) := dk_172 (dk_at dksJ35_compareHalf_0 23 rfl rfl)
theorem dJ35_compareHalf_24 : decode cJ35_compareHalf 24 = .ok (.iload_n 3, 1) := dk_29 (dk_at dksJ35_compareHalf_1 0 rfl rfl)
theorem dJ35_compareHalf_25 : decode cJ35_compareHalf 25 = .ok (.iload_n 2, 1) := dk_28 (dk_at dksJ35_compareHalf_1 1 rfl rfl)
theorem dJ35_compareHalf_26 : decode cJ35_compareHalf 26 = .ok (.if_icmp .le 5, 3) := dk_164 0 5 (dk_at dksJ35_compareHalf_1 2 rfl rfl)
theorem dJ35_compareHalf_29 : decode cJ35_compareHalf 29 = .ok (.iconst 1, 1) := dk_4 (dk_at dksJ35_compareHalf_1 5 rfl rfl)
theorem dJ35_compareHalf_30 : decode cJ35_compareHalf 30 = .ok (.ireturn, 1) := dk_172 (dk_at dksJ35_compareHalf_1 6 rfl rfl)
theorem dJ35_compareHalf_31 : decode cJ35_compareHalf 31 = .ok (.iload_n 3, 1) := dk_29 (dk_at dksJ35_compareHalf_1 7 rfl rfl)
theorem dJ35_compareHalf_32 : decode cJ35_compareHalf 32 = .ok (.iload_n 2, 1) := dk_28 (dk_at dksJ35_compareHalf_1 8 rfl rfl)
theorem dJ35_compareHalf_33 : decode cJ35_compareHalf 33 = .ok (.iconst 1, 1) := dk_4 (dk_at dksJ35_compareHalf_1 9 rfl rfl)
theorem dJ35_compareHalf_34 : decode cJ35_compareHalf 34 = .ok (.isub, 1) := dk_100 (dk_at dksJ35_compareHalf_1 10 rfl rfl)
theorem dJ35_compareHalf_35 : decode cJ35_compareHalf 35 = .ok (.if_icmp .ge 5, 3) := dk_162 0 5 (dk_at dksJ35_compareHalf_1 11 rfl rfl)
theorem dJ35_compareHalf_38 : decode cJ35_compareHalf 38 = .ok (.iconst (-1), 1) := dk_2 (dk_at dksJ35_compareHalf_1 14 rfl rfl)
theorem dJ35_compareHalf_39 : decode cJ35_compareHalf 39 = .ok (.ireturn, 1) := dk_172 (dk_at dksJ35_compareHalf_1 15 rfl rfl)
theorem dJ35_compareHalf_40 : decode cJ35_compareHalf 40 = .ok (.aload_n 1, 1) := dk_43 (dk_at dksJ35_compareHalf_1 16 rfl rfl)
theorem dJ35_compareHalf_41 : decode cJ35_compareHalf 41 = .ok (.getfield 17, 3) := dk_180 0 17 (dk_at dksJ35_compareHalf_1 17 rfl rfl)
theorem dJ35_compareHalf_44 : decode cJ35_compareHalf 44 = .ok (.astore 4, 2) := dk_58 4 (dk_at dksJ35_compareHalf_1 20 rfl rfl)
theorem dJ35_compareHalf_46 : decode cJ35_compareHalf 46 = .ok (.iconst 0, 1) := dk_3 (dk_at dksJ35_compareHalf_1 22 rfl rfl)
theorem dJ35_compareHalf_47 : decode cJ35_compareHalf 47 = .ok (.istore 5, 2) := dk_54 5 (dk_at dksJ35_compareHalf_2 0 rfl rfl)
theorem dJ35_compareHalf_49 : decode cJ35_compareHalf 49 = .ok (.iconst 0, 1) := dk_3 (dk_at dksJ35_compareHalf_2 2 rfl rfl)
theorem dJ35_compareHalf_50 : decode cJ35_compareHalf 50 = .ok (.istore 6, 2) := dk_54 6 (dk_at dksJ35_compareHalf_2 3 rfl rfl)
theorem dJ35_compareHalf_52 : decode cJ35_compareHalf 52 = .ok (.iload_n 3, 1) := dk_29 (dk_at dksJ35_compareHalf_2 5 rfl rfl)
theorem dJ35_compareHalf_53 : decode cJ35_compareHalf 53 = .ok (.iload_n 2, 1) := dk_28 (dk_at dksJ35_compareHalf_2 6 rfl rfl)
theorem dJ35_compareHalf_54 : decode cJ35_compareHalf 54 = .ok (.if_icmp .eq 24, 3) := dk_159 0 24 (dk_at dksJ35_compareHalf_2 7 rfl rfl)
theorem dJ35_compareHalf_57 : decode cJ35_compareHalf 57 = .ok (.aload 4, 2) := dk_25 4 (dk_at dksJ35_compareHalf_2 10 rfl rfl)
theorem dJ35_compareHalf_59 : decode cJ35_compareHalf 59 = .ok (.iload 5, 2) := dk_21 5 (dk_at dksJ35_compareHalf_2 12 rfl rfl)
theorem dJ35_compareHalf_61 : decode cJ35_compareHalf 61 = .ok (.iaload, 1) := dk_46 (dk_at dksJ35_compareHalf_2 14 rfl rfl)
theorem dJ35_compareHalf_62 : decode cJ35_compareHalf 62 = .ok (.iconst 1, 1) := dk_4 (dk_at dksJ35_compareHalf_2 15 rfl rfl)
theorem dJ35_compareHalf_63 : decode cJ35_compareHalf 63 = .ok (.if_icmp .ne 13, 3) := dk_160 0 13 (dk_at dksJ35_compareHalf_2 16 rfl rfl)
theorem dJ35_compareHalf_66 : decode cJ35_compareHalf 66 = .ok (.iinc 5 1, 3) := dk_132 5 1 (dk_at dksJ35_compareHalf_2 19 rfl rfl)
theorem dJ35_compareHalf_69 : decode cJ35_compareHalf 69 = .ok (.ldc 88, 2) := dk_18 88 (dk_at dksJ35_compareHalf_2 22 rfl rfl)
theorem dJ35_compareHalf_71 : decode cJ35_compareHalf 71 = .ok (.istore 6, 2) := dk_54 6 (dk_at dksJ35_compareHalf_3 0 rfl rfl)
theorem dJ35_compareHalf_73 : decode cJ35_compareHalf 73 = .ok (.goto 5, 3) := dk_167 0 5 (dk_at dksJ35_compareHalf_3 2 rfl rfl)
theorem dJ35_compareHalf_76 : decode cJ35_compareHalf 76 = .ok (.iconst (-1), 1) := dk_2 (dk_at dksJ35_compareHalf_3 5 rfl rfl)
theorem dJ35_compareHalf_77 : decode cJ35_compareHalf 77 = .ok (.ireturn, 1) := dk_172 (dk_at dksJ35_compareHalf_3 6 rfl rfl)
theorem dJ35_compareHalf_78 : decode cJ35_compareHalf 78 = .ok (.aload_n 0, 1) := dk_42 (dk_at dksJ35_compareHalf_3 7 rfl rfl)
theorem dJ35_compareHalf_79 : decode cJ35_compareHalf 79 = .ok (.getfield 17, 3) := dk_180 0 17 (dk_at dksJ35_compareHalf_3 8 rfl rfl)
theorem dJ35_compareHalf_82 : decode cJ35_compareHalf 82 = .ok (.astore 7, 2) := dk_58 7 (dk_at dksJ35_compareHalf_3 11 rfl rfl)
theorem dJ35_compareHalf_84 : decode cJ35_compareHalf 84 = .ok (.aload_n 0, 1) := dk_42 (dk_at dksJ35_compareHalf_3 13 rfl rfl)
theorem dJ35_compareHalf_85 : decode cJ35_compareHalf 85 = .ok (.getfield 11, 3) := dk_180 0 11 (dk_at dksJ35_compareHalf_3 14 rfl rfl)
theorem dJ35_compareHalf_88 : decode cJ35_compareHalf 88 = .ok (.istore 8, 2) := dk_54 8 (dk_at dksJ35_compareHalf_3 17 rfl rfl)
theorem dJ35_compareHalf_90 : decode cJ35_compareHalf 90 = .ok (.iload 5, 2) := dk_21 5 (dk_at dksJ35_compareHalf_3 19 rfl rfl)
theorem dJ35_compareHalf_92 : decode cJ35_compareHalf 92 = .ok (.istore 9, 2) := dk_54 9 (dk_at dksJ35_compareHalf_3 21 rfl rfl)
theorem dJ35_compareHalf_94 : decode cJ35_compareHalf 94 = .ok (.iload 8, 2) := dk_21 8 (dk_at dksJ35_compareHalf_4 0 rfl rfl)
theorem dJ35_compareHalf_96 : decode cJ35_compareHalf 96 = .ok (.iload_n 3, 1) := dk_29 (dk_at dksJ35_compareHalf_4 2 rfl rfl)
theorem dJ35_compareHalf_97 : decode cJ35_compareHalf 97 = .ok (.aload_n 0, 1) := dk_42 (dk_at dksJ35_compareHalf_4 3 rfl rfl)
theorem dJ35_compareHalf_98 : decode cJ35_compareHalf 98 = .ok (.getfield 11, 3) := dk_180 0 11 (dk_at dksJ35_compareHalf_4 4 rfl rfl)
theorem dJ35_compareHalf_101 : decode cJ35_compareHalf 101 = .ok (.iadd, 1) := dk_96 (dk_at dksJ35_compareHalf_4 7 rfl rfl)
theorem dJ35_compareHalf_102 : decode cJ35_compareHalf 102 = .ok (.if_icmp .ge 76, 3) := dk_162 0 76 (dk_at dksJ35_compareHalf_4 8 rfl rfl)
theorem dJ35_compareHalf_105 : decode cJ35_compareHalf 105 = .ok (.aload 4, 2) := dk_25 4 (dk_at dksJ35_compareHalf_4 11 rfl rfl)
theorem dJ35_compareHalf_107 : decode cJ35_compareHalf 107 = .ok (.iload 9, 2) := dk_21 9 (dk_at dksJ35_compareHalf_4 13 rfl rfl)
theorem dJ35_compareHalf_109 : decode cJ35_compareHalf 109 = .ok (.iinc 9 1, 3) := dk_132 9 1 (dk_at dksJ35_compareHalf_4 15 rfl rfl)
theorem dJ35_compareHalf_112 : decode cJ35_compareHalf 112 = .ok (.iaload, 1) := dk_46 (dk_at dksJ35_compareHalf_4 18 rfl rfl)
theorem dJ35_compareHalf_113 : decode cJ35_compareHalf 113 = .ok (.istore 10, 2) := dk_54 10 (dk_at dksJ35_compareHalf_4 19 rfl rfl)
theorem dJ35_compareHalf_115 : decode cJ35_compareHalf 115 = .ok (.iload 10, 2) := dk_21 10 (dk_at dksJ35_compareHalf_4 21 rfl rfl)
theorem dJ35_compareHalf_117 : decode cJ35_compareHalf 117 = .ok (.iconst 1, 1) := dk_4 (dk_at dksJ35_compareHalf_4 23 rfl rfl)
theorem dJ35_compareHalf_118 : decode cJ35_compareHalf 118 = .ok (.iushr, 1) := dk_124 (dk_at dksJ35_compareHalf_5 0 rfl rfl)
theorem dJ35_compareHalf_119 : decode cJ35_compareHalf 119 = .ok (.iload 6, 2) := dk_21 6 (dk_at dksJ35_compareHalf_5 1 rfl rfl)
theorem dJ35_compareHalf_121 : decode cJ35_compareHalf 121 = .ok (.iadd, 1) := dk_96 (dk_at dksJ35_compareHalf_5 3 rfl rfl)
theorem dJ35_compareHalf_122 : decode cJ35_compareHalf 122 = .ok (.i2l, 1) := dk_133 (dk_at dksJ35_compareHalf_5 4 rfl rfl)
theorem dJ35_compareHalf_123 : decode cJ35_compareHalf 123 = .ok (.ldc2_w 52, 3) := dk_20 0 52 (dk_at dksJ35_compareHalf_5 5 rfl rfl)
theorem dJ35_compareHalf_126 : decode cJ35_compareHalf 126 = .ok (.land, 1) := dk_127 (dk_at dksJ35_compareHalf_5 8 rfl rfl)
theorem dJ35_compareHalf_127 : decode cJ35_compareHalf 127 = .ok (.lstore 11, 2) := dk_55 11 (dk_at dksJ35_compareHalf_5 9 rfl rfl)
theorem dJ35_compareHalf_129 : decode cJ35_compareHalf 129 = .ok (.aload 7, 2) := dk_25 7 (dk_at dksJ35_compareHalf_5 11 rfl rfl)
theorem dJ35_compareHalf_131 : decode cJ35_compareHalf 131 = .ok (.iload 8, 2) := dk_21 8 (dk_at dksJ35_compareHalf_5 13 rfl rfl)
theorem dJ35_compareHalf_133 : decode cJ35_compareHalf 133 = .ok (.iinc 8 1, 3) := dk_132 8 1 (dk_at dksJ35_compareHalf_5 15 rfl rfl)
theorem dJ35_compareHalf_136 : decode cJ35_compareHalf 136 = .ok (.iaload, 1) := dk_46 (dk_at dksJ35_compareHalf_5 18 rfl rfl)
theorem dJ35_compareHalf_137 : decode cJ35_compareHalf 137 = .ok (.i2l, 1) := dk_133 (dk_at dksJ35_compareHalf_5 19 rfl rfl)
theorem dJ35_compareHalf_138 : decode cJ35_compareHalf 138 = .ok (.ldc2_w 52, 3) := dk_20 0 52 (dk_at dksJ35_compareHalf_5 20 rfl rfl)
theorem dJ35_compareHalf_141 : decode cJ35_compareHalf 141 = .ok (.land, 1) := dk_127 (dk_at dksJ35_compareHalf_5 23 rfl rfl)
theorem dJ35_compareHalf_142 : decode cJ35_compareHalf 142 = .ok (.lstore 13, 2) := dk_55 13 (dk_at dksJ35_compareHalf_6 0 rfl rfl)
theorem dJ35_compareHalf_144 : decode cJ35_compareHalf 144 = .ok (.lload 13, 2) := dk_22 13 (dk_at dksJ35_compareHalf_6 2 rfl rfl)
theorem dJ35_compareHalf_146 : decode cJ35_compareHalf 146 = .ok (.lload 11, 2) := dk_22 11 (dk_at dksJ35_compareHalf_6 4 rfl rfl)
theorem dJ35_compareHalf_148 : decode cJ35_compareHalf 148 = .ok (.lcmp, 1) := dk_148 (dk_at dksJ35_compareHalf_6 6 rfl rfl)
theorem dJ35_compareHalf_149 : decode cJ35_compareHalf 149 = .ok (.ifCond .eq 17, 3) := dk_153 0 17 (dk_at dksJ35_compareHalf_6 7 rfl rfl)
theorem dJ35_compareHalf_152 : decode cJ35_compareHalf 152 = .ok (.lload 13, 2) := dk_22 13 (dk_at dksJ35_compareHalf_6 10 rfl rfl)
theorem dJ35_compareHalf_154 : decode cJ35_compareHalf 154 = .ok (.lload 11, 2) := dk_22 11 (dk_at dksJ35_compareHalf_6 12 rfl rfl)
theorem dJ35_compareHalf_156 : decode cJ35_compareHalf 156 = .ok (.lcmp, 1) := dk_148 (dk_at dksJ35_compareHalf_6 14 rfl rfl)
theorem dJ35_compareHalf_157 : decode cJ35_compareHalf 157 = .ok (.ifCond .ge 7, 3) := dk_156 0 7 (dk_at dksJ35_compareHalf_6 15 rfl rfl)
theorem dJ35_compareHalf_160 : decode cJ35_compareHalf 160 = .ok (.iconst (-1), 1) := dk_2 (dk_at dksJ35_compareHalf_6 18 rfl rfl)
theorem dJ35_compareHalf_161 : decode cJ35_compareHalf 161 = .ok (.goto 4, 3) := dk_167 0 4 (dk_at dksJ35_compareHalf_6 19 rfl rfl)
theorem dJ35_compareHalf_164 : decode cJ35_compareHalf 164 = .ok (.iconst 1, 1) := dk_4 (dk_at dksJ35_compareHalf_6 22 rfl rfl)
theorem dJ35_compareHalf_165 : decode cJ35_compareHalf 165 = .ok (.ireturn, 1) := dk_172 (dk_at dksJ35_compareHalf_6 23 rfl rfl)
theorem dJ35_compareHalf_166 : decode cJ35_compareHalf 166 = .ok (.iload 10, 2) := dk_21 10 (dk_at dksJ35_compareHalf_7 0 rfl rfl)
theorem dJ35_compareHalf_168 : decode cJ35_compareHalf 168 = .ok (.iconst 1, 1) := dk_4 (dk_at dksJ35_compareHalf_7 2 rfl rfl)
theorem dJ35_compareHalf_169 : decode cJ35_compareHalf 169 = .ok (.iand, 1) := dk_126 (dk_at dksJ35_compareHalf_7 3 rfl rfl)
theorem dJ35_compareHalf_170 : decode cJ35_compareHalf 170 = .ok (.bipush 31, 2) := dk_16 31 (dk_at dksJ35_compareHalf_7 4 rfl rfl)
theorem dJ35_compareHalf_172 : decode cJ35_compareHalf 172 = .ok (.ishl, 1) := dk_120 (dk_at dksJ35_compareHalf_7 6 rfl rfl)
theorem dJ35_compareHalf_173 : decode cJ35_compareHalf 173 = .ok (.istore 6, 2) := dk_54 6 (dk_at dksJ35_compareHalf_7 7 rfl rfl)
theorem dJ35_compareHalf_175 : decode cJ35_compareHalf 175 = .ok (.goto (-81), 3) := dk_167 255 175 (dk_at dksJ35_compareHalf_7 9 rfl rfl)
theorem dJ35_compareHalf_178 : decode cJ35_compareHalf 178 = .ok (.iload 6, 2) := dk_21 6 (dk_at dksJ35_compareHalf_7 12 rfl rfl)
theorem dJ35_compareHalf_180 : decode cJ35_compareHalf 180 = .ok (.ifCond .ne 7, 3) := dk_154 0 7 (dk_at dksJ35_compareHalf_7 14 rfl rfl)
theorem dJ35_compareHalf_183 : decode cJ35_compareHalf 183 = .ok (.iconst 0, 1) := dk_3 (dk_at dksJ35_compareHalf_7 17 rfl rfl)
theorem dJ35_compareHalf_184 : decode cJ35_compareHalf 184 = .ok (.goto 4, 3) := dk_167 0 4 (dk_at dksJ35_compareHalf_7 18 rfl rfl)
theorem dJ35_compareHalf_187 : decode cJ35_compareHalf 187 = .ok (.iconst (-1), 1) := dk_2 (dk_at dksJ35_compareHalf_7 21 rfl rfl)
theorem dJ35_compareHalf_188 : decode cJ35_compareHalf 188 = .ok (.ireturn, 1) := dk_172 (dk_at dksJ35_compareHalf_7 22 rfl rfl)
theorem m128 {x y a1 a0 b1 b0 p1 p2 p3 p4 e2 hi lo : Nat} (hx : x = a1 * 4294967296 + a0) (hy : y = b1 * 4294967296 + b0) (hb : x ≤ 9223372036854775807 ∧ y ≤ 9223372036854775807) (h1 : p1 = a0 * b0) (h2 : p2 = a1 * b0 + p1 / 4294967296) (h3 : p3 = a0 * b1 + p2 % 4294967296) (he : e2 = p2 / 4294967296 + p3 / 4294967296) (h4 : p4 = a1 * b1 + e2 % 4294967296)
    (hh : hi = (p4 / 4294967296 + e2 / 4294967296) % 4294967296 * 4294967296 + p4 % 4294967296) (hl : lo = p3 % 4294967296 * 4294967296 + p1 % 4294967296) : x * y = hi * 18446744073709551616 + lo := by
  have e : x * y = a1 * b1 * 18446744073709551616 + (a1 * b0 + a0 * b1) * 4294967296 + a0 * b0 := by
    rw [hx, hy, Nat.add_mul, Nat.mul_add, Nat.mul_add]
    have q1 : a1 * 4294967296 * (b1 * 4294967296) = a1 * b1 * 18446744073709551616 := by rw [Nat.mul_mul_mul_comm]
    have q2 : a1 * 4294967296 * b0 = a1 * b0 * 4294967296 := Nat.mul_right_comm ..
    have q3 : a0 * (b1 * 4294967296) = a0 * b1 * 4294967296 := by rw [Nat.mul_assoc]
    rw [q1, q2, q3]; omega
  have hm : x * y ≤ 9223372036854775807 * 9223372036854775807 := Nat.mul_le_mul hb.1 hb.2
  rw [e] at hm ⊢
  generalize a1 * b1 = w11 at *
  generalize a1 * b0 = w10 at *
  generalize a0 * b1 = w01 at *
  generalize a0 * b0 = w00 at *
  omega
theorem m128b {a b : Nat} (ha : a < 4294967296) (hb : b < 4294967296) : a * b ≤ 18446744065119617025 := ms_p ha hb
theorem sg3 {x y d : Int} (hx : 0 < x) (hy : y ≠ 0) (hd : d ≠ 0) : (sgI x * sgI y * sgI d = 1 ∧ xrI (x * y) d = 0) ∨ (sgI x * sgI y * sgI d = -1 ∧ xrI (x * y) d = 1) := by
  have h1 : sgI x = 1 := by have := sgI_cases x; omega
  rw [h1]
  have h2 := sgI_cases y; have h3 := sgI_cases d
  have h4 : sgI (x * y) = sgI y := by rw [Int.mul_comm]; exact sgI_mp hx
  have h5 := sgI_cases (x * y)
  have h6 := xr_s (x := x * y) (d := d)
  rcases (show sgI y = 1 ∨ sgI y = -1 by omega) with e | e <;> rcases (show sgI d = 1 ∨ sgI d = -1 by omega) with e2 | e2 <;> rw [e, e2]
  · left; exact ⟨by decide, h6.1 (by omega)⟩
  · right; exact ⟨by decide, h6.2 (by omega)⟩
  · right; exact ⟨by decide, h6.2 (by omega)⟩
  · left; exact ⟨by decide, h6.1 (by omega)⟩
theorem hi_b {P hi lo : Nat} (h : P = hi * 18446744073709551616 + lo) (hb : P ≤ 9223372036854775807 * 9223372036854775807) : hi ≤ 9223372036854775807 := by omega
theorem hi_ge {P hi lo d : Nat} (h : P = hi * 18446744073709551616 + lo) (hl : lo < 18446744073709551616) (hb : d * 18446744073709551616 ≤ P) : d ≤ hi := by omega
theorem hi_lt {P hi lo d : Nat} (h : P = hi * 18446744073709551616 + lo) (hl : lo < 18446744073709551616) (hb : P < d * 18446744073709551616) : hi < d := by omega
set_option maxRecDepth 100000 in
set_option maxHeartbeats 16000000 in
theorem ct_J8_multiplyDivideAndRound_n {g : GG} {l : Launch} (M : Nat → Option PV) (x_ : Int) (y_ : Int) (d : Int) (s : Int) (m : Int) (hx : -9223372036854775807 ≤ x_ ∧ x_ ≤ 9223372036854775807) (hy : -9223372036854775807 ≤ y_ ∧ y_ ≤ 9223372036854775807) (hx0 : 0 < x_) (hy0 : y_ ≠ 0) (hd : -4611686018427387904 ≤ d ∧ d ≤ 4611686018427387904) (hd0 : d ≠ 0) (hm : 0 ≤ m ∧ m ≤ 7) (hs : -2147483648 ≤ s ∧ s ≤ 2147483647) (hbig : d.natAbs * 18446744073709551616 ≤ x_.natAbs * y_.natAbs) : Ct g l yJ8_multiplyDivideAndRound (ws_ yJ8_multiplyDivideAndRound cJ8_multiplyDivideAndRound 32 (Option.some (Jvm.ClassFile.FieldType.object "java/math/BigDecimal"))) 2 65 0 0 [.long (jL x_), .long (jL y_), .long (jL d), .int (jI s), .int (jI m), .int (jI s)] [pl g M] (fun v9 Ws9 => v9 = some (.null) ∧ Ws9 = [pl g M]) (nox) := by
  refine Ct.of (cc := cJ8_multiplyDivideAndRound) (nL := 32) (ret := (Option.some (Jvm.ClassFile.FieldType.object "java/math/BigDecimal"))) (by decide) rfl (Nat.le_of_ble_eq_true rfl) ?_
  intro x hg hl hPo hPx hmc hms F
  subst hg; subst hl
  refine SW.cast (L' := [(0, .long (jL x_)), (2, .long (jL y_)), (4, .long (jL d)), (6, .int (jI s)), (7, .int (jI m)), (8, .int (jI s))]) ?_ rfl rfl rfl
  obtain ⟨a, ha⟩ : ∃ z : Nat, z = x_.natAbs := ⟨_, rfl⟩
  obtain ⟨b, hb⟩ : ∃ z : Nat, z = y_.natAbs := ⟨_, rfl⟩
  obtain ⟨dn, hdn⟩ : ∃ z : Nat, z = d.natAbs := ⟨_, rfl⟩
  have hs3 := sg3 hx0 hy0 hd0
  obtain ⟨sg, hsg⟩ : ∃ z : Int, sgI x_ * sgI y_ * sgI d = z := ⟨_, rfl⟩
  rw [hsg] at hs3
  refine sw_lload_n (n := 1) F 0 rfl rfl dJ8_multiplyDivideAndRound_0 rfl ?_
  refine sw_callS (n := 4) F (ct_J21_signum (g := xg x) (l := xl x) x_ (by first | omega | assumption)) q1491 q1098 q129 q1099 nd_J21_signum rfl (by decide) [0] rfl [pl (xg x) M] rfl 0 0 ⟨by omega, by omega⟩ [] rfl (Nat.le_of_ble_eq_true rfl) dJ8_multiplyDivideAndRound_1 rfl (fun _ _ h => h.elim) (fun v Ws h => ?_)
  obtain ⟨rfl, rfl⟩ := h
  show SW x [pl (xg x) M] _ _ _ _ [.int (jI (sgI x_))]
  refine sw_lload_n (n := 5) F 1 rfl rfl dJ8_multiplyDivideAndRound_4 rfl ?_
  refine sw_callS (n := 8) F (ct_J21_signum (g := xg x) (l := xl x) y_ (by first | omega | assumption)) q1491 q1098 q129 q1099 nd_J21_signum rfl (by decide) [0] rfl [pl (xg x) M] rfl 0 0 ⟨by omega, by omega⟩ [.int (jI (sgI x_))] rfl (Nat.le_of_ble_eq_true rfl) dJ8_multiplyDivideAndRound_5 rfl (fun _ _ h => h.elim) (fun v Ws h => ?_)
  obtain ⟨rfl, rfl⟩ := h
  show SW x [pl (xg x) M] _ _ _ _ [.int (jI (sgI y_)), .int (jI (sgI x_))]
  refine sw_imul (n := 9) F dJ8_multiplyDivideAndRound_8 rfl ?_
  refine sw_lload (n := 11) F 2 rfl dJ8_multiplyDivideAndRound_9 rfl ?_
  refine sw_callS (n := 14) F (ct_J21_signum (g := xg x) (l := xl x) d (by first | omega | assumption)) q1491 q1098 q129 q1099 nd_J21_signum rfl (by decide) [0] rfl [pl (xg x) M] rfl 0 0 ⟨by omega, by omega⟩ [.int (jI ((sgI x_) * (sgI y_)))] rfl (Nat.le_of_ble_eq_true rfl) dJ8_multiplyDivideAndRound_11 rfl (fun _ _ h => h.elim) (fun v Ws h => ?_)
  obtain ⟨rfl, rfl⟩ := h
  show SW x [pl (xg x) M] _ _ _ _ [.int (jI (sgI d)), .int (jI ((sgI x_) * (sgI y_)))]
  refine sw_imul (n := 15) F dJ8_multiplyDivideAndRound_14 rfl ?_
  refine sw_top (topI (show (((sgI x_) * (sgI y_)) * (sgI d) : Int) = sg by exact hsg)) ?_
  refine sw_istore (n := 17) F (L2 := [(9, .int (jI sg)), (0, .long (jL x_)), (2, .long (jL y_)), (4, .long (jL d)), (6, .int (jI s)), (7, .int (jI m)), (8, .int (jI s))]) rfl (by decide) dJ8_multiplyDivideAndRound_15 rfl ?_
  refine sw_lload_n (n := 18) F 1 rfl rfl dJ8_multiplyDivideAndRound_17 rfl ?_
  refine sw_mabsL (n := 21) F (by omega) q1303 q1101 q132 q1102 (by decide) dJ8_multiplyDivideAndRound_18 rfl ?_
  have hab_1 := abI_cases (x_)
  refine sw_top (topL (show (abI x_ : Int) = ↑a by omega)) ?_
  refine sw_lstore_n (n := 22) F (L2 := [(0, .long (jL (↑a))), (9, .int (jI sg)), (2, .long (jL y_)), (4, .long (jL d)), (6, .int (jI s)), (7, .int (jI m)), (8, .int (jI s))]) rfl (by decide) rfl dJ8_multiplyDivideAndRound_21 rfl ?_
  refine sw_lload_n (n := 23) F 2 rfl rfl dJ8_multiplyDivideAndRound_22 rfl ?_
  refine sw_mabsL (n := 26) F (by omega) q1303 q1101 q132 q1102 (by decide) dJ8_multiplyDivideAndRound_23 rfl ?_
  have hab_2 := abI_cases (y_)
  refine sw_top (topL (show (abI y_ : Int) = ↑b by omega)) ?_
  refine sw_lstore_n (n := 27) F (L2 := [(2, .long (jL (↑b))), (0, .long (jL (↑a))), (9, .int (jI sg)), (4, .long (jL d)), (6, .int (jI s)), (7, .int (jI m)), (8, .int (jI s))]) rfl (by decide) rfl dJ8_multiplyDivideAndRound_26 rfl ?_
  refine sw_lload (n := 29) F 3 rfl dJ8_multiplyDivideAndRound_27 rfl ?_
  refine sw_mabsL (n := 32) F (by omega) q1303 q1101 q132 q1102 (by decide) dJ8_multiplyDivideAndRound_29 rfl ?_
  have hab_3 := abI_cases (d)
  refine sw_top (topL (show (abI d : Int) = ↑dn by omega)) ?_
  refine sw_lstore (n := 34) F (L2 := [(4, .long (jL (↑dn))), (2, .long (jL (↑b))), (0, .long (jL (↑a))), (9, .int (jI sg)), (6, .int (jI s)), (7, .int (jI m)), (8, .int (jI s))]) rfl (by decide) dJ8_multiplyDivideAndRound_32 rfl ?_
  refine sw_lload_n (n := 35) F 2 rfl rfl dJ8_multiplyDivideAndRound_34 rfl ?_
  refine sw_bipush (n := 37) F (32) (by decide) dJ8_multiplyDivideAndRound_35 rfl ?_
  refine sw_lushr (n := 38) F _ (jL_ushr32 _) dJ8_multiplyDivideAndRound_37 rfl ?_
  obtain ⟨a1, ha1⟩ : ∃ z : Nat, z = a / 4294967296 := ⟨_, rfl⟩
  refine sw_top (topL (show ((↑a) % 18446744073709551616 / 4294967296 : Int) = ↑a1 by omega)) ?_
  refine sw_lstore (n := 40) F (L2 := [(10, .long (jL (↑a1))), (4, .long (jL (↑dn))), (2, .long (jL (↑b))), (0, .long (jL (↑a))), (9, .int (jI sg)), (6, .int (jI s)), (7, .int (jI m)), (8, .int (jI s))]) rfl (by decide) dJ8_multiplyDivideAndRound_38 rfl ?_
  refine sw_lload_n (n := 41) F 3 rfl rfl dJ8_multiplyDivideAndRound_40 rfl ?_
  refine sw_ldc2 (n := 44) F (4294967295) q1285 (by decide) dJ8_multiplyDivideAndRound_41 rfl ?_
  refine sw_land (n := 45) F (jL ((↑a) % 4294967296)) (jL_and 32 (by decide) (by rfl)) dJ8_multiplyDivideAndRound_44 rfl ?_
  obtain ⟨a0, ha0⟩ : ∃ z : Nat, z = a % 4294967296 := ⟨_, rfl⟩
  refine sw_top (topL (show ((↑a) % 4294967296 : Int) = ↑a0 by omega)) ?_
  refine sw_lstore (n := 47) F (L2 := [(12, .long (jL (↑a0))), (10, .long (jL (↑a1))), (4, .long (jL (↑dn))), (2, .long (jL (↑b))), (0, .long (jL (↑a))), (9, .int (jI sg)), (6, .int (jI s)), (7, .int (jI m)), (8, .int (jI s))]) rfl (by decide) dJ8_multiplyDivideAndRound_45 rfl ?_
  refine sw_lload_n (n := 48) F 3 rfl rfl dJ8_multiplyDivideAndRound_47 rfl ?_
  refine sw_bipush (n := 50) F (32) (by decide) dJ8_multiplyDivideAndRound_48 rfl ?_
  refine sw_lushr (n := 51) F _ (jL_ushr32 _) dJ8_multiplyDivideAndRound_50 rfl ?_
  obtain ⟨b1, hb1⟩ : ∃ z : Nat, z = b / 4294967296 := ⟨_, rfl⟩
  refine sw_top (topL (show ((↑b) % 18446744073709551616 / 4294967296 : Int) = ↑b1 by omega)) ?_
  refine sw_lstore (n := 53) F (L2 := [(14, .long (jL (↑b1))), (12, .long (jL (↑a0))), (10, .long (jL (↑a1))), (4, .long (jL (↑dn))), (2, .long (jL (↑b))), (0, .long (jL (↑a))), (9, .int (jI sg)), (6, .int (jI s)), (7, .int (jI m)), (8, .int (jI s))]) rfl (by decide) dJ8_multiplyDivideAndRound_51 rfl ?_
  refine sw_lload_n (n := 54) F 4 rfl rfl dJ8_multiplyDivideAndRound_53 rfl ?_
  refine sw_ldc2 (n := 57) F (4294967295) q1285 (by decide) dJ8_multiplyDivideAndRound_54 rfl ?_
  refine sw_land (n := 58) F (jL ((↑b) % 4294967296)) (jL_and 32 (by decide) (by rfl)) dJ8_multiplyDivideAndRound_57 rfl ?_
  obtain ⟨b0, hb0⟩ : ∃ z : Nat, z = b % 4294967296 := ⟨_, rfl⟩
  refine sw_top (topL (show ((↑b) % 4294967296 : Int) = ↑b0 by omega)) ?_
  refine sw_lstore (n := 60) F (L2 := [(16, .long (jL (↑b0))), (14, .long (jL (↑b1))), (12, .long (jL (↑a0))), (10, .long (jL (↑a1))), (4, .long (jL (↑dn))), (2, .long (jL (↑b))), (0, .long (jL (↑a))), (9, .int (jI sg)), (6, .int (jI s)), (7, .int (jI m)), (8, .int (jI s))]) rfl (by decide) dJ8_multiplyDivideAndRound_58 rfl ?_
  refine sw_lload (n := 62) F 2 rfl dJ8_multiplyDivideAndRound_60 rfl ?_
  refine sw_lload (n := 64) F 0 rfl dJ8_multiplyDivideAndRound_62 rfl ?_
  refine sw_lmul (n := 65) F dJ8_multiplyDivideAndRound_64 rfl ?_
  have hq00 := m128b (a := a0) (b := b0) (by omega) (by omega)
  have hq10 := m128b (a := a1) (b := b0) (by omega) (by omega)
  have hq01 := m128b (a := a0) (b := b1) (by omega) (by omega)
  have hq11 := m128b (a := a1) (b := b1) (by omega) (by omega)
  obtain ⟨p1, hp1⟩ : ∃ z : Nat, z = a0 * b0 := ⟨_, rfl⟩
  refine sw_top (topL (show ((↑a0) * (↑b0) : Int) = ↑p1 by rw [hp1, Int.natCast_mul])) ?_
  refine sw_lstore (n := 67) F (L2 := [(18, .long (jL (↑p1))), (16, .long (jL (↑b0))), (14, .long (jL (↑b1))), (12, .long (jL (↑a0))), (10, .long (jL (↑a1))), (4, .long (jL (↑dn))), (2, .long (jL (↑b))), (0, .long (jL (↑a))), (9, .int (jI sg)), (6, .int (jI s)), (7, .int (jI m)), (8, .int (jI s))]) rfl (by decide) dJ8_multiplyDivideAndRound_65 rfl ?_
  refine sw_lload (n := 69) F 0 rfl dJ8_multiplyDivideAndRound_67 rfl ?_
  refine sw_ldc2 (n := 72) F (4294967295) q1285 (by decide) dJ8_multiplyDivideAndRound_69 rfl ?_
  refine sw_land (n := 73) F (jL ((↑p1) % 4294967296)) (jL_and 32 (by decide) (by rfl)) dJ8_multiplyDivideAndRound_72 rfl ?_
  refine sw_top (topL (show ((↑p1) % 4294967296 : Int) = ↑(p1 % 4294967296) by omega)) ?_
  refine sw_lstore (n := 75) F (L2 := [(20, .long (jL (↑(p1 % 4294967296)))), (18, .long (jL (↑p1))), (16, .long (jL (↑b0))), (14, .long (jL (↑b1))), (12, .long (jL (↑a0))), (10, .long (jL (↑a1))), (4, .long (jL (↑dn))), (2, .long (jL (↑b))), (0, .long (jL (↑a))), (9, .int (jI sg)), (6, .int (jI s)), (7, .int (jI m)), (8, .int (jI s))]) rfl (by decide) dJ8_multiplyDivideAndRound_73 rfl ?_
  refine sw_lload (n := 77) F 1 rfl dJ8_multiplyDivideAndRound_75 rfl ?_
  refine sw_bipush (n := 79) F (32) (by decide) dJ8_multiplyDivideAndRound_77 rfl ?_
  refine sw_lushr (n := 80) F _ (jL_ushr32 _) dJ8_multiplyDivideAndRound_79 rfl ?_
  refine sw_top (topL (show ((↑p1) % 18446744073709551616 / 4294967296 : Int) = ↑(p1 / 4294967296) by omega)) ?_
  refine sw_lstore (n := 82) F (L2 := [(22, .long (jL (↑(p1 / 4294967296)))), (20, .long (jL (↑(p1 % 4294967296)))), (18, .long (jL (↑p1))), (16, .long (jL (↑b0))), (14, .long (jL (↑b1))), (12, .long (jL (↑a0))), (10, .long (jL (↑a1))), (4, .long (jL (↑dn))), (2, .long (jL (↑b))), (0, .long (jL (↑a))), (9, .int (jI sg)), (6, .int (jI s)), (7, .int (jI m)), (8, .int (jI s))]) rfl (by decide) dJ8_multiplyDivideAndRound_80 rfl ?_
  refine sw_lload (n := 84) F 6 rfl dJ8_multiplyDivideAndRound_82 rfl ?_
  refine sw_lload (n := 86) F 3 rfl dJ8_multiplyDivideAndRound_84 rfl ?_
  refine sw_lmul (n := 87) F dJ8_multiplyDivideAndRound_86 rfl ?_
  refine sw_lload (n := 89) F 0 rfl dJ8_multiplyDivideAndRound_87 rfl ?_
  refine sw_ladd (n := 90) F dJ8_multiplyDivideAndRound_89 rfl ?_
  obtain ⟨p2, hp2⟩ : ∃ z : Nat, z = a1 * b0 + p1 / 4294967296 := ⟨_, rfl⟩
  refine sw_top (topL (show (((↑a1) * (↑b0)) + (↑(p1 / 4294967296)) : Int) = ↑p2 by rw [hp2, Int.natCast_add, Int.natCast_mul])) ?_
  refine sw_lstore (n := 92) F (L2 := [(18, .long (jL (↑p2))), (22, .long (jL (↑(p1 / 4294967296)))), (20, .long (jL (↑(p1 % 4294967296)))), (16, .long (jL (↑b0))), (14, .long (jL (↑b1))), (12, .long (jL (↑a0))), (10, .long (jL (↑a1))), (4, .long (jL (↑dn))), (2, .long (jL (↑b))), (0, .long (jL (↑a))), (9, .int (jI sg)), (6, .int (jI s)), (7, .int (jI m)), (8, .int (jI s))]) rfl (by decide) dJ8_multiplyDivideAndRound_90 rfl ?_
  refine sw_lload (n := 94) F 0 rfl dJ8_multiplyDivideAndRound_92 rfl ?_
  refine sw_ldc2 (n := 97) F (4294967295) q1285 (by decide) dJ8_multiplyDivideAndRound_94 rfl ?_
  refine sw_land (n := 98) F (jL ((↑p2) % 4294967296)) (jL_and 32 (by decide) (by rfl)) dJ8_multiplyDivideAndRound_97 rfl ?_
  refine sw_top (topL (show ((↑p2) % 4294967296 : Int) = ↑(p2 % 4294967296) by omega)) ?_
  refine sw_lstore (n := 100) F (L2 := [(22, .long (jL (↑(p2 % 4294967296)))), (18, .long (jL (↑p2))), (20, .long (jL (↑(p1 % 4294967296)))), (16, .long (jL (↑b0))), (14, .long (jL (↑b1))), (12, .long (jL (↑a0))), (10, .long (jL (↑a1))), (4, .long (jL (↑dn))), (2, .long (jL (↑b))), (0, .long (jL (↑a))), (9, .int (jI sg)), (6, .int (jI s)), (7, .int (jI m)), (8, .int (jI s))]) rfl (by decide) dJ8_multiplyDivideAndRound_98 rfl ?_
  refine sw_lload (n := 102) F 1 rfl dJ8_multiplyDivideAndRound_100 rfl ?_
  refine sw_bipush (n := 104) F (32) (by decide) dJ8_multiplyDivideAndRound_102 rfl ?_
  refine sw_lushr (n := 105) F _ (jL_ushr32 _) dJ8_multiplyDivideAndRound_104 rfl ?_
  refine sw_top (topL (show ((↑p2) % 18446744073709551616 / 4294967296 : Int) = ↑(p2 / 4294967296) by omega)) ?_
  refine sw_lstore (n := 107) F (L2 := [(24, .long (jL (↑(p2 / 4294967296)))), (22, .long (jL (↑(p2 % 4294967296)))), (18, .long (jL (↑p2))), (20, .long (jL (↑(p1 % 4294967296)))), (16, .long (jL (↑b0))), (14, .long (jL (↑b1))), (12, .long (jL (↑a0))), (10, .long (jL (↑a1))), (4, .long (jL (↑dn))), (2, .long (jL (↑b))), (0, .long (jL (↑a))), (9, .int (jI sg)), (6, .int (jI s)), (7, .int (jI m)), (8, .int (jI s))]) rfl (by decide) dJ8_multiplyDivideAndRound_105 rfl ?_
  refine sw_lload (n := 109) F 6 rfl dJ8_multiplyDivideAndRound_107 rfl ?_
  refine sw_lload (n := 111) F 5 rfl dJ8_multiplyDivideAndRound_109 rfl ?_
  refine sw_lmul (n := 112) F dJ8_multiplyDivideAndRound_111 rfl ?_
  refine sw_lload (n := 114) F 1 rfl dJ8_multiplyDivideAndRound_112 rfl ?_
  refine sw_ladd (n := 115) F dJ8_multiplyDivideAndRound_114 rfl ?_
  obtain ⟨p3, hp3⟩ : ∃ z : Nat, z = a0 * b1 + p2 % 4294967296 := ⟨_, rfl⟩
  refine sw_top (topL (show (((↑a0) * (↑b1)) + (↑(p2 % 4294967296)) : Int) = ↑p3 by rw [hp3, Int.natCast_add, Int.natCast_mul])) ?_
  refine sw_lstore (n := 117) F (L2 := [(18, .long (jL (↑p3))), (24, .long (jL (↑(p2 / 4294967296)))), (22, .long (jL (↑(p2 % 4294967296)))), (20, .long (jL (↑(p1 % 4294967296)))), (16, .long (jL (↑b0))), (14, .long (jL (↑b1))), (12, .long (jL (↑a0))), (10, .long (jL (↑a1))), (4, .long (jL (↑dn))), (2, .long (jL (↑b))), (0, .long (jL (↑a))), (9, .int (jI sg)), (6, .int (jI s)), (7, .int (jI m)), (8, .int (jI s))]) rfl (by decide) dJ8_multiplyDivideAndRound_115 rfl ?_
  refine sw_lload (n := 119) F 0 rfl dJ8_multiplyDivideAndRound_117 rfl ?_
  refine sw_ldc2 (n := 122) F (4294967295) q1285 (by decide) dJ8_multiplyDivideAndRound_119 rfl ?_
  refine sw_land (n := 123) F (jL ((↑p3) % 4294967296)) (jL_and 32 (by decide) (by rfl)) dJ8_multiplyDivideAndRound_122 rfl ?_
  refine sw_top (topL (show ((↑p3) % 4294967296 : Int) = ↑(p3 % 4294967296) by omega)) ?_
  refine sw_lstore (n := 125) F (L2 := [(22, .long (jL (↑(p3 % 4294967296)))), (18, .long (jL (↑p3))), (24, .long (jL (↑(p2 / 4294967296)))), (20, .long (jL (↑(p1 % 4294967296)))), (16, .long (jL (↑b0))), (14, .long (jL (↑b1))), (12, .long (jL (↑a0))), (10, .long (jL (↑a1))), (4, .long (jL (↑dn))), (2, .long (jL (↑b))), (0, .long (jL (↑a))), (9, .int (jI sg)), (6, .int (jI s)), (7, .int (jI m)), (8, .int (jI s))]) rfl (by decide) dJ8_multiplyDivideAndRound_123 rfl ?_
  refine sw_lload (n := 127) F 2 rfl dJ8_multiplyDivideAndRound_125 rfl ?_
  refine sw_lload (n := 129) F 1 rfl dJ8_multiplyDivideAndRound_127 rfl ?_
  refine sw_bipush (n := 131) F (32) (by decide) dJ8_multiplyDivideAndRound_129 rfl ?_
  refine sw_lushr (n := 132) F _ (jL_ushr32 _) dJ8_multiplyDivideAndRound_131 rfl ?_
  refine sw_ladd (n := 133) F dJ8_multiplyDivideAndRound_132 rfl ?_
  obtain ⟨e2, he2⟩ : ∃ z : Nat, z = p2 / 4294967296 + p3 / 4294967296 := ⟨_, rfl⟩
  refine sw_top (topL (show ((↑(p2 / 4294967296)) + ((↑p3) % 18446744073709551616 / 4294967296) : Int) = ↑e2 by omega)) ?_
  refine sw_lstore (n := 135) F (L2 := [(24, .long (jL (↑e2))), (22, .long (jL (↑(p3 % 4294967296)))), (18, .long (jL (↑p3))), (20, .long (jL (↑(p1 % 4294967296)))), (16, .long (jL (↑b0))), (14, .long (jL (↑b1))), (12, .long (jL (↑a0))), (10, .long (jL (↑a1))), (4, .long (jL (↑dn))), (2, .long (jL (↑b))), (0, .long (jL (↑a))), (9, .int (jI sg)), (6, .int (jI s)), (7, .int (jI m)), (8, .int (jI s))]) rfl (by decide) dJ8_multiplyDivideAndRound_133 rfl ?_
  refine sw_lload (n := 137) F 0 rfl dJ8_multiplyDivideAndRound_135 rfl ?_
  refine sw_bipush (n := 139) F (32) (by decide) dJ8_multiplyDivideAndRound_137 rfl ?_
  refine sw_lushr (n := 140) F _ (jL_ushr32 _) dJ8_multiplyDivideAndRound_139 rfl ?_
  refine sw_top (topL (show ((↑e2) % 18446744073709551616 / 4294967296 : Int) = ↑(e2 / 4294967296) by omega)) ?_
  refine sw_lstore (n := 142) F (L2 := [(26, .long (jL (↑(e2 / 4294967296)))), (24, .long (jL (↑e2))), (22, .long (jL (↑(p3 % 4294967296)))), (18, .long (jL (↑p3))), (20, .long (jL (↑(p1 % 4294967296)))), (16, .long (jL (↑b0))), (14, .long (jL (↑b1))), (12, .long (jL (↑a0))), (10, .long (jL (↑a1))), (4, .long (jL (↑dn))), (2, .long (jL (↑b))), (0, .long (jL (↑a))), (9, .int (jI sg)), (6, .int (jI s)), (7, .int (jI m)), (8, .int (jI s))]) rfl (by decide) dJ8_multiplyDivideAndRound_140 rfl ?_
  refine sw_lload (n := 144) F 1 rfl dJ8_multiplyDivideAndRound_142 rfl ?_
  refine sw_ldc2 (n := 147) F (4294967295) q1285 (by decide) dJ8_multiplyDivideAndRound_144 rfl ?_
  refine sw_land (n := 148) F (jL ((↑e2) % 4294967296)) (jL_and 32 (by decide) (by rfl)) dJ8_multiplyDivideAndRound_147 rfl ?_
  refine sw_top (topL (show ((↑e2) % 4294967296 : Int) = ↑(e2 % 4294967296) by omega)) ?_
  refine sw_lstore (n := 150) F (L2 := [(24, .long (jL (↑(e2 % 4294967296)))), (26, .long (jL (↑(e2 / 4294967296)))), (22, .long (jL (↑(p3 % 4294967296)))), (18, .long (jL (↑p3))), (20, .long (jL (↑(p1 % 4294967296)))), (16, .long (jL (↑b0))), (14, .long (jL (↑b1))), (12, .long (jL (↑a0))), (10, .long (jL (↑a1))), (4, .long (jL (↑dn))), (2, .long (jL (↑b))), (0, .long (jL (↑a))), (9, .int (jI sg)), (6, .int (jI s)), (7, .int (jI m)), (8, .int (jI s))]) rfl (by decide) dJ8_multiplyDivideAndRound_148 rfl ?_
  refine sw_lload (n := 152) F 8 rfl dJ8_multiplyDivideAndRound_150 rfl ?_
  refine sw_lload (n := 154) F 6 rfl dJ8_multiplyDivideAndRound_152 rfl ?_
  refine sw_lmul (n := 155) F dJ8_multiplyDivideAndRound_154 rfl ?_
  refine sw_lload (n := 157) F 0 rfl dJ8_multiplyDivideAndRound_155 rfl ?_
  refine sw_ladd (n := 158) F dJ8_multiplyDivideAndRound_157 rfl ?_
  obtain ⟨p4, hp4⟩ : ∃ z : Nat, z = a1 * b1 + e2 % 4294967296 := ⟨_, rfl⟩
  refine sw_top (topL (show (((↑a1) * (↑b1)) + (↑(e2 % 4294967296)) : Int) = ↑p4 by rw [hp4, Int.natCast_add, Int.natCast_mul])) ?_
  refine sw_lstore (n := 160) F (L2 := [(18, .long (jL (↑p4))), (24, .long (jL (↑(e2 % 4294967296)))), (26, .long (jL (↑(e2 / 4294967296)))), (22, .long (jL (↑(p3 % 4294967296)))), (20, .long (jL (↑(p1 % 4294967296)))), (16, .long (jL (↑b0))), (14, .long (jL (↑b1))), (12, .long (jL (↑a0))), (10, .long (jL (↑a1))), (4, .long (jL (↑dn))), (2, .long (jL (↑b))), (0, .long (jL (↑a))), (9, .int (jI sg)), (6, .int (jI s)), (7, .int (jI m)), (8, .int (jI s))]) rfl (by decide) dJ8_multiplyDivideAndRound_158 rfl ?_
  refine sw_lload (n := 162) F 0 rfl dJ8_multiplyDivideAndRound_160 rfl ?_
  refine sw_ldc2 (n := 165) F (4294967295) q1285 (by decide) dJ8_multiplyDivideAndRound_162 rfl ?_
  refine sw_land (n := 166) F (jL ((↑p4) % 4294967296)) (jL_and 32 (by decide) (by rfl)) dJ8_multiplyDivideAndRound_165 rfl ?_
  refine sw_top (topL (show ((↑p4) % 4294967296 : Int) = ↑(p4 % 4294967296) by omega)) ?_
  refine sw_lstore (n := 168) F (L2 := [(24, .long (jL (↑(p4 % 4294967296)))), (18, .long (jL (↑p4))), (26, .long (jL (↑(e2 / 4294967296)))), (22, .long (jL (↑(p3 % 4294967296)))), (20, .long (jL (↑(p1 % 4294967296)))), (16, .long (jL (↑b0))), (14, .long (jL (↑b1))), (12, .long (jL (↑a0))), (10, .long (jL (↑a1))), (4, .long (jL (↑dn))), (2, .long (jL (↑b))), (0, .long (jL (↑a))), (9, .int (jI sg)), (6, .int (jI s)), (7, .int (jI m)), (8, .int (jI s))]) rfl (by decide) dJ8_multiplyDivideAndRound_166 rfl ?_
  refine sw_lload (n := 170) F 1 rfl dJ8_multiplyDivideAndRound_168 rfl ?_
  refine sw_bipush (n := 172) F (32) (by decide) dJ8_multiplyDivideAndRound_170 rfl ?_
  refine sw_lushr (n := 173) F _ (jL_ushr32 _) dJ8_multiplyDivideAndRound_172 rfl ?_
  refine sw_lload (n := 175) F 2 rfl dJ8_multiplyDivideAndRound_173 rfl ?_
  refine sw_ladd (n := 176) F dJ8_multiplyDivideAndRound_175 rfl ?_
  refine sw_ldc2 (n := 179) F (4294967295) q1285 (by decide) dJ8_multiplyDivideAndRound_176 rfl ?_
  refine sw_land (n := 180) F (jL ((((↑p4) % 18446744073709551616 / 4294967296) + (↑(e2 / 4294967296))) % 4294967296)) (jL_and 32 (by decide) (by rfl)) dJ8_multiplyDivideAndRound_179 rfl ?_
  refine sw_top (topL (show ((((↑p4) % 18446744073709551616 / 4294967296) + (↑(e2 / 4294967296))) % 4294967296 : Int) = ↑((p4 / 4294967296 + e2 / 4294967296) % 4294967296) by omega)) ?_
  refine sw_lstore (n := 182) F (L2 := [(26, .long (jL (↑((p4 / 4294967296 + e2 / 4294967296) % 4294967296)))), (24, .long (jL (↑(p4 % 4294967296)))), (18, .long (jL (↑p4))), (22, .long (jL (↑(p3 % 4294967296)))), (20, .long (jL (↑(p1 % 4294967296)))), (16, .long (jL (↑b0))), (14, .long (jL (↑b1))), (12, .long (jL (↑a0))), (10, .long (jL (↑a1))), (4, .long (jL (↑dn))), (2, .long (jL (↑b))), (0, .long (jL (↑a))), (9, .int (jI sg)), (6, .int (jI s)), (7, .int (jI m)), (8, .int (jI s))]) rfl (by decide) dJ8_multiplyDivideAndRound_180 rfl ?_
  refine sw_lload (n := 184) F 0 rfl dJ8_multiplyDivideAndRound_182 rfl ?_
  refine sw_lload (n := 186) F 1 rfl dJ8_multiplyDivideAndRound_184 rfl ?_
  refine sw_callS (n := 189) F (ct_J8_make64 (g := xg x) (l := xl x) (↑((p4 / 4294967296 + e2 / 4294967296) % 4294967296)) (p4 % 4294967296) (by first | omega | assumption)) q2779 q2780 q112 q2781 nd_J8_make64 rfl (by decide) [0] rfl [pl (xg x) M] rfl 0 0 ⟨by omega, by omega⟩ [] rfl (Nat.le_of_ble_eq_true rfl) dJ8_multiplyDivideAndRound_186 rfl (fun _ _ h => h.elim) (fun v Ws h => ?_)
  obtain ⟨rfl, rfl⟩ := h
  show SW x [pl (xg x) M] _ _ _ _ [.long (jL ((↑((p4 / 4294967296 + e2 / 4294967296) % 4294967296)) * 4294967296 + ↑(p4 % 4294967296)))]
  obtain ⟨hi, hhi⟩ : ∃ z : Nat, z = (p4 / 4294967296 + e2 / 4294967296) % 4294967296 * 4294967296 + p4 % 4294967296 := ⟨_, rfl⟩
  refine sw_top (topL (show ((↑((p4 / 4294967296 + e2 / 4294967296) % 4294967296)) * 4294967296 + ↑(p4 % 4294967296) : Int) = ↑hi by omega)) ?_
  refine sw_lstore (n := 191) F (L2 := [(28, .long (jL (↑hi))), (26, .long (jL (↑((p4 / 4294967296 + e2 / 4294967296) % 4294967296)))), (24, .long (jL (↑(p4 % 4294967296)))), (18, .long (jL (↑p4))), (22, .long (jL (↑(p3 % 4294967296)))), (20, .long (jL (↑(p1 % 4294967296)))), (16, .long (jL (↑b0))), (14, .long (jL (↑b1))), (12, .long (jL (↑a0))), (10, .long (jL (↑a1))), (4, .long (jL (↑dn))), (2, .long (jL (↑b))), (0, .long (jL (↑a))), (9, .int (jI sg)), (6, .int (jI s)), (7, .int (jI m)), (8, .int (jI s))]) rfl (by decide) dJ8_multiplyDivideAndRound_189 rfl ?_
  refine sw_lload (n := 193) F 4 rfl dJ8_multiplyDivideAndRound_191 rfl ?_
  refine sw_lload (n := 195) F 5 rfl dJ8_multiplyDivideAndRound_193 rfl ?_
  refine sw_callS (n := 198) F (ct_J8_make64 (g := xg x) (l := xl x) (↑(p3 % 4294967296)) (p1 % 4294967296) (by first | omega | assumption)) q2779 q2780 q112 q2781 nd_J8_make64 rfl (by decide) [0] rfl [pl (xg x) M] rfl 0 0 ⟨by omega, by omega⟩ [] rfl (Nat.le_of_ble_eq_true rfl) dJ8_multiplyDivideAndRound_195 rfl (fun _ _ h => h.elim) (fun v Ws h => ?_)
  obtain ⟨rfl, rfl⟩ := h
  show SW x [pl (xg x) M] _ _ _ _ [.long (jL ((↑(p3 % 4294967296)) * 4294967296 + ↑(p1 % 4294967296)))]
  obtain ⟨lo, hlo⟩ : ∃ z : Nat, z = p3 % 4294967296 * 4294967296 + p1 % 4294967296 := ⟨_, rfl⟩
  refine sw_top (topL (show ((↑(p3 % 4294967296)) * 4294967296 + ↑(p1 % 4294967296) : Int) = ↑lo by omega)) ?_
  have hXX : a * b = hi * 18446744073709551616 + lo := m128 (show a = a1 * 4294967296 + a0 by omega) (show b = b1 * 4294967296 + b0 by omega) (by omega) hp1 hp2 hp3 he2 hp4 hhi hlo
  have hXn : (x_ * y_).natAbs = hi * 18446744073709551616 + lo := by rw [Int.natAbs_mul, ← ha, ← hb]; exact hXX
  have hmb : a * b ≤ 9223372036854775807 * 9223372036854775807 := Nat.mul_le_mul (by omega) (by omega)
  have hhi9 := hi_b hXX hmb
  have hlo9 : lo < 18446744073709551616 := by rw [hlo]; have h1 := Nat.mod_lt p3 (show 0 < 4294967296 by decide); have h2 := Nat.mod_lt p1 (show 0 < 4294967296 by decide); exact w2_lt h1 h2
  (try clear hq00); (try clear hq10); (try clear hq01); (try clear hq11); (try clear hhi); (try clear hlo); (try clear hp1); (try clear hp2); (try clear hp3); (try clear hp4); (try clear he2); (try clear ha1); (try clear ha0); (try clear hb1); (try clear hb0); (try clear hmb)
  refine sw_lstore (n := 200) F (L2 := [(30, .long (jL (↑lo))), (28, .long (jL (↑hi))), (26, .long (jL (↑((p4 / 4294967296 + e2 / 4294967296) % 4294967296)))), (24, .long (jL (↑(p4 % 4294967296)))), (18, .long (jL (↑p4))), (22, .long (jL (↑(p3 % 4294967296)))), (20, .long (jL (↑(p1 % 4294967296)))), (16, .long (jL (↑b0))), (14, .long (jL (↑b1))), (12, .long (jL (↑a0))), (10, .long (jL (↑a1))), (4, .long (jL (↑dn))), (2, .long (jL (↑b))), (0, .long (jL (↑a))), (9, .int (jI sg)), (6, .int (jI s)), (7, .int (jI m)), (8, .int (jI s))]) rfl (by decide) dJ8_multiplyDivideAndRound_198 rfl ?_
  refine sw_lload (n := 202) F 1 rfl dJ8_multiplyDivideAndRound_200 rfl ?_
  refine sw_lload (n := 204) F 0 rfl dJ8_multiplyDivideAndRound_202 rfl ?_
  refine sw_lload (n := 206) F 11 rfl dJ8_multiplyDivideAndRound_204 rfl ?_
  refine sw_iload (n := 208) F 14 rfl dJ8_multiplyDivideAndRound_206 rfl ?_
  refine sw_iload (n := 210) F 15 rfl dJ8_multiplyDivideAndRound_208 rfl ?_
  refine sw_iload (n := 212) F 16 rfl dJ8_multiplyDivideAndRound_210 rfl ?_
  refine sw_iload (n := 214) F 17 rfl dJ8_multiplyDivideAndRound_212 rfl ?_
  refine sw_callS (n := 217) F (ct_J8_divideAndRound128_n (g := xg x) (l := xl x) M (x_ * y_) d hi lo dn sg s m (by exact hXn) (by exact hdn.symm) (by exact hs3) (by first | omega | assumption) (by exact hlo9) (by exact hhi9) hm hs (by rw [← ha, ← hb, ← hdn] at hbig; exact hi_ge hXX hlo9 hbig)) q2782 q2783 q112 q2784 nd_J8_divideAndRound128 rfl (by decide) [0] rfl [] rfl 0 0 ⟨by omega, by omega⟩ [] rfl (Nat.le_of_ble_eq_true rfl) dJ8_multiplyDivideAndRound_214 rfl (fun _ _ h => h.elim) (fun v Ws h => ?_)
  obtain ⟨rfl, rfl⟩ := h
  show SW x [pl (xg x) M] _ _ _ _ [.null]
  exact sw_aret F none _ rfl rfl (by first | exact Or.inl ⟨_, rfl⟩ | exact Or.inr ⟨_, rfl⟩) dJ8_multiplyDivideAndRound_217 (by rw [hPo]; exact ⟨rfl, rfl⟩)
theorem nd_J8_multiplyDivideAndRound : yJ8_multiplyDivideAndRound.cls ≠ "java/lang/invoke/MethodHandle" ∧ yJ8_multiplyDivideAndRound.cls ≠ "java/lang/invoke/VarHandle" ∧ (parseMethodDescriptor yJ8_multiplyDivideAndRound.desc).map (fun d => d.parameters.length) = some 6 := by decide +kernel
set_option maxRecDepth 100000 in
set_option maxHeartbeats 16000000 in
theorem ct_J8_multiplyDivideAndRound {g : GG} {l : Launch} (M : Nat → Option PV) (x_ : Int) (y_ : Int) (d : Int) (s : Int) (m : Int) (hx : -9223372036854775807 ≤ x_ ∧ x_ ≤ 9223372036854775807) (hy : -9223372036854775807 ≤ y_ ∧ y_ ≤ 9223372036854775807) (hx0 : 0 < x_) (hy0 : y_ ≠ 0) (hd : -4611686018427387904 ≤ d ∧ d ≤ 4611686018427387904) (hd0 : d ≠ 0) (hm : 0 ≤ m ∧ m ≤ 7) (hs : -2147483648 ≤ s ∧ s ≤ 2147483647) (hsm : x_.natAbs * y_.natAbs < d.natAbs * 18446744073709551616) : Ct g l yJ8_multiplyDivideAndRound (ws_ yJ8_multiplyDivideAndRound cJ8_multiplyDivideAndRound 32 (Option.some (Jvm.ClassFile.FieldType.object "java/math/BigDecimal"))) 9 186 9 42 [.long (jL x_), .long (jL y_), .long (jL d), .int (jI s), .int (jI m), .int (jI s)] [pl g M] (fun v9 Ws9 => ∃ M1 : Nat → Option PV, ∃ r1 : Nat, ∃ o1 : Option Nat, ∃ V : Int, v9 = some (.ref r1) ∧ (le_ M M1) ∧ (at_ g M1 r1 (vD V s o1)) ∧ (V = rdV (x_ * y_) d m ∨ (rdV (x_ * y_) d m = 9223372036854775808 ∧ V = -9223372036854775808)) ∧ (rdF (x_ * y_) d m = false) ∧ Ws9 = [pl g M1]) (fun E9 Ws9 => (E9 = "java/lang/ArithmeticException" ∧ (rdF (x_ * y_) d m = true) ∧ Ws9 = [pl g M])) := by
  refine Ct.of (cc := cJ8_multiplyDivideAndRound) (nL := 32) (ret := (Option.some (Jvm.ClassFile.FieldType.object "java/math/BigDecimal"))) (by decide) rfl (Nat.le_of_ble_eq_true rfl) ?_
  intro x hg hl hPo hPx hmc hms F
  subst hg; subst hl
  refine SW.cast (L' := [(0, .long (jL x_)), (2, .long (jL y_)), (4, .long (jL d)), (6, .int (jI s)), (7, .int (jI m)), (8, .int (jI s))]) ?_ rfl rfl rfl
  obtain ⟨a, ha⟩ : ∃ z : Nat, z = x_.natAbs := ⟨_, rfl⟩
  obtain ⟨b, hb⟩ : ∃ z : Nat, z = y_.natAbs := ⟨_, rfl⟩
  obtain ⟨dn, hdn⟩ : ∃ z : Nat, z = d.natAbs := ⟨_, rfl⟩
  have hs3 := sg3 hx0 hy0 hd0
  obtain ⟨sg, hsg⟩ : ∃ z : Int, sgI x_ * sgI y_ * sgI d = z := ⟨_, rfl⟩
  rw [hsg] at hs3
  refine sw_lload_n (n := 1) F 0 rfl rfl dJ8_multiplyDivideAndRound_0 rfl ?_
  refine sw_callS (n := 4) F (ct_J21_signum (g := xg x) (l := xl x) x_ (by first | omega | assumption)) q1491 q1098 q129 q1099 nd_J21_signum rfl (by decide) [0] rfl [pl (xg x) M] rfl 9 42 ⟨by omega, by omega⟩ [] rfl (Nat.le_of_ble_eq_true rfl) dJ8_multiplyDivideAndRound_1 rfl (fun _ _ h => h.elim) (fun v Ws h => ?_)
  obtain ⟨rfl, rfl⟩ := h
  show SW x [pl (xg x) M] _ _ _ _ [.int (jI (sgI x_))]
  refine sw_lload_n (n := 5) F 1 rfl rfl dJ8_multiplyDivideAndRound_4 rfl ?_
  refine sw_callS (n := 8) F (ct_J21_signum (g := xg x) (l := xl x) y_ (by first | omega | assumption)) q1491 q1098 q129 q1099 nd_J21_signum rfl (by decide) [0] rfl [pl (xg x) M] rfl 9 42 ⟨by omega, by omega⟩ [.int (jI (sgI x_))] rfl (Nat.le_of_ble_eq_true rfl) dJ8_multiplyDivideAndRound_5 rfl (fun _ _ h => h.elim) (fun v Ws h => ?_)
  obtain ⟨rfl, rfl⟩ := h
  show SW x [pl (xg x) M] _ _ _ _ [.int (jI (sgI y_)), .int (jI (sgI x_))]
  refine sw_imul (n := 9) F dJ8_multiplyDivideAndRound_8 rfl ?_
  refine sw_lload (n := 11) F 2 rfl dJ8_multiplyDivideAndRound_9 rfl ?_
  refine sw_callS (n := 14) F (ct_J21_signum (g := xg x) (l := xl x) d (by first | omega | assumption)) q1491 q1098 q129 q1099 nd_J21_signum rfl (by decide) [0] rfl [pl (xg x) M] rfl 9 42 ⟨by omega, by omega⟩ [.int (jI ((sgI x_) * (sgI y_)))] rfl (Nat.le_of_ble_eq_true rfl) dJ8_multiplyDivideAndRound_11 rfl (fun _ _ h => h.elim) (fun v Ws h => ?_)
  obtain ⟨rfl, rfl⟩ := h
  show SW x [pl (xg x) M] _ _ _ _ [.int (jI (sgI d)), .int (jI ((sgI x_) * (sgI y_)))]
  refine sw_imul (n := 15) F dJ8_multiplyDivideAndRound_14 rfl ?_
  refine sw_top (topI (show (((sgI x_) * (sgI y_)) * (sgI d) : Int) = sg by exact hsg)) ?_
  refine sw_istore (n := 17) F (L2 := [(9, .int (jI sg)), (0, .long (jL x_)), (2, .long (jL y_)), (4, .long (jL d)), (6, .int (jI s)), (7, .int (jI m)), (8, .int (jI s))]) rfl (by decide) dJ8_multiplyDivideAndRound_15 rfl ?_
  refine sw_lload_n (n := 18) F 1 rfl rfl dJ8_multiplyDivideAndRound_17 rfl ?_
  refine sw_mabsL (n := 21) F (by omega) q1303 q1101 q132 q1102 (by decide) dJ8_multiplyDivideAndRound_18 rfl ?_
  have hab_1 := abI_cases (x_)
  refine sw_top (topL (show (abI x_ : Int) = ↑a by omega)) ?_
  refine sw_lstore_n (n := 22) F (L2 := [(0, .long (jL (↑a))), (9, .int (jI sg)), (2, .long (jL y_)), (4, .long (jL d)), (6, .int (jI s)), (7, .int (jI m)), (8, .int (jI s))]) rfl (by decide) rfl dJ8_multiplyDivideAndRound_21 rfl ?_
  refine sw_lload_n (n := 23) F 2 rfl rfl dJ8_multiplyDivideAndRound_22 rfl ?_
  refine sw_mabsL (n := 26) F (by omega) q1303 q1101 q132 q1102 (by decide) dJ8_multiplyDivideAndRound_23 rfl ?_
  have hab_2 := abI_cases (y_)
  refine sw_top (topL (show (abI y_ : Int) = ↑b by omega)) ?_
  refine sw_lstore_n (n := 27) F (L2 := [(2, .long (jL (↑b))), (0, .long (jL (↑a))), (9, .int (jI sg)), (4, .long (jL d)), (6, .int (jI s)), (7, .int (jI m)), (8, .int (jI s))]) rfl (by decide) rfl dJ8_multiplyDivideAndRound_26 rfl ?_
  refine sw_lload (n := 29) F 3 rfl dJ8_multiplyDivideAndRound_27 rfl ?_
  refine sw_mabsL (n := 32) F (by omega) q1303 q1101 q132 q1102 (by decide) dJ8_multiplyDivideAndRound_29 rfl ?_
  have hab_3 := abI_cases (d)
  refine sw_top (topL (show (abI d : Int) = ↑dn by omega)) ?_
  refine sw_lstore (n := 34) F (L2 := [(4, .long (jL (↑dn))), (2, .long (jL (↑b))), (0, .long (jL (↑a))), (9, .int (jI sg)), (6, .int (jI s)), (7, .int (jI m)), (8, .int (jI s))]) rfl (by decide) dJ8_multiplyDivideAndRound_32 rfl ?_
  refine sw_lload_n (n := 35) F 2 rfl rfl dJ8_multiplyDivideAndRound_34 rfl ?_
  refine sw_bipush (n := 37) F (32) (by decide) dJ8_multiplyDivideAndRound_35 rfl ?_
  refine sw_lushr (n := 38) F _ (jL_ushr32 _) dJ8_multiplyDivideAndRound_37 rfl ?_
  obtain ⟨a1, ha1⟩ : ∃ z : Nat, z = a / 4294967296 := ⟨_, rfl⟩
  refine sw_top (topL (show ((↑a) % 18446744073709551616 / 4294967296 : Int) = ↑a1 by omega)) ?_
  refine sw_lstore (n := 40) F (L2 := [(10, .long (jL (↑a1))), (4, .long (jL (↑dn))), (2, .long (jL (↑b))), (0, .long (jL (↑a))), (9, .int (jI sg)), (6, .int (jI s)), (7, .int (jI m)), (8, .int (jI s))]) rfl (by decide) dJ8_multiplyDivideAndRound_38 rfl ?_
  refine sw_lload_n (n := 41) F 3 rfl rfl dJ8_multiplyDivideAndRound_40 rfl ?_
  refine sw_ldc2 (n := 44) F (4294967295) q1285 (by decide) dJ8_multiplyDivideAndRound_41 rfl ?_
  refine sw_land (n := 45) F (jL ((↑a) % 4294967296)) (jL_and 32 (by decide) (by rfl)) dJ8_multiplyDivideAndRound_44 rfl ?_
  obtain ⟨a0, ha0⟩ : ∃ z : Nat, z = a % 4294967296 := ⟨_, rfl⟩
  refine sw_top (topL (show ((↑a) % 4294967296 : Int) = ↑a0 by omega)) ?_
  refine sw_lstore (n := 47) F (L2 := [(12, .long (jL (↑a0))), (10, .long (jL (↑a1))), (4, .long (jL (↑dn))), (2, .long (jL (↑b))), (0, .long (jL (↑a))), (9, .int (jI sg)), (6, .int (jI s)), (7, .int (jI m)), (8, .int (jI s))]) rfl (by decide) dJ8_multiplyDivideAndRound_45 rfl ?_
  refine sw_lload_n (n := 48) F 3 rfl rfl dJ8_multiplyDivideAndRound_47 rfl ?_
  refine sw_bipush (n := 50) F (32) (by decide) dJ8_multiplyDivideAndRound_48 rfl ?_
  refine sw_lushr (n := 51) F _ (jL_ushr32 _) dJ8_multiplyDivideAndRound_50 rfl ?_
  obtain ⟨b1, hb1⟩ : ∃ z : Nat, z = b / 4294967296 := ⟨_, rfl⟩
  refine sw_top (topL (show ((↑b) % 18446744073709551616 / 4294967296 : Int) = ↑b1 by omega)) ?_
  refine sw_lstore (n := 53) F (L2 := [(14, .long (jL (↑b1))), (12, .long (jL (↑a0))), (10, .long (jL (↑a1))), (4, .long (jL (↑dn))), (2, .long (jL (↑b))), (0, .long (jL (↑a))), (9, .int (jI sg)), (6, .int (jI s)), (7, .int (jI m)), (8, .int (jI s))]) rfl (by decide) dJ8_multiplyDivideAndRound_51 rfl ?_
  refine sw_lload_n (n := 54) F 4 rfl rfl dJ8_multiplyDivideAndRound_53 rfl ?_
  refine sw_ldc2 (n := 57) F (4294967295) q1285 (by decide) dJ8_multiplyDivideAndRound_54 rfl ?_
  refine sw_land (n := 58) F (jL ((↑b) % 4294967296)) (jL_and 32 (by decide) (by rfl)) dJ8_multiplyDivideAndRound_57 rfl ?_
  obtain ⟨b0, hb0⟩ : ∃ z : Nat, z = b % 4294967296 := ⟨_, rfl⟩
  refine sw_top (topL (show ((↑b) % 4294967296 : Int) = ↑b0 by omega)) ?_
  refine sw_lstore (n := 60) F (L2 := [(16, .long (jL (↑b0))), (14, .long (jL (↑b1))), (12, .long (jL (↑a0))), (10, .long (jL (↑a1))), (4, .long (jL (↑dn))), (2, .long (jL (↑b))), (0, .long (jL (↑a))), (9, .int (jI sg)), (6, .int (jI s)), (7, .int (jI m)), (8, .int (jI s))]) rfl (by decide) dJ8_multiplyDivideAndRound_58 rfl ?_
  refine sw_lload (n := 62) F 2 rfl dJ8_multiplyDivideAndRound_60 rfl ?_
  refine sw_lload (n := 64) F 0 rfl dJ8_multiplyDivideAndRound_62 rfl ?_
  refine sw_lmul (n := 65) F dJ8_multiplyDivideAndRound_64 rfl ?_
  have hq00 := m128b (a := a0) (b := b0) (by omega) (by omega)
  have hq10 := m128b (a := a1) (b := b0) (by omega) (by omega)
  have hq01 := m128b (a := a0) (b := b1) (by omega) (by omega)
  have hq11 := m128b (a := a1) (b := b1) (by omega) (by omega)
  obtain ⟨p1, hp1⟩ : ∃ z : Nat, z = a0 * b0 := ⟨_, rfl⟩
  refine sw_top (topL (show ((↑a0) * (↑b0) : Int) = ↑p1 by rw [hp1, Int.natCast_mul])) ?_
  refine sw_lstore (n := 67) F (L2 := [(18, .long (jL (↑p1))), (16, .long (jL (↑b0))), (14, .long (jL (↑b1))), (12, .long (jL (↑a0))), (10, .long (jL (↑a1))), (4, .long (jL (↑dn))), (2, .long (jL (↑b))), (0, .long (jL (↑a))), (9, .int (jI sg)), (6, .int (jI s)), (7, .int (jI m)), (8, .int (jI s))]) rfl (by decide) dJ8_multiplyDivideAndRound_65 rfl ?_
  refine sw_lload (n := 69) F 0 rfl dJ8_multiplyDivideAndRound_67 rfl ?_
  refine sw_ldc2 (n := 72) F (4294967295) q1285 (by decide) dJ8_multiplyDivideAndRound_69 rfl ?_
  refine sw_land (n := 73) F (jL ((↑p1) % 4294967296)) (jL_and 32 (by decide) (by rfl)) dJ8_multiplyDivideAndRound_72 rfl ?_
  refine sw_top (topL (show ((↑p1) % 4294967296 : Int) = ↑(p1 % 4294967296) by omega)) ?_
  refine sw_lstore (n := 75) F (L2 := [(20, .long (jL (↑(p1 % 4294967296)))), (18, .long (jL (↑p1))), (16, .long (jL (↑b0))), (14, .long (jL (↑b1))), (12, .long (jL (↑a0))), (10, .long (jL (↑a1))), (4, .long (jL (↑dn))), (2, .long (jL (↑b))), (0, .long (jL (↑a))), (9, .int (jI sg)), (6, .int (jI s)), (7, .int (jI m)), (8, .int (jI s))]) rfl (by decide) dJ8_multiplyDivideAndRound_73 rfl ?_
  refine sw_lload (n := 77) F 1 rfl dJ8_multiplyDivideAndRound_75 rfl ?_
  refine sw_bipush (n := 79) F (32) (by decide) dJ8_multiplyDivideAndRound_77 rfl ?_
  refine sw_lushr (n := 80) F _ (jL_ushr32 _) dJ8_multiplyDivideAndRound_79 rfl ?_
  refine sw_top (topL (show ((↑p1) % 18446744073709551616 / 4294967296 : Int) = ↑(p1 / 4294967296) by omega)) ?_
  refine sw_lstore (n := 82) F (L2 := [(22, .long (jL (↑(p1 / 4294967296)))), (20, .long (jL (↑(p1 % 4294967296)))), (18, .long (jL (↑p1))), (16, .long (jL (↑b0))), (14, .long (jL (↑b1))), (12, .long (jL (↑a0))), (10, .long (jL (↑a1))), (4, .long (jL (↑dn))), (2, .long (jL (↑b))), (0, .long (jL (↑a))), (9, .int (jI sg)), (6, .int (jI s)), (7, .int (jI m)), (8, .int (jI s))]) rfl (by decide) dJ8_multiplyDivideAndRound_80 rfl ?_
  refine sw_lload (n := 84) F 6 rfl dJ8_multiplyDivideAndRound_82 rfl ?_
  refine sw_lload (n := 86) F 3 rfl dJ8_multiplyDivideAndRound_84 rfl ?_
  refine sw_lmul (n := 87) F dJ8_multiplyDivideAndRound_86 rfl ?_
  refine sw_lload (n := 89) F 0 rfl dJ8_multiplyDivideAndRound_87 rfl ?_
  refine sw_ladd (n := 90) F dJ8_multiplyDivideAndRound_89 rfl ?_
  obtain ⟨p2, hp2⟩ : ∃ z : Nat, z = a1 * b0 + p1 / 4294967296 := ⟨_, rfl⟩
  refine sw_top (topL (show (((↑a1) * (↑b0)) + (↑(p1 / 4294967296)) : Int) = ↑p2 by rw [hp2, Int.natCast_add, Int.natCast_mul])) ?_
  refine sw_lstore (n := 92) F (L2 := [(18, .long (jL (↑p2))), (22, .long (jL (↑(p1 / 4294967296)))), (20, .long (jL (↑(p1 % 4294967296)))), (16, .long (jL (↑b0))), (14, .long (jL (↑b1))), (12, .long (jL (↑a0))), (10, .long (jL (↑a1))), (4, .long (jL (↑dn))), (2, .long (jL (↑b))), (0, .long (jL (↑a))), (9, .int (jI sg)), (6, .int (jI s)), (7, .int (jI m)), (8, .int (jI s))]) rfl (by decide) dJ8_multiplyDivideAndRound_90 rfl ?_
  refine sw_lload (n := 94) F 0 rfl dJ8_multiplyDivideAndRound_92 rfl ?_
  refine sw_ldc2 (n := 97) F (4294967295) q1285 (by decide) dJ8_multiplyDivideAndRound_94 rfl ?_
  refine sw_land (n := 98) F (jL ((↑p2) % 4294967296)) (jL_and 32 (by decide) (by rfl)) dJ8_multiplyDivideAndRound_97 rfl ?_
  refine sw_top (topL (show ((↑p2) % 4294967296 : Int) = ↑(p2 % 4294967296) by omega)) ?_
  refine sw_lstore (n := 100) F (L2 := [(22, .long (jL (↑(p2 % 4294967296)))), (18, .long (jL (↑p2))), (20, .long (jL (↑(p1 % 4294967296)))), (16, .long (jL (↑b0))), (14, .long (jL (↑b1))), (12, .long (jL (↑a0))), (10, .long (jL (↑a1))), (4, .long (jL (↑dn))), (2, .long (jL (↑b))), (0, .long (jL (↑a))), (9, .int (jI sg)), (6, .int (jI s)), (7, .int (jI m)), (8, .int (jI s))]) rfl (by decide) dJ8_multiplyDivideAndRound_98 rfl ?_
  refine sw_lload (n := 102) F 1 rfl dJ8_multiplyDivideAndRound_100 rfl ?_
  refine sw_bipush (n := 104) F (32) (by decide) dJ8_multiplyDivideAndRound_102 rfl ?_
  refine sw_lushr (n := 105) F _ (jL_ushr32 _) dJ8_multiplyDivideAndRound_104 rfl ?_
  refine sw_top (topL (show ((↑p2) % 18446744073709551616 / 4294967296 : Int) = ↑(p2 / 4294967296) by omega)) ?_
  refine sw_lstore (n := 107) F (L2 := [(24, .long (jL (↑(p2 / 4294967296)))), (22, .long (jL (↑(p2 % 4294967296)))), (18, .long (jL (↑p2))), (20, .long (jL (↑(p1 % 4294967296)))), (16, .long (jL (↑b0))), (14, .long (jL (↑b1))), (12, .long (jL (↑a0))), (10, .long (jL (↑a1))), (4, .long (jL (↑dn))), (2, .long (jL (↑b))), (0, .long (jL (↑a))), (9, .int (jI sg)), (6, .int (jI s)), (7, .int (jI m)), (8, .int (jI s))]) rfl (by decide) dJ8_multiplyDivideAndRound_105 rfl ?_
  refine sw_lload (n := 109) F 6 rfl dJ8_multiplyDivideAndRound_107 rfl ?_
  refine sw_lload (n := 111) F 5 rfl dJ8_multiplyDivideAndRound_109 rfl ?_
  refine sw_lmul (n := 112) F dJ8_multiplyDivideAndRound_111 rfl ?_
  refine sw_lload (n := 114) F 1 rfl dJ8_multiplyDivideAndRound_112 rfl ?_
  refine sw_ladd (n := 115) F dJ8_multiplyDivideAndRound_114 rfl ?_
  obtain ⟨p3, hp3⟩ : ∃ z : Nat, z = a0 * b1 + p2 % 4294967296 := ⟨_, rfl⟩
  refine sw_top (topL (show (((↑a0) * (↑b1)) + (↑(p2 % 4294967296)) : Int) = ↑p3 by rw [hp3, Int.natCast_add, Int.natCast_mul])) ?_
  refine sw_lstore (n := 117) F (L2 := [(18, .long (jL (↑p3))), (24, .long (jL (↑(p2 / 4294967296)))), (22, .long (jL (↑(p2 % 4294967296)))), (20, .long (jL (↑(p1 % 4294967296)))), (16, .long (jL (↑b0))), (14, .long (jL (↑b1))), (12, .long (jL (↑a0))), (10, .long (jL (↑a1))), (4, .long (jL (↑dn))), (2, .long (jL (↑b))), (0, .long (jL (↑a))), (9, .int (jI sg)), (6, .int (jI s)), (7, .int (jI m)), (8, .int (jI s))]) rfl (by decide) dJ8_multiplyDivideAndRound_115 rfl ?_
  refine sw_lload (n := 119) F 0 rfl dJ8_multiplyDivideAndRound_117 rfl ?_
  refine sw_ldc2 (n := 122) F (4294967295) q1285 (by decide) dJ8_multiplyDivideAndRound_119 rfl ?_
  refine sw_land (n := 123) F (jL ((↑p3) % 4294967296)) (jL_and 32 (by decide) (by rfl)) dJ8_multiplyDivideAndRound_122 rfl ?_
  refine sw_top (topL (show ((↑p3) % 4294967296 : Int) = ↑(p3 % 4294967296) by omega)) ?_
  refine sw_lstore (n := 125) F (L2 := [(22, .long (jL (↑(p3 % 4294967296)))), (18, .long (jL (↑p3))), (24, .long (jL (↑(p2 / 4294967296)))), (20, .long (jL (↑(p1 % 4294967296)))), (16, .long (jL (↑b0))), (14, .long (jL (↑b1))), (12, .long (jL (↑a0))), (10, .long (jL (↑a1))), (4, .long (jL (↑dn))), (2, .long (jL (↑b))), (0, .long (jL (↑a))), (9, .int (jI sg)), (6, .int (jI s)), (7, .int (jI m)), (8, .int (jI s))]) rfl (by decide) dJ8_multiplyDivideAndRound_123 rfl ?_
  refine sw_lload (n := 127) F 2 rfl dJ8_multiplyDivideAndRound_125 rfl ?_
  refine sw_lload (n := 129) F 1 rfl dJ8_multiplyDivideAndRound_127 rfl ?_
  refine sw_bipush (n := 131) F (32) (by decide) dJ8_multiplyDivideAndRound_129 rfl ?_
  refine sw_lushr (n := 132) F _ (jL_ushr32 _) dJ8_multiplyDivideAndRound_131 rfl ?_
  refine sw_ladd (n := 133) F dJ8_multiplyDivideAndRound_132 rfl ?_
  obtain ⟨e2, he2⟩ : ∃ z : Nat, z = p2 / 4294967296 + p3 / 4294967296 := ⟨_, rfl⟩
  refine sw_top (topL (show ((↑(p2 / 4294967296)) + ((↑p3) % 18446744073709551616 / 4294967296) : Int) = ↑e2 by omega)) ?_
  refine sw_lstore (n := 135) F (L2 := [(24, .long (jL (↑e2))), (22, .long (jL (↑(p3 % 4294967296)))), (18, .long (jL (↑p3))), (20, .long (jL (↑(p1 % 4294967296)))), (16, .long (jL (↑b0))), (14, .long (jL (↑b1))), (12, .long (jL (↑a0))), (10, .long (jL (↑a1))), (4, .long (jL (↑dn))), (2, .long (jL (↑b))), (0, .long (jL (↑a))), (9, .int (jI sg)), (6, .int (jI s)), (7, .int (jI m)), (8, .int (jI s))]) rfl (by decide) dJ8_multiplyDivideAndRound_133 rfl ?_
  refine sw_lload (n := 137) F 0 rfl dJ8_multiplyDivideAndRound_135 rfl ?_
  refine sw_bipush (n := 139) F (32) (by decide) dJ8_multiplyDivideAndRound_137 rfl ?_
  refine sw_lushr (n := 140) F _ (jL_ushr32 _) dJ8_multiplyDivideAndRound_139 rfl ?_
  refine sw_top (topL (show ((↑e2) % 18446744073709551616 / 4294967296 : Int) = ↑(e2 / 4294967296) by omega)) ?_
  refine sw_lstore (n := 142) F (L2 := [(26, .long (jL (↑(e2 / 4294967296)))), (24, .long (jL (↑e2))), (22, .long (jL (↑(p3 % 4294967296)))), (18, .long (jL (↑p3))), (20, .long (jL (↑(p1 % 4294967296)))), (16, .long (jL (↑b0))), (14, .long (jL (↑b1))), (12, .long (jL (↑a0))), (10, .long (jL (↑a1))), (4, .long (jL (↑dn))), (2, .long (jL (↑b))), (0, .long (jL (↑a))), (9, .int (jI sg)), (6, .int (jI s)), (7, .int (jI m)), (8, .int (jI s))]) rfl (by decide) dJ8_multiplyDivideAndRound_140 rfl ?_
  refine sw_lload (n := 144) F 1 rfl dJ8_multiplyDivideAndRound_142 rfl ?_
  refine sw_ldc2 (n := 147) F (4294967295) q1285 (by decide) dJ8_multiplyDivideAndRound_144 rfl ?_
  refine sw_land (n := 148) F (jL ((↑e2) % 4294967296)) (jL_and 32 (by decide) (by rfl)) dJ8_multiplyDivideAndRound_147 rfl ?_
  refine sw_top (topL (show ((↑e2) % 4294967296 : Int) = ↑(e2 % 4294967296) by omega)) ?_
  refine sw_lstore (n := 150) F (L2 := [(24, .long (jL (↑(e2 % 4294967296)))), (26, .long (jL (↑(e2 / 4294967296)))), (22, .long (jL (↑(p3 % 4294967296)))), (18, .long (jL (↑p3))), (20, .long (jL (↑(p1 % 4294967296)))), (16, .long (jL (↑b0))), (14, .long (jL (↑b1))), (12, .long (jL (↑a0))), (10, .long (jL (↑a1))), (4, .long (jL (↑dn))), (2, .long (jL (↑b))), (0, .long (jL (↑a))), (9, .int (jI sg)), (6, .int (jI s)), (7, .int (jI m)), (8, .int (jI s))]) rfl (by decide) dJ8_multiplyDivideAndRound_148 rfl ?_
  refine sw_lload (n := 152) F 8 rfl dJ8_multiplyDivideAndRound_150 rfl ?_
  refine sw_lload (n := 154) F 6 rfl dJ8_multiplyDivideAndRound_152 rfl ?_
  refine sw_lmul (n := 155) F dJ8_multiplyDivideAndRound_154 rfl ?_
  refine sw_lload (n := 157) F 0 rfl dJ8_multiplyDivideAndRound_155 rfl ?_
  refine sw_ladd (n := 158) F dJ8_multiplyDivideAndRound_157 rfl ?_
  obtain ⟨p4, hp4⟩ : ∃ z : Nat, z = a1 * b1 + e2 % 4294967296 := ⟨_, rfl⟩
  refine sw_top (topL (show (((↑a1) * (↑b1)) + (↑(e2 % 4294967296)) : Int) = ↑p4 by rw [hp4, Int.natCast_add, Int.natCast_mul])) ?_
  refine sw_lstore (n := 160) F (L2 := [(18, .long (jL (↑p4))), (24, .long (jL (↑(e2 % 4294967296)))), (26, .long (jL (↑(e2 / 4294967296)))), (22, .long (jL (↑(p3 % 4294967296)))), (20, .long (jL (↑(p1 % 4294967296)))), (16, .long (jL (↑b0))), (14, .long (jL (↑b1))), (12, .long (jL (↑a0))), (10, .long (jL (↑a1))), (4, .long (jL (↑dn))), (2, .long (jL (↑b))), (0, .long (jL (↑a))), (9, .int (jI sg)), (6, .int (jI s)), (7, .int (jI m)), (8, .int (jI s))]) rfl (by decide) dJ8_multiplyDivideAndRound_158 rfl ?_
  refine sw_lload (n := 162) F 0 rfl dJ8_multiplyDivideAndRound_160 rfl ?_
  refine sw_ldc2 (n := 165) F (4294967295) q1285 (by decide) dJ8_multiplyDivideAndRound_162 rfl ?_
  refine sw_land (n := 166) F (jL ((↑p4) % 4294967296)) (jL_and 32 (by decide) (by rfl)) dJ8_multiplyDivideAndRound_165 rfl ?_
  refine sw_top (topL (show ((↑p4) % 4294967296 : Int) = ↑(p4 % 4294967296) by omega)) ?_
  refine sw_lstore (n := 168) F (L2 := [(24, .long (jL (↑(p4 % 4294967296)))), (18, .long (jL (↑p4))), (26, .long (jL (↑(e2 / 4294967296)))), (22, .long (jL (↑(p3 % 4294967296)))), (20, .long (jL (↑(p1 % 4294967296)))), (16, .long (jL (↑b0))), (14, .long (jL (↑b1))), (12, .long (jL (↑a0))), (10, .long (jL (↑a1))), (4, .long (jL (↑dn))), (2, .long (jL (↑b))), (0, .long (jL (↑a))), (9, .int (jI sg)), (6, .int (jI s)), (7, .int (jI m)), (8, .int (jI s))]) rfl (by decide) dJ8_multiplyDivideAndRound_166 rfl ?_
  refine sw_lload (n := 170) F 1 rfl dJ8_multiplyDivideAndRound_168 rfl ?_
  refine sw_bipush (n := 172) F (32) (by decide) dJ8_multiplyDivideAndRound_170 rfl ?_
  refine sw_lushr (n := 173) F _ (jL_ushr32 _) dJ8_multiplyDivideAndRound_172 rfl ?_
  refine sw_lload (n := 175) F 2 rfl dJ8_multiplyDivideAndRound_173 rfl ?_
  refine sw_ladd (n := 176) F dJ8_multiplyDivideAndRound_175 rfl ?_
  refine sw_ldc2 (n := 179) F (4294967295) q1285 (by decide) dJ8_multiplyDivideAndRound_176 rfl ?_
  refine sw_land (n := 180) F (jL ((((↑p4) % 18446744073709551616 / 4294967296) + (↑(e2 / 4294967296))) % 4294967296)) (jL_and 32 (by decide) (by rfl)) dJ8_multiplyDivideAndRound_179 rfl ?_
  refine sw_top (topL (show ((((↑p4) % 18446744073709551616 / 4294967296) + (↑(e2 / 4294967296))) % 4294967296 : Int) = ↑((p4 / 4294967296 + e2 / 4294967296) % 4294967296) by omega)) ?_
  refine sw_lstore (n := 182) F (L2 := [(26, .long (jL (↑((p4 / 4294967296 + e2 / 4294967296) % 4294967296)))), (24, .long (jL (↑(p4 % 4294967296)))), (18, .long (jL (↑p4))), (22, .long (jL (↑(p3 % 4294967296)))), (20, .long (jL (↑(p1 % 4294967296)))), (16, .long (jL (↑b0))), (14, .long (jL (↑b1))), (12, .long (jL (↑a0))), (10, .long (jL (↑a1))), (4, .long (jL (↑dn))), (2, .long (jL (↑b))), (0, .long (jL (↑a))), (9, .int (jI sg)), (6, .int (jI s)), (7, .int (jI m)), (8, .int (jI s))]) rfl (by decide) dJ8_multiplyDivideAndRound_180 rfl ?_
  refine sw_lload (n := 184) F 0 rfl dJ8_multiplyDivideAndRound_182 rfl ?_
  refine sw_lload (n := 186) F 1 rfl dJ8_multiplyDivideAndRound_184 rfl ?_
  refine sw_callS (n := 189) F (ct_J8_make64 (g := xg x) (l := xl x) (↑((p4 / 4294967296 + e2 / 4294967296) % 4294967296)) (p4 % 4294967296) (by first | omega | assumption)) q2779 q2780 q112 q2781 nd_J8_make64 rfl (by decide) [0] rfl [pl (xg x) M] rfl 9 42 ⟨by omega, by omega⟩ [] rfl (Nat.le_of_ble_eq_true rfl) dJ8_multiplyDivideAndRound_186 rfl (fun _ _ h => h.elim) (fun v Ws h => ?_)
  obtain ⟨rfl, rfl⟩ := h
  show SW x [pl (xg x) M] _ _ _ _ [.long (jL ((↑((p4 / 4294967296 + e2 / 4294967296) % 4294967296)) * 4294967296 + ↑(p4 % 4294967296)))]
  obtain ⟨hi, hhi⟩ : ∃ z : Nat, z = (p4 / 4294967296 + e2 / 4294967296) % 4294967296 * 4294967296 + p4 % 4294967296 := ⟨_, rfl⟩
  refine sw_top (topL (show ((↑((p4 / 4294967296 + e2 / 4294967296) % 4294967296)) * 4294967296 + ↑(p4 % 4294967296) : Int) = ↑hi by omega)) ?_
  refine sw_lstore (n := 191) F (L2 := [(28, .long (jL (↑hi))), (26, .long (jL (↑((p4 / 4294967296 + e2 / 4294967296) % 4294967296)))), (24, .long (jL (↑(p4 % 4294967296)))), (18, .long (jL (↑p4))), (22, .long (jL (↑(p3 % 4294967296)))), (20, .long (jL (↑(p1 % 4294967296)))), (16, .long (jL (↑b0))), (14, .long (jL (↑b1))), (12, .long (jL (↑a0))), (10, .long (jL (↑a1))), (4, .long (jL (↑dn))), (2, .long (jL (↑b))), (0, .long (jL (↑a))), (9, .int (jI sg)), (6, .int (jI s)), (7, .int (jI m)), (8, .int (jI s))]) rfl (by decide) dJ8_multiplyDivideAndRound_189 rfl ?_
  refine sw_lload (n := 193) F 4 rfl dJ8_multiplyDivideAndRound_191 rfl ?_
  refine sw_lload (n := 195) F 5 rfl dJ8_multiplyDivideAndRound_193 rfl ?_
  refine sw_callS (n := 198) F (ct_J8_make64 (g := xg x) (l := xl x) (↑(p3 % 4294967296)) (p1 % 4294967296) (by first | omega | assumption)) q2779 q2780 q112 q2781 nd_J8_make64 rfl (by decide) [0] rfl [pl (xg x) M] rfl 9 42 ⟨by omega, by omega⟩ [] rfl (Nat.le_of_ble_eq_true rfl) dJ8_multiplyDivideAndRound_195 rfl (fun _ _ h => h.elim) (fun v Ws h => ?_)
  obtain ⟨rfl, rfl⟩ := h
  show SW x [pl (xg x) M] _ _ _ _ [.long (jL ((↑(p3 % 4294967296)) * 4294967296 + ↑(p1 % 4294967296)))]
  obtain ⟨lo, hlo⟩ : ∃ z : Nat, z = p3 % 4294967296 * 4294967296 + p1 % 4294967296 := ⟨_, rfl⟩
  refine sw_top (topL (show ((↑(p3 % 4294967296)) * 4294967296 + ↑(p1 % 4294967296) : Int) = ↑lo by omega)) ?_
  have hXX : a * b = hi * 18446744073709551616 + lo := m128 (show a = a1 * 4294967296 + a0 by omega) (show b = b1 * 4294967296 + b0 by omega) (by omega) hp1 hp2 hp3 he2 hp4 hhi hlo
  have hXn : (x_ * y_).natAbs = hi * 18446744073709551616 + lo := by rw [Int.natAbs_mul, ← ha, ← hb]; exact hXX
  have hmb : a * b ≤ 9223372036854775807 * 9223372036854775807 := Nat.mul_le_mul (by omega) (by omega)
  have hhi9 := hi_b hXX hmb
  have hlo9 : lo < 18446744073709551616 := by rw [hlo]; have h1 := Nat.mod_lt p3 (show 0 < 4294967296 by decide); have h2 := Nat.mod_lt p1 (show 0 < 4294967296 by decide); exact w2_lt h1 h2
  (try clear hq00); (try clear hq10); (try clear hq01); (try clear hq11); (try clear hhi); (try clear hlo); (try clear hp1); (try clear hp2); (try clear hp3); (try clear hp4); (try clear he2); (try clear ha1); (try clear ha0); (try clear hb1); (try clear hb0); (try clear hmb)
  refine sw_lstore (n := 200) F (L2 := [(30, .long (jL (↑lo))), (28, .long (jL (↑hi))), (26, .long (jL (↑((p4 / 4294967296 + e2 / 4294967296) % 4294967296)))), (24, .long (jL (↑(p4 % 4294967296)))), (18, .long (jL (↑p4))), (22, .long (jL (↑(p3 % 4294967296)))), (20, .long (jL (↑(p1 % 4294967296)))), (16, .long (jL (↑b0))), (14, .long (jL (↑b1))), (12, .long (jL (↑a0))), (10, .long (jL (↑a1))), (4, .long (jL (↑dn))), (2, .long (jL (↑b))), (0, .long (jL (↑a))), (9, .int (jI sg)), (6, .int (jI s)), (7, .int (jI m)), (8, .int (jI s))]) rfl (by decide) dJ8_multiplyDivideAndRound_198 rfl ?_
  refine sw_lload (n := 202) F 1 rfl dJ8_multiplyDivideAndRound_200 rfl ?_
  refine sw_lload (n := 204) F 0 rfl dJ8_multiplyDivideAndRound_202 rfl ?_
  refine sw_lload (n := 206) F 11 rfl dJ8_multiplyDivideAndRound_204 rfl ?_
  refine sw_iload (n := 208) F 14 rfl dJ8_multiplyDivideAndRound_206 rfl ?_
  refine sw_iload (n := 210) F 15 rfl dJ8_multiplyDivideAndRound_208 rfl ?_
  refine sw_iload (n := 212) F 16 rfl dJ8_multiplyDivideAndRound_210 rfl ?_
  refine sw_iload (n := 214) F 17 rfl dJ8_multiplyDivideAndRound_212 rfl ?_
  refine sw_callS (n := 217) F (ct_J8_divideAndRound128 (g := xg x) (l := xl x) M (x_ * y_) d hi lo dn sg s m (by exact hXn) (by exact hdn.symm) (by exact hs3) (by first | omega | assumption) (by exact hlo9) (by exact hhi9) hm hs (by rw [← ha, ← hb, ← hdn] at hsm; exact hi_lt hXX hlo9 hsm)) q2782 q2783 q112 q2784 nd_J8_divideAndRound128 rfl (by decide) [0] rfl [] rfl 0 0 ⟨by omega, by omega⟩ [] rfl (Nat.le_of_ble_eq_true rfl) dJ8_multiplyDivideAndRound_214 rfl (fun E Ws h => ?_) (fun v Ws h => ?_)
  ·
    obtain ⟨rfl, hrf_12, rfl⟩ := h
    show SX x [pl (xg x) M] _ _ _ _ _
    exact sx_out F (by rw [hPx]; exact ⟨rfl, hrf_12, rfl⟩)
  ·
    obtain ⟨M1_4, r1_5, o1_6, V_7, rfl, hle_8, hat_9, hV_10, hrf_11, rfl⟩ := h
    show SW x [pl (xg x) M1_4] _ _ _ _ [.ref r1_5]
    exact sw_aret F (some r1_5) _ rfl rfl (by first | exact Or.inl ⟨_, rfl⟩ | exact Or.inr ⟨_, rfl⟩) dJ8_multiplyDivideAndRound_217 (by rw [hPo]; exact ⟨M1_4, r1_5, o1_6, V_7, rfl, hle_8, hat_9, hV_10, hrf_11, rfl⟩)
theorem ch_0 {f g : Nat → Nat} {n k : Nat} (hf : wOK n f) (hg : wOK k g) : (k < n → cmpI (2 * wv f n) (wv g k) = 1) ∧ (n + 1 < k → cmpI (2 * wv f n) (wv g k) = -1) ∧ (n + 1 = k → g 0 ≠ 1 → cmpI (2 * wv f n) (wv g k) = -1) := by
  have h1 := wv_lt hf.1
  have h2 := wv_lt hg.1
  refine ⟨fun h => ?_, fun h => ?_, fun h h3 => ?_⟩
  · have h3 := wOK_ge hf (by omega)
    have h4 := bw_mono (show k ≤ n - 1 by omega)
    exact cmpI_gt (by omega)
  · have h3 := wOK_ge hg (by omega)
    have h4 := bw_mono (show n + 1 ≤ k - 1 by omega)
    rw [bw_s] at h4
    exact cmpI_lt (by omega)
  · have h4 := hg.2 (by omega)
    have e := wv_app g 1 n
    rw [show 1 + n = k by omega, wv_1] at e
    have h5 : 2 * bw n ≤ g 0 * bw n := Nat.mul_le_mul_right _ (by omega)
    exact cmpI_lt (by omega)
theorem ch_s {W V c bv v hb : Nat} (h : 2 * W + c = V) (hh : hb = bv / 2 + c * 2147483648) : (v = hb → 2 * (W * 4294967296 + v) + bv % 2 = V * 4294967296 + bv) ∧ (v < hb → 2 * (W * 4294967296 + v) + 2 ≤ V * 4294967296 + bv) ∧ (hb < v → V * 4294967296 + bv + 1 ≤ 2 * (W * 4294967296 + v)) := by
  refine ⟨fun _ => by omega, fun _ => by omega, fun _ => by omega⟩
theorem ch_e {f g : Nat → Nat} {n b i : Nat} (hf : ∀ k, k < n → f k < 4294967296) (hg : ∀ k, k < b + n → g k < 4294967296) (hi : i < n) : (2 * wv f (i + 1) + 2 ≤ wv g (b + i + 1) → cmpI (2 * wv f n) (wv g (b + n)) = -1) ∧ (wv g (b + i + 1) + 1 ≤ 2 * wv f (i + 1) → cmpI (2 * wv f n) (wv g (b + n)) = 1) := by
  have e1 := wv_app f (i + 1) (n - (i + 1))
  have e2 := wv_app g (b + i + 1) (n - (i + 1))
  rw [show i + 1 + (n - (i + 1)) = n by omega] at e1
  rw [show b + i + 1 + (n - (i + 1)) = b + n by omega] at e2
  have l1 : wv (fun j => f (i + 1 + j)) (n - (i + 1)) < bw (n - (i + 1)) := wv_lt fun k hk => hf _ (by omega)
  have l2 : wv (fun j => g (b + i + 1 + j)) (n - (i + 1)) < bw (n - (i + 1)) := wv_lt fun k hk => hg _ (by omega)
  generalize wv f (i + 1) = F at *
  generalize wv g (b + i + 1) = G at *
  generalize bw (n - (i + 1)) = P at *
  refine ⟨fun h => cmpI_lt ?_, fun h => cmpI_gt ?_⟩
  · have h3 : (2 * F + 2) * P ≤ G * P := Nat.mul_le_mul_right _ h
    rw [Nat.add_mul, Nat.mul_assoc] at h3; omega
  · have h3 : (G + 1) * P ≤ 2 * F * P := Nat.mul_le_mul_right _ h
    rw [Nat.add_mul, Nat.one_mul, Nat.mul_assoc] at h3; omega
section SXP
variable {x : EX} {Ps : List HP} {bc bs pc : Nat} {L : List (Nat × Value)} {E : String}
theorem sx_perm (is : List Nat) (hp : is.isPerm (List.range Ps.length) = true) (Qs : List HP) (hq : sl_pick Ps is = Qs) (kk : SX x Qs bc bs pc L E) : SX x Ps bc bs pc L E :=
  sx_drop is (sl_pick Ps is).length hp Qs (by rw [List.take_length]; exact hq) kk
end SXP
theorem nd_J35_compare : yJ35_compare.cls ≠ "java/lang/invoke/MethodHandle" ∧ yJ35_compare.cls ≠ "java/lang/invoke/VarHandle" ∧ (parseMethodDescriptor yJ35_compare.desc).map (fun d => d.parameters.length) = some 1 := by decide +kernel
set_option maxRecDepth 100000 in
set_option maxHeartbeats 16000000 in
theorem ct_J35_compare {g : GG} {l : Launch} (M : Nat → Option PV) (q : Nat) (a : Nat) (n : Nat) (f : Nat → Nat) (q2 : Nat) (b : Nat) (k : Nat) (g2 : Nat → Nat) (hx : at_ g M a (vA n f)) (hw : wOK n f) (hn : 0 < n ∧ n ≤ 8) (hy : at_ g M b (vA k g2)) (hw2 : wOK k g2) (hk : 0 < k ∧ k ≤ 8) : Ct g l yJ35_compare (ws_ yJ35_compare cJ35_compare 8 (Option.some Jvm.ClassFile.FieldType.int)) 1 12 0 0 [.ref q, .ref q2] [ob g q 19 [.ref a, .int (jI (↑n)), .int (jI 0)], pl g M, ob g q2 19 [.ref b, .int (jI (↑k)), .int (jI 0)]] (fun v9 Ws9 => v9 = some (.int (jI (cmpI (wv f n) (wv g2 k)))) ∧ Ws9 = [ob g q 19 [.ref a, .int (jI (↑n)), .int (jI 0)], pl g M, ob g q2 19 [.ref b, .int (jI (↑k)), .int (jI 0)]]) (nox) := by
  refine Ct.of (cc := cJ35_compare) (nL := 8) (ret := (Option.some Jvm.ClassFile.FieldType.int)) (by decide) rfl (Nat.le_of_ble_eq_true rfl) ?_
  intro x hg hl hPo hPx hmc hms F
  subst hg; subst hl
  refine SW.cast (L' := [(0, .ref q), (1, .ref q2)]) ?_ rfl rfl rfl
  refine sw_aload_n (n := 1) F 1 (some q2) rfl rfl rfl dJ35_compare_0 rfl ?_
  refine sw_get (n := 4) F 2 rfl (k := 1) ⟨(RJ35, TJ35, 3), rfl, by decide, q1837, in_J35, Or.inl rfl⟩ rfl dJ35_compare_1 rfl ?_
  refine sw_istore_n (n := 5) F (L2 := [(2, .int (jI (↑k))), (0, .ref q), (1, .ref q2)]) rfl (by decide) rfl dJ35_compare_4 rfl ?_
  refine sw_aload_n (n := 6) F 1 (some q) rfl rfl rfl dJ35_compare_5 rfl ?_
  refine sw_get (n := 9) F 0 rfl (k := 1) ⟨(RJ35, TJ35, 3), rfl, by decide, q1837, in_J35, Or.inl rfl⟩ rfl dJ35_compare_6 rfl ?_
  refine sw_iload_n (n := 10) F 0 rfl rfl dJ35_compare_9 rfl ?_
  refine sw_icmp_ge (n := 13) F (by omega) (by omega) (tgt := 15) dJ35_compare_10 (by decide) rfl (fun c_10 => ?_) (fun c_10 => ?_)
  ·
    refine sw_aload_n (n := 16) F 1 (some q) rfl rfl rfl dJ35_compare_15 rfl ?_
    refine sw_get (n := 19) F 0 rfl (k := 1) ⟨(RJ35, TJ35, 3), rfl, by decide, q1837, in_J35, Or.inl rfl⟩ rfl dJ35_compare_16 rfl ?_
    refine sw_iload_n (n := 20) F 0 rfl rfl dJ35_compare_19 rfl ?_
    refine sw_icmp_le (n := 23) F (by omega) (by omega) (tgt := 25) dJ35_compare_20 (by decide) rfl (fun c_20 => ?_) (fun c_20 => ?_)
    ·
      refine sw_aload_n (n := 26) F 2 (some q2) rfl rfl rfl dJ35_compare_25 rfl ?_
      refine sw_get (n := 29) F 2 rfl (k := 0) ⟨(RJ35, TJ35, 3), rfl, by decide, q1836, in_J35, Or.inl rfl⟩ rfl dJ35_compare_26 rfl ?_
      refine sw_astore_n (n := 30) F (some b) (L2 := [(3, .ref b), (2, .int (jI (↑k))), (0, .ref q), (1, .ref q2)]) rfl rfl (by decide) rfl dJ35_compare_29 rfl ?_
      refine sw_aload_n (n := 31) F 2 (some q) rfl rfl rfl dJ35_compare_30 rfl ?_
      refine sw_get (n := 34) F 0 rfl (k := 2) ⟨(RJ35, TJ35, 3), rfl, by decide, q1838, in_J35, Or.inl rfl⟩ rfl dJ35_compare_31 rfl ?_
      refine sw_istore (n := 36) F (L2 := [(4, .int (jI 0)), (3, .ref b), (2, .int (jI (↑k))), (0, .ref q), (1, .ref q2)]) rfl (by decide) dJ35_compare_34 rfl ?_
      have hnk : n = k := by omega
      refine sw_aload_n (n := 37) F 4 (some q2) rfl rfl rfl dJ35_compare_36 rfl ?_
      refine sw_get (n := 40) F 2 rfl (k := 2) ⟨(RJ35, TJ35, 3), rfl, by decide, q1838, in_J35, Or.inl rfl⟩ rfl dJ35_compare_37 rfl ?_
      refine sw_istore (n := 42) F (L2 := [(5, .int (jI 0)), (4, .int (jI 0)), (3, .ref b), (2, .int (jI (↑k))), (0, .ref q), (1, .ref q2)]) rfl (by decide) dJ35_compare_40 rfl ?_
      have K42 : ∀ N42 : Nat, ∀ (i : Nat), (i ≤ n) → (∀ j, j < i → f j = g2 j) → ((n - i) < N42) → SW x [ob (xg x) q 19 [.ref a, .int (jI (↑n)), .int (jI 0)], pl (xg x) M, ob (xg x) q2 19 [.ref b, .int (jI (↑k)), .int (jI 0)]] 0 0 42 [(0, .ref q), (3, .ref b), (4, .int (jI (↑i))), (5, .int (jI (↑i)))] [] := by
        intro N42; induction N42 with
        | zero => intro i hi he hmu42; omega
        | succ N42 ih42 =>
          intro i hi he hmu42
          refine sw_iload (n := 44) F 2 rfl dJ35_compare_42 rfl ?_
          refine sw_aload_n (n := 45) F 0 (some q) rfl rfl rfl dJ35_compare_44 rfl ?_
          refine sw_get (n := 48) F 0 rfl (k := 1) ⟨(RJ35, TJ35, 3), rfl, by decide, q1837, in_J35, Or.inl rfl⟩ rfl dJ35_compare_45 rfl ?_
          refine sw_aload_n (n := 49) F 0 (some q) rfl rfl rfl dJ35_compare_48 rfl ?_
          refine sw_get (n := 52) F 0 rfl (k := 2) ⟨(RJ35, TJ35, 3), rfl, by decide, q1838, in_J35, Or.inl rfl⟩ rfl dJ35_compare_49 rfl ?_
          refine sw_iadd (n := 53) F dJ35_compare_52 rfl ?_
          refine sw_icmp_ge (n := 56) F (by omega) (by omega) (tgt := 104) dJ35_compare_53 (by decide) rfl (fun c_53 => ?_) (fun c_53 => ?_)
          ·
            refine sw_iconst (n := 105) F (0) (by decide) dJ35_compare_104 rfl ?_
            exact sw_iret F _ rfl (by first | rfl | exact jI_nz (by omega) | exact jI_nc (by omega)) dJ35_compare_105 (by rw [hPo]; exact ⟨(by rw [cmpI_eq (by rw [← hnk]; exact wv_cong fun j hj => he j (by omega))]), rfl⟩)
          ·
            have hb_x : f i < 4294967296 := hw.1 _ (by omega)
            have hb_y : g2 i < 4294967296 := hw2.1 _ (by omega)
            refine sw_aload_n (n := 57) F 0 (some q) rfl rfl rfl dJ35_compare_56 rfl ?_
            refine sw_get (n := 60) F 0 rfl (k := 0) ⟨(RJ35, TJ35, 3), rfl, by decide, q1836, in_J35, Or.inl rfl⟩ rfl dJ35_compare_57 rfl ?_
            refine sw_iload (n := 62) F 2 rfl dJ35_compare_60 rfl ?_
            refine sw_ialoadK (n := 63) F (plA F 1 rfl hx) i rfl (by omega) dJ35_compare_62 rfl ?_
            show SW x _ _ _ _ _ [.int (jI (↑(f i)))]
            refine sw_ldc (n := 65) F (-2147483648) q1899 (by decide) dJ35_compare_63 rfl ?_
            refine sw_iadd (n := 66) F dJ35_compare_65 rfl ?_
            refine sw_istore (n := 68) F (L2 := [(6, .int (jI ((↑(f i)) + (-2147483648)))), (0, .ref q), (3, .ref b), (4, .int (jI (↑i))), (5, .int (jI (↑i)))]) rfl (by decide) dJ35_compare_66 rfl ?_
            refine sw_aload_n (n := 69) F 2 (some b) rfl rfl rfl dJ35_compare_68 rfl ?_
            refine sw_iload (n := 71) F 4 rfl dJ35_compare_69 rfl ?_
            refine sw_ialoadK (n := 72) F (plA F 1 rfl hy) i rfl (by omega) dJ35_compare_71 rfl ?_
            show SW x _ _ _ _ _ [.int (jI (↑(g2 i)))]
            refine sw_ldc (n := 74) F (-2147483648) q1899 (by decide) dJ35_compare_72 rfl ?_
            refine sw_iadd (n := 75) F dJ35_compare_74 rfl ?_
            refine sw_istore (n := 77) F (L2 := [(7, .int (jI ((↑(g2 i)) + (-2147483648)))), (6, .int (jI ((↑(f i)) + (-2147483648)))), (0, .ref q), (3, .ref b), (4, .int (jI (↑i))), (5, .int (jI (↑i)))]) rfl (by decide) dJ35_compare_75 rfl ?_
            refine sw_iload (n := 79) F 1 rfl dJ35_compare_77 rfl ?_
            refine sw_iload (n := 81) F 0 rfl dJ35_compare_79 rfl ?_
            refine sw_icmp_ge (n := 84) F (by omega) (by omega) (tgt := 86) dJ35_compare_81 (by decide) rfl (fun c_81 => ?_) (fun c_81 => ?_)
            ·
              refine sw_iload (n := 88) F 1 rfl dJ35_compare_86 rfl ?_
              refine sw_iload (n := 90) F 0 rfl dJ35_compare_88 rfl ?_
              refine sw_icmp_le (n := 93) F (by omega) (by omega) (tgt := 95) dJ35_compare_90 (by decide) rfl (fun c_90 => ?_) (fun c_90 => ?_)
              ·
                refine sw_iinc (n := 98) F 4 (L2 := [(4, .int (jI (↑i + 1))), (7, .int (jI ((↑(g2 i)) + (-2147483648)))), (6, .int (jI ((↑(f i)) + (-2147483648)))), (0, .ref q), (3, .ref b), (5, .int (jI (↑i)))]) rfl rfl (by decide) dJ35_compare_95 rfl ?_
                refine sw_iinc (n := 101) F 5 (L2 := [(5, .int (jI (↑i + 1))), (4, .int (jI (↑i + 1))), (7, .int (jI ((↑(g2 i)) + (-2147483648)))), (6, .int (jI ((↑(f i)) + (-2147483648)))), (0, .ref q), (3, .ref b)]) rfl rfl (by decide) dJ35_compare_98 rfl ?_
                refine sw_goto F (n := 42) dJ35_compare_101 (by decide) ?_
                refine sw_loc [4, 5, 1, 0] (L2 := [(0, .ref q), (3, .ref b), (4, .int (jI (↑i + 1))), (5, .int (jI (↑i + 1)))]) rfl ?_
                rw [show (↑i + 1 : Int) = ↑(i + 1) by omega]
                try rw [show (↑i + 1 : Int) = ↑(i + 1) by omega]
                exact ih42 (i + 1) (by first | omega | assumption) (by first | (intro j hj; omega) | (intro j hj; rcases Nat.lt_or_ge j i with c | c; exact he j c; rw [show j = i by omega]; omega)) (by omega)
              ·
                refine sw_iconst (n := 94) F (1) (by decide) dJ35_compare_93 rfl ?_
                exact sw_iret F _ rfl (by first | rfl | exact jI_nz (by omega) | exact jI_nc (by omega)) dJ35_compare_94 (by rw [hPo]; exact ⟨(by rw [cmpI_gt (by rw [← hnk]; exact wv_lex (fun j hj => hw2.1 j (by omega)) (i := i) (by omega) (fun j hj => (he j hj).symm) (by omega))]), rfl⟩)
            ·
              refine sw_iconst (n := 85) F (-1) (by decide) dJ35_compare_84 rfl ?_
              exact sw_iret F _ rfl (by first | rfl | exact jI_nz (by omega) | exact jI_nc (by omega)) dJ35_compare_85 (by rw [hPo]; exact ⟨(by rw [cmpI_lt (by rw [← hnk]; exact wv_lex hw.1 (i := i) (by omega) he (by omega))]), rfl⟩)
      refine sw_loc [4, 2, 1, 0] (L2 := [(0, .ref q), (3, .ref b), (4, .int (jI 0)), (5, .int (jI 0))]) rfl ?_
      exact K42 _ 0 (by first | omega | assumption) (by first | (intro j hj; omega) | (intro j hj; rcases Nat.lt_or_ge j i with c | c; exact he j c; rw [show j = i by omega]; omega)) (Nat.lt_succ_self _)
    ·
      refine sw_iconst (n := 24) F (1) (by decide) dJ35_compare_23 rfl ?_
      exact sw_iret F _ rfl (by first | rfl | exact jI_nz (by omega) | exact jI_nc (by omega)) dJ35_compare_24 (by rw [hPo]; exact ⟨(by rw [cmpI_gt (wv_lenlt hw2.1 hw (by omega))]), rfl⟩)
  ·
    refine sw_iconst (n := 14) F (-1) (by decide) dJ35_compare_13 rfl ?_
    exact sw_iret F _ rfl (by first | rfl | exact jI_nz (by omega) | exact jI_nc (by omega)) dJ35_compare_14 (by rw [hPo]; exact ⟨(by rw [cmpI_lt (wv_lenlt hw.1 hw2 (by omega))]), rfl⟩)
theorem nd_J35_init_3 : yJ35_init_3.cls ≠ "java/lang/invoke/MethodHandle" ∧ yJ35_init_3.cls ≠ "java/lang/invoke/VarHandle" ∧ (parseMethodDescriptor yJ35_init_3.desc).map (fun d => d.parameters.length) = some 1 := by decide +kernel
set_option maxRecDepth 100000 in
set_option maxHeartbeats 16000000 in
theorem ct_J35_init_3 {g : GG} {l : Launch} (M : Nat → Option PV) (q : Nat) (q0 : Nat) (a : Nat) (n : Nat) (f : Nat → Nat) (hx : at_ g M a (vA n f)) (hn : n ≤ 8) : Ct g l yJ35_init_3 (ws_ yJ35_init_3 cJ35_init_3 2 (Option.none : Option Jvm.ClassFile.FieldType)) 4 79 1 8 [.ref q, .ref q0] [ob g q 19 [.null, .int (jI 0), .int (jI 0)], ob g q0 19 [.ref a, .int (jI (↑n)), .int (jI 0)], pl g M] (fun v9 Ws9 => ∃ a1 : Nat, ∃ f1 : Nat → Nat, v9 = none ∧ (∀ j, j < n → f1 j = f j) ∧ Ws9 = [ob g q 19 [.ref a1, .int (jI (↑n)), .int (jI 0)], aN g 0 a1 n f1, ob g q0 19 [.ref a, .int (jI (↑n)), .int (jI 0)], pl g M]) (nox) := by
  refine Ct.of (cc := cJ35_init_3) (nL := 2) (ret := (Option.none : Option Jvm.ClassFile.FieldType)) (by decide) rfl (Nat.le_of_ble_eq_true rfl) ?_
  intro x hg hl hPo hPx hmc hms F
  subst hg; subst hl
  refine SW.cast (L' := [(0, .ref q), (1, .ref q0)]) ?_ rfl rfl rfl
  refine sw_aload_n (n := 1) F 0 (some q) rfl rfl rfl dJ35_init_3_0 rfl ?_
  refine sw_objInit (n := 4) F q1835 q_oi q_oc (by decide) dJ35_init_3_1 rfl ?_
  refine sw_aload_n (n := 5) F 0 (some q) rfl rfl rfl dJ35_init_3_4 rfl ?_
  refine sw_iconst (n := 6) F (0) (by decide) dJ35_init_3_5 rfl ?_
  refine sw_put (n := 9) F 0 rfl (k := 2) ⟨(RJ35, TJ35, 3), rfl, by decide, q1838, in_J35, Or.inl rfl⟩ .int ⟨(RJ35, TJ35, 3), rfl, rfl, tyJ35_ok 2 (by decide), nmJ35, tyJ35, tyJ35_ok⟩ rfl rfl (Nat.le_of_ble_eq_true rfl) rfl [ob (xg x) q 19 [.null, .int (jI 0), .int (jI 0)], ob (xg x) q0 19 [.ref a, .int (jI (↑n)), .int (jI 0)], pl (xg x) M] rfl dJ35_init_3_6 rfl ?_
  refine sw_aload_n (n := 10) F 0 (some q) rfl rfl rfl dJ35_init_3_9 rfl ?_
  refine sw_aload_n (n := 11) F 1 (some q0) rfl rfl rfl dJ35_init_3_10 rfl ?_
  refine sw_get (n := 14) F 1 rfl (k := 1) ⟨(RJ35, TJ35, 3), rfl, by decide, q1837, in_J35, Or.inl rfl⟩ rfl dJ35_init_3_11 rfl ?_
  refine sw_put (n := 17) F 0 rfl (k := 1) ⟨(RJ35, TJ35, 3), rfl, by decide, q1837, in_J35, Or.inl rfl⟩ .int ⟨(RJ35, TJ35, 3), rfl, rfl, tyJ35_ok 1 (by decide), nmJ35, tyJ35, tyJ35_ok⟩ rfl rfl (Nat.le_of_ble_eq_true rfl) rfl [ob (xg x) q 19 [.null, .int (jI (↑n)), .int (jI 0)], ob (xg x) q0 19 [.ref a, .int (jI (↑n)), .int (jI 0)], pl (xg x) M] rfl dJ35_init_3_14 rfl ?_
  refine sw_aload_n (n := 18) F 0 (some q) rfl rfl rfl dJ35_init_3_17 rfl ?_
  refine sw_aload_n (n := 19) F 1 (some q0) rfl rfl rfl dJ35_init_3_18 rfl ?_
  refine sw_get (n := 22) F 1 rfl (k := 0) ⟨(RJ35, TJ35, 3), rfl, by decide, q1836, in_J35, Or.inl rfl⟩ rfl dJ35_init_3_19 rfl ?_
  refine sw_aload_n (n := 23) F 1 (some q0) rfl rfl rfl dJ35_init_3_22 rfl ?_
  refine sw_get (n := 26) F 1 rfl (k := 2) ⟨(RJ35, TJ35, 3), rfl, by decide, q1838, in_J35, Or.inl rfl⟩ rfl dJ35_init_3_23 rfl ?_
  refine sw_aload_n (n := 27) F 1 (some q0) rfl rfl rfl dJ35_init_3_26 rfl ?_
  refine sw_get (n := 30) F 1 rfl (k := 2) ⟨(RJ35, TJ35, 3), rfl, by decide, q1838, in_J35, Or.inl rfl⟩ rfl dJ35_init_3_27 rfl ?_
  refine sw_aload_n (n := 31) F 0 (some q) rfl rfl rfl dJ35_init_3_30 rfl ?_
  refine sw_get (n := 34) F 0 rfl (k := 1) ⟨(RJ35, TJ35, 3), rfl, by decide, q1837, in_J35, Or.inl rfl⟩ rfl dJ35_init_3_31 rfl ?_
  refine sw_iadd (n := 35) F dJ35_init_3_34 rfl ?_
  rw [show (0 + (↑n) : Int) = ↑(0 + (n)) by omega]
  refine sw_callS (n := 38) F (ct_J23_copyOfRange_2_p (g := xg x) (l := xl x) M a n f 0 (0 + (n)) hx (by omega)) q1950 q1152 q131 q1153 nd_J23_copyOfRange_2 rfl (by decide) [2, 0, 1] rfl [ob (xg x) q 19 [.null, .int (jI (↑n)), .int (jI 0)], ob (xg x) q0 19 [.ref a, .int (jI (↑n)), .int (jI 0)]] rfl 0 0 ⟨by omega, by omega⟩ [.ref q] rfl (Nat.le_of_ble_eq_true rfl) dJ35_init_3_35 rfl (fun _ _ h => h.elim) (fun v Ws h => ?_)
  obtain ⟨r1_1, f1_2, rfl, hf1_3, rfl⟩ := h
  show SW x [aN (xg x) 0 r1_1 ((0 + (n)) - 0) f1_2, pl (xg x) M, ob (xg x) q 19 [.null, .int (jI (↑n)), .int (jI 0)], ob (xg x) q0 19 [.ref a, .int (jI (↑n)), .int (jI 0)]] _ _ _ _ [.ref r1_1, .ref q]
  have hg1 : ∀ j, j < n → f1_2 j = f j := fun j hj => by rw [hf1_3 j (by omega), Nat.zero_add]
  rw [show 0 + n - 0 = n by omega]
  refine sw_put (n := 41) F 2 rfl (k := 0) ⟨(RJ35, TJ35, 3), rfl, by decide, q1836, in_J35, Or.inl rfl⟩ (tyJ35 0) ⟨(RJ35, TJ35, 3), rfl, rfl, tyJ35_ok 0 (by decide), nmJ35, tyJ35, tyJ35_ok⟩ rfl rfl (Nat.le_of_ble_eq_true rfl) rfl [aN (xg x) 0 r1_1 n f1_2, pl (xg x) M, ob (xg x) q 19 [.ref r1_1, .int (jI (↑n)), .int (jI 0)], ob (xg x) q0 19 [.ref a, .int (jI (↑n)), .int (jI 0)]] rfl dJ35_init_3_38 rfl ?_
  refine sw_perm [2, 0, 3, 1] (perm_ok _ 4 (by decide +kernel) rfl) [ob (xg x) q 19 [.ref r1_1, .int (jI (↑n)), .int (jI 0)], aN (xg x) 0 r1_1 n f1_2, ob (xg x) q0 19 [.ref a, .int (jI (↑n)), .int (jI 0)], pl (xg x) M] rfl ?_
  exact sw_vret F rfl dJ35_init_3_41 (by rw [hPo]; exact ⟨r1_1, f1_2, rfl, (by exact hg1), rfl⟩)
theorem nd_J35_divideKnuth : yJ35_divideKnuth.cls ≠ "java/lang/invoke/MethodHandle" ∧ yJ35_divideKnuth.cls ≠ "java/lang/invoke/VarHandle" ∧ (parseMethodDescriptor yJ35_divideKnuth.desc).map (fun d => d.parameters.length) = some 3 := by decide +kernel
set_option maxRecDepth 100000 in
set_option maxHeartbeats 16000000 in
theorem ct_J35_divideKnuth {g : GG} {l : Launch} (M : Nat → Option PV) (q : Nat) (a : Nat) (n : Nat) (f : Nat → Nat) (q2 : Nat) (b : Nat) (k : Nat) (g2 : Nat → Nat) (q3 : Nat) (c : Nat) (hx : at_ g M a (vA n f)) (hw : wOK n f) (hn : 0 < n ∧ n ≤ 8) (hy : at_ g M b (vA k g2)) (hw2 : wOK k g2) (hk : 0 < k ∧ k ≤ 8) (hlt : wv f n < wv g2 k) : Ct g l yJ35_divideKnuth (ws_ yJ35_divideKnuth cJ35_divideKnuth 8 (Option.some (Jvm.ClassFile.FieldType.object "java/math/MutableBigInteger"))) 5 100 2 11 [.ref q, .ref q2, .ref q3, .int (jI 1)] [ob g q 19 [.ref a, .int (jI (↑n)), .int (jI 0)], pl g M, ob g q2 19 [.ref b, .int (jI (↑k)), .int (jI 0)], ob g q3 19 [.ref c, .int (jI 0), .int (jI 0)]] (fun v9 Ws9 => ∃ r1 : Nat, ∃ a1 : Nat, ∃ f1 : Nat → Nat, v9 = some (.ref r1) ∧ (∀ j, j < n → f1 j = f j) ∧ Ws9 = [ob g q 19 [.ref a, .int (jI (↑n)), .int (jI 0)], pl g M, ob g q2 19 [.ref b, .int (jI (↑k)), .int (jI 0)], ob g q3 19 [.ref c, .int (jI 0), .int (jI 0)], ob g r1 19 [.ref a1, .int (jI (↑n)), .int (jI 0)], aN g 0 a1 n f1]) (nox) := by
  refine Ct.of (cc := cJ35_divideKnuth) (nL := 8) (ret := (Option.some (Jvm.ClassFile.FieldType.object "java/math/MutableBigInteger"))) (by decide) rfl (Nat.le_of_ble_eq_true rfl) ?_
  intro x hg hl hPo hPx hmc hms F
  subst hg; subst hl
  refine SW.cast (L' := [(0, .ref q), (1, .ref q2), (2, .ref q3), (3, .int (jI 1))]) ?_ rfl rfl rfl
  have hcl := cmpI_lt hlt
  refine sw_aload_n (n := 1) F 1 (some q2) rfl rfl rfl dJ35_divideKnuth_0 rfl ?_
  refine sw_get (n := 4) F 2 rfl (k := 1) ⟨(RJ35, TJ35, 3), rfl, by decide, q1837, in_J35, Or.inl rfl⟩ rfl dJ35_divideKnuth_1 rfl ?_
  refine sw_if_ne (n := 7) F (by omega) (tgt := 17) dJ35_divideKnuth_4 (by decide) rfl (fun c_4 => ?_) (fun c_4 => ?_)
  ·
    refine sw_aload_n (n := 18) F 0 (some q) rfl rfl rfl dJ35_divideKnuth_17 rfl ?_
    refine sw_get (n := 21) F 0 rfl (k := 1) ⟨(RJ35, TJ35, 3), rfl, by decide, q1837, in_J35, Or.inl rfl⟩ rfl dJ35_divideKnuth_18 rfl ?_
    refine sw_if_ne (n := 24) F (by omega) (tgt := 50) dJ35_divideKnuth_21 (by decide) rfl (fun c_21 => ?_) (fun c_21 => ?_)
    ·
      refine sw_aload_n (n := 51) F 0 (some q) rfl rfl rfl dJ35_divideKnuth_50 rfl ?_
      refine sw_aload_n (n := 52) F 1 (some q2) rfl rfl rfl dJ35_divideKnuth_51 rfl ?_
      refine sw_callV (n := 55) F (ct_J35_compare (g := xg x) (l := xl x) M q a n f q2 b k g2 hx hw hn hy hw2 hk) (rcv_ob F 0 rfl rfl) q1971 q1972 q1973 q144 q1974 nd_J35_compare rfl (by decide) [0, 1, 2, 3] (perm_ok _ 4 (by decide +kernel) rfl) [ob (xg x) q3 19 [.ref c, .int (jI 0), .int (jI 0)]] rfl 2 11 ⟨by omega, by omega⟩ [] rfl (Nat.le_of_ble_eq_true rfl) dJ35_divideKnuth_52 rfl (fun _ _ h => h.elim) (fun v Ws h => ?_)
      obtain ⟨rfl, rfl⟩ := h
      show SW x [ob (xg x) q 19 [.ref a, .int (jI (↑n)), .int (jI 0)], pl (xg x) M, ob (xg x) q2 19 [.ref b, .int (jI (↑k)), .int (jI 0)], ob (xg x) q3 19 [.ref c, .int (jI 0), .int (jI 0)]] _ _ _ _ [.int (jI (cmpI (wv f n) (wv g2 k)))]
      refine sw_istore (n := 57) F (L2 := [(4, .int (jI (cmpI (wv f n) (wv g2 k)))), (0, .ref q), (1, .ref q2), (2, .ref q3), (3, .int (jI 1))]) rfl (by decide) dJ35_divideKnuth_55 rfl ?_
      refine sw_iload (n := 59) F 0 rfl dJ35_divideKnuth_57 rfl ?_
      refine sw_top (topI (show (cmpI (wv f n) (wv g2 k) : Int) = -1 by exact hcl)) ?_
      refine sw_if_ge (n := 62) F (by decide) (tgt := 89) dJ35_divideKnuth_59 (by decide) rfl (fun c_59 => ?_) (fun c_59 => ?_)
      · exfalso; exact absurd c_59 (by decide)
      ·
        refine sw_aload_n (n := 63) F 3 (some q3) rfl rfl rfl dJ35_divideKnuth_62 rfl ?_
        refine sw_aload_n (n := 64) F 3 (some q3) rfl rfl rfl dJ35_divideKnuth_63 rfl ?_
        refine sw_iconst (n := 65) F (0) (by decide) dJ35_divideKnuth_64 rfl ?_
        refine sw_dup_x1 (n := 66) F rfl rfl dJ35_divideKnuth_65 rfl ?_
        refine sw_put (n := 69) F 3 rfl (k := 2) ⟨(RJ35, TJ35, 3), rfl, by decide, q1838, in_J35, Or.inl rfl⟩ .int ⟨(RJ35, TJ35, 3), rfl, rfl, tyJ35_ok 2 (by decide), nmJ35, tyJ35, tyJ35_ok⟩ rfl rfl (Nat.le_of_ble_eq_true rfl) rfl [ob (xg x) q 19 [.ref a, .int (jI (↑n)), .int (jI 0)], pl (xg x) M, ob (xg x) q2 19 [.ref b, .int (jI (↑k)), .int (jI 0)], ob (xg x) q3 19 [.ref c, .int (jI 0), .int (jI 0)]] rfl dJ35_divideKnuth_66 rfl ?_
        refine sw_put (n := 72) F 3 rfl (k := 1) ⟨(RJ35, TJ35, 3), rfl, by decide, q1837, in_J35, Or.inl rfl⟩ .int ⟨(RJ35, TJ35, 3), rfl, rfl, tyJ35_ok 1 (by decide), nmJ35, tyJ35, tyJ35_ok⟩ rfl rfl (Nat.le_of_ble_eq_true rfl) rfl [ob (xg x) q 19 [.ref a, .int (jI (↑n)), .int (jI 0)], pl (xg x) M, ob (xg x) q2 19 [.ref b, .int (jI (↑k)), .int (jI 0)], ob (xg x) q3 19 [.ref c, .int (jI 0), .int (jI 0)]] rfl dJ35_divideKnuth_69 rfl ?_
        refine sw_iload_n (n := 73) F 4 rfl rfl dJ35_divideKnuth_72 rfl ?_
        refine sw_if_eq (n := 76) F (by decide) (tgt := 87) dJ35_divideKnuth_73 (by decide) rfl (fun c_73 => ?_) (fun c_73 => ?_)
        · exfalso; exact absurd c_73 (by decide)
        ·
          refine sw_new (n := 79) F (ci := 19) (N := 3) RJ35 TJ35 tyJ35 rfl q1878 q1831 q144 in_J35 tyJ35_ok (fs := [.null, .int (jI 0), .int (jI 0)]) rfl 1 8 ⟨by omega, by omega⟩ dJ35_divideKnuth_76 rfl (fun q_1 => ?_)
          refine sw_dup (n := 80) F rfl dJ35_divideKnuth_79 rfl ?_
          refine sw_aload_n (n := 81) F 1 (some q) rfl rfl rfl dJ35_divideKnuth_80 rfl ?_
          refine sw_callI (n := 84) F (ct_J35_init_3 (g := xg x) (l := xl x) M q_1 q a n f hx (by first | omega | assumption)) q1975 q1976 q144 q1977 rfl nd_J35_init_3 rfl (by decide) [0, 1, 2, 3, 4] (perm_ok _ 5 (by decide +kernel) rfl) [ob (xg x) q2 19 [.ref b, .int (jI (↑k)), .int (jI 0)], ob (xg x) q3 19 [.ref c, .int (jI 0), .int (jI 0)]] rfl 0 0 ⟨by omega, by omega⟩ [.ref q_1] rfl (Nat.le_of_ble_eq_true rfl) dJ35_divideKnuth_81 rfl (fun _ _ h => h.elim) (fun v Ws h => ?_)
          obtain ⟨a1_2, f1_3, rfl, hf1_4, rfl⟩ := h
          show SW x [ob (xg x) q_1 19 [.ref a1_2, .int (jI (↑n)), .int (jI 0)], aN (xg x) 0 a1_2 n f1_3, ob (xg x) q 19 [.ref a, .int (jI (↑n)), .int (jI 0)], pl (xg x) M, ob (xg x) q2 19 [.ref b, .int (jI (↑k)), .int (jI 0)], ob (xg x) q3 19 [.ref c, .int (jI 0), .int (jI 0)]] _ _ _ _ [.ref q_1]
          refine sw_goto F (n := 88) dJ35_divideKnuth_84 (by decide) ?_
          refine sw_perm [2, 3, 4, 5, 0, 1] (perm_ok _ 6 (by decide +kernel) rfl) [ob (xg x) q 19 [.ref a, .int (jI (↑n)), .int (jI 0)], pl (xg x) M, ob (xg x) q2 19 [.ref b, .int (jI (↑k)), .int (jI 0)], ob (xg x) q3 19 [.ref c, .int (jI 0), .int (jI 0)], ob (xg x) q_1 19 [.ref a1_2, .int (jI (↑n)), .int (jI 0)], aN (xg x) 0 a1_2 n f1_3] rfl ?_
          exact sw_aret F (some q_1) _ rfl rfl (by first | exact Or.inl ⟨_, rfl⟩ | exact Or.inr ⟨_, rfl⟩) dJ35_divideKnuth_88 (by rw [hPo]; exact ⟨q_1, a1_2, f1_3, rfl, hf1_4, rfl⟩)
    · exfalso; omega
  · exfalso; omega
theorem nd_J35_divide_3 : yJ35_divide_3.cls ≠ "java/lang/invoke/MethodHandle" ∧ yJ35_divide_3.cls ≠ "java/lang/invoke/VarHandle" ∧ (parseMethodDescriptor yJ35_divide_3.desc).map (fun d => d.parameters.length) = some 3 := by decide +kernel
set_option maxRecDepth 100000 in
set_option maxHeartbeats 16000000 in
theorem ct_J35_divide_3 {g : GG} {l : Launch} (M : Nat → Option PV) (q : Nat) (a : Nat) (n : Nat) (f : Nat → Nat) (q2 : Nat) (b : Nat) (k : Nat) (g2 : Nat → Nat) (q3 : Nat) (c : Nat) (hx : at_ g M a (vA n f)) (hw : wOK n f) (hn : 0 < n ∧ n ≤ 8) (hy : at_ g M b (vA k g2)) (hw2 : wOK k g2) (hk : 0 < k ∧ k ≤ 8) (hlt : wv f n < wv g2 k) : Ct g l yJ35_divide_3 (ws_ yJ35_divide_3 cJ35_divide_3 4 (Option.some (Jvm.ClassFile.FieldType.object "java/math/MutableBigInteger"))) 6 127 2 11 [.ref q, .ref q2, .ref q3, .int (jI 1)] [ob g q 19 [.ref a, .int (jI (↑n)), .int (jI 0)], pl g M, ob g q2 19 [.ref b, .int (jI (↑k)), .int (jI 0)], ob g q3 19 [.ref c, .int (jI 0), .int (jI 0)]] (fun v9 Ws9 => ∃ r1 : Nat, ∃ a1 : Nat, ∃ f1 : Nat → Nat, v9 = some (.ref r1) ∧ (∀ j, j < n → f1 j = f j) ∧ Ws9 = [ob g q 19 [.ref a, .int (jI (↑n)), .int (jI 0)], pl g M, ob g q2 19 [.ref b, .int (jI (↑k)), .int (jI 0)], ob g q3 19 [.ref c, .int (jI 0), .int (jI 0)], ob g r1 19 [.ref a1, .int (jI (↑n)), .int (jI 0)], aN g 0 a1 n f1]) (nox) := by
  refine Ct.of (cc := cJ35_divide_3) (nL := 4) (ret := (Option.some (Jvm.ClassFile.FieldType.object "java/math/MutableBigInteger"))) (by decide) rfl (Nat.le_of_ble_eq_true rfl) ?_
  intro x hg hl hPo hPx hmc hms F
  subst hg; subst hl
  refine SW.cast (L' := [(0, .ref q), (1, .ref q2), (2, .ref q3), (3, .int (jI 1))]) ?_ rfl rfl rfl
  refine sw_aload_n (n := 1) F 1 (some q2) rfl rfl rfl dJ35_divide_3_0 rfl ?_
  refine sw_get (n := 4) F 2 rfl (k := 1) ⟨(RJ35, TJ35, 3), rfl, by decide, q1837, in_J35, Or.inl rfl⟩ rfl dJ35_divide_3_1 rfl ?_
  refine sw_bipush (n := 6) F (80) (by decide) dJ35_divide_3_4 rfl ?_
  refine sw_icmp_lt (n := 9) F (by omega) (by decide) (tgt := 23) dJ35_divide_3_6 (by decide) rfl (fun c_6 => ?_) (fun c_6 => ?_)
  ·
    refine sw_aload_n (n := 24) F 0 (some q) rfl rfl rfl dJ35_divide_3_23 rfl ?_
    refine sw_aload_n (n := 25) F 1 (some q2) rfl rfl rfl dJ35_divide_3_24 rfl ?_
    refine sw_aload_n (n := 26) F 2 (some q3) rfl rfl rfl dJ35_divide_3_25 rfl ?_
    refine sw_iload_n (n := 27) F 3 rfl rfl dJ35_divide_3_26 rfl ?_
    refine sw_callV (n := 30) F (ct_J35_divideKnuth (g := xg x) (l := xl x) M q a n f q2 b k g2 q3 c hx hw hn hy hw2 hk hlt) (rcv_ob F 0 rfl rfl) q1966 q1967 q1968 q144 q1969 nd_J35_divideKnuth rfl (by decide) [0, 1, 2, 3] (perm_ok _ 4 (by decide +kernel) rfl) [] rfl 0 0 ⟨by omega, by omega⟩ [] rfl (Nat.le_of_ble_eq_true rfl) dJ35_divide_3_27 rfl (fun _ _ h => h.elim) (fun v Ws h => ?_)
    obtain ⟨r1_1, a1_2, f1_3, rfl, hf1_4, rfl⟩ := h
    show SW x [ob (xg x) q 19 [.ref a, .int (jI (↑n)), .int (jI 0)], pl (xg x) M, ob (xg x) q2 19 [.ref b, .int (jI (↑k)), .int (jI 0)], ob (xg x) q3 19 [.ref c, .int (jI 0), .int (jI 0)], ob (xg x) r1_1 19 [.ref a1_2, .int (jI (↑n)), .int (jI 0)], aN (xg x) 0 a1_2 n f1_3] _ _ _ _ [.ref r1_1]
    exact sw_aret F (some r1_1) _ rfl rfl (by first | exact Or.inl ⟨_, rfl⟩ | exact Or.inr ⟨_, rfl⟩) dJ35_divide_3_30 (by rw [hPo]; exact ⟨r1_1, a1_2, f1_3, rfl, hf1_4, rfl⟩)
  · exfalso; omega
theorem nd_J35_divide_2 : yJ35_divide_2.cls ≠ "java/lang/invoke/MethodHandle" ∧ yJ35_divide_2.cls ≠ "java/lang/invoke/VarHandle" ∧ (parseMethodDescriptor yJ35_divide_2.desc).map (fun d => d.parameters.length) = some 2 := by decide +kernel
set_option maxRecDepth 100000 in
set_option maxHeartbeats 16000000 in
theorem ct_J35_divide_2 {g : GG} {l : Launch} (M : Nat → Option PV) (q : Nat) (a : Nat) (n : Nat) (f : Nat → Nat) (q2 : Nat) (b : Nat) (k : Nat) (g2 : Nat → Nat) (q3 : Nat) (c : Nat) (hx : at_ g M a (vA n f)) (hw : wOK n f) (hn : 0 < n ∧ n ≤ 8) (hy : at_ g M b (vA k g2)) (hw2 : wOK k g2) (hk : 0 < k ∧ k ≤ 8) (hlt : wv f n < wv g2 k) : Ct g l yJ35_divide_2 (ws_ yJ35_divide_2 cJ35_divide_2 3 (Option.some (Jvm.ClassFile.FieldType.object "java/math/MutableBigInteger"))) 7 150 2 11 [.ref q, .ref q2, .ref q3] [ob g q 19 [.ref a, .int (jI (↑n)), .int (jI 0)], pl g M, ob g q2 19 [.ref b, .int (jI (↑k)), .int (jI 0)], ob g q3 19 [.ref c, .int (jI 0), .int (jI 0)]] (fun v9 Ws9 => ∃ r1 : Nat, ∃ a1 : Nat, ∃ f1 : Nat → Nat, v9 = some (.ref r1) ∧ (∀ j, j < n → f1 j = f j) ∧ Ws9 = [ob g q 19 [.ref a, .int (jI (↑n)), .int (jI 0)], pl g M, ob g q2 19 [.ref b, .int (jI (↑k)), .int (jI 0)], ob g q3 19 [.ref c, .int (jI 0), .int (jI 0)], ob g r1 19 [.ref a1, .int (jI (↑n)), .int (jI 0)], aN g 0 a1 n f1]) (nox) := by
  refine Ct.of (cc := cJ35_divide_2) (nL := 3) (ret := (Option.some (Jvm.ClassFile.FieldType.object "java/math/MutableBigInteger"))) (by decide) rfl (Nat.le_of_ble_eq_true rfl) ?_
  intro x hg hl hPo hPx hmc hms F
  subst hg; subst hl
  refine SW.cast (L' := [(0, .ref q), (1, .ref q2), (2, .ref q3)]) ?_ rfl rfl rfl
  refine sw_aload_n (n := 1) F 0 (some q) rfl rfl rfl dJ35_divide_2_0 rfl ?_
  refine sw_aload_n (n := 2) F 1 (some q2) rfl rfl rfl dJ35_divide_2_1 rfl ?_
  refine sw_aload_n (n := 3) F 2 (some q3) rfl rfl rfl dJ35_divide_2_2 rfl ?_
  refine sw_iconst (n := 4) F (1) (by decide) dJ35_divide_2_3 rfl ?_
  refine sw_callV (n := 7) F (ct_J35_divide_3 (g := xg x) (l := xl x) M q a n f q2 b k g2 q3 c hx hw hn hy hw2 hk hlt) (rcv_ob F 0 rfl rfl) q1962 q1963 q1964 q144 q1965 nd_J35_divide_3 rfl (by decide) [0, 1, 2, 3] (perm_ok _ 4 (by decide +kernel) rfl) [] rfl 0 0 ⟨by omega, by omega⟩ [] rfl (Nat.le_of_ble_eq_true rfl) dJ35_divide_2_4 rfl (fun _ _ h => h.elim) (fun v Ws h => ?_)
  obtain ⟨r1_1, a1_2, f1_3, rfl, hf1_4, rfl⟩ := h
  show SW x [ob (xg x) q 19 [.ref a, .int (jI (↑n)), .int (jI 0)], pl (xg x) M, ob (xg x) q2 19 [.ref b, .int (jI (↑k)), .int (jI 0)], ob (xg x) q3 19 [.ref c, .int (jI 0), .int (jI 0)], ob (xg x) r1_1 19 [.ref a1_2, .int (jI (↑n)), .int (jI 0)], aN (xg x) 0 a1_2 n f1_3] _ _ _ _ [.ref r1_1]
  exact sw_aret F (some r1_1) _ rfl rfl (by first | exact Or.inl ⟨_, rfl⟩ | exact Or.inr ⟨_, rfl⟩) dJ35_divide_2_7 (by rw [hPo]; exact ⟨r1_1, a1_2, f1_3, rfl, hf1_4, rfl⟩)
theorem nd_J35_compareHalf : yJ35_compareHalf.cls ≠ "java/lang/invoke/MethodHandle" ∧ yJ35_compareHalf.cls ≠ "java/lang/invoke/VarHandle" ∧ (parseMethodDescriptor yJ35_compareHalf.desc).map (fun d => d.parameters.length) = some 1 := by decide +kernel
set_option maxRecDepth 100000 in
set_option maxHeartbeats 16000000 in
theorem ct_J35_compareHalf {g : GG} {l : Launch} (M : Nat → Option PV) (q : Nat) (a : Nat) (n : Nat) (f : Nat → Nat) (q2 : Nat) (b : Nat) (k : Nat) (g2 : Nat → Nat) (hw : wOK n f) (hn : 0 < n ∧ n ≤ 8) (hy : at_ g M b (vA k g2)) (hw2 : wOK k g2) (hk : 0 < k ∧ k ≤ 8) : Ct g l yJ35_compareHalf (ws_ yJ35_compareHalf cJ35_compareHalf 15 (Option.some Jvm.ClassFile.FieldType.int)) 1 12 0 0 [.ref q, .ref q2] [ob g q 19 [.ref a, .int (jI (↑n)), .int (jI 0)], aN g 0 a n f, ob g q2 19 [.ref b, .int (jI (↑k)), .int (jI 0)], pl g M] (fun v9 Ws9 => v9 = some (.int (jI (cmpI (2 * wv f n) (wv g2 k)))) ∧ Ws9 = [ob g q 19 [.ref a, .int (jI (↑n)), .int (jI 0)], aN g 0 a n f, ob g q2 19 [.ref b, .int (jI (↑k)), .int (jI 0)], pl g M]) (nox) := by
  refine Ct.of (cc := cJ35_compareHalf) (nL := 15) (ret := (Option.some Jvm.ClassFile.FieldType.int)) (by decide) rfl (Nat.le_of_ble_eq_true rfl) ?_
  intro x hg hl hPo hPx hmc hms F
  subst hg; subst hl
  refine SW.cast (L' := [(0, .ref q), (1, .ref q2)]) ?_ rfl rfl rfl
  have hch := ch_0 hw hw2
  refine sw_aload_n (n := 1) F 1 (some q2) rfl rfl rfl dJ35_compareHalf_0 rfl ?_
  refine sw_get (n := 4) F 2 rfl (k := 1) ⟨(RJ35, TJ35, 3), rfl, by decide, q1837, in_J35, Or.inl rfl⟩ rfl dJ35_compareHalf_1 rfl ?_
  refine sw_istore_n (n := 5) F (L2 := [(2, .int (jI (↑k))), (0, .ref q), (1, .ref q2)]) rfl (by decide) rfl dJ35_compareHalf_4 rfl ?_
  refine sw_aload_n (n := 6) F 1 (some q) rfl rfl rfl dJ35_compareHalf_5 rfl ?_
  refine sw_get (n := 9) F 0 rfl (k := 1) ⟨(RJ35, TJ35, 3), rfl, by decide, q1837, in_J35, Or.inl rfl⟩ rfl dJ35_compareHalf_6 rfl ?_
  refine sw_istore_n (n := 10) F (L2 := [(3, .int (jI (↑n))), (2, .int (jI (↑k))), (0, .ref q), (1, .ref q2)]) rfl (by decide) rfl dJ35_compareHalf_9 rfl ?_
  refine sw_iload_n (n := 11) F 0 rfl rfl dJ35_compareHalf_10 rfl ?_
  refine sw_if_gt (n := 14) F (by omega) (tgt := 24) dJ35_compareHalf_11 (by decide) rfl (fun c_11 => ?_) (fun c_11 => ?_)
  ·
    refine sw_iload_n (n := 25) F 0 rfl rfl dJ35_compareHalf_24 rfl ?_
    refine sw_iload_n (n := 26) F 1 rfl rfl dJ35_compareHalf_25 rfl ?_
    refine sw_icmp_le (n := 29) F (by omega) (by omega) (tgt := 31) dJ35_compareHalf_26 (by decide) rfl (fun c_26 => ?_) (fun c_26 => ?_)
    ·
      refine sw_iload_n (n := 32) F 0 rfl rfl dJ35_compareHalf_31 rfl ?_
      refine sw_iload_n (n := 33) F 1 rfl rfl dJ35_compareHalf_32 rfl ?_
      refine sw_iconst (n := 34) F (1) (by decide) dJ35_compareHalf_33 rfl ?_
      refine sw_isub (n := 35) F dJ35_compareHalf_34 rfl ?_
      refine sw_icmp_ge (n := 38) F (by omega) (by omega) (tgt := 40) dJ35_compareHalf_35 (by decide) rfl (fun c_35 => ?_) (fun c_35 => ?_)
      ·
        refine sw_aload_n (n := 41) F 3 (some q2) rfl rfl rfl dJ35_compareHalf_40 rfl ?_
        refine sw_get (n := 44) F 2 rfl (k := 0) ⟨(RJ35, TJ35, 3), rfl, by decide, q1836, in_J35, Or.inl rfl⟩ rfl dJ35_compareHalf_41 rfl ?_
        refine sw_astore (n := 46) F (some b) (L2 := [(4, .ref b), (3, .int (jI (↑n))), (2, .int (jI (↑k))), (0, .ref q), (1, .ref q2)]) rfl rfl (by decide) dJ35_compareHalf_44 rfl ?_
        refine sw_iconst (n := 47) F (0) (by decide) dJ35_compareHalf_46 rfl ?_
        refine sw_istore (n := 49) F (L2 := [(5, .int (jI 0)), (4, .ref b), (3, .int (jI (↑n))), (2, .int (jI (↑k))), (0, .ref q), (1, .ref q2)]) rfl (by decide) dJ35_compareHalf_47 rfl ?_
        refine sw_iconst (n := 50) F (0) (by decide) dJ35_compareHalf_49 rfl ?_
        refine sw_istore (n := 52) F (L2 := [(6, .int (jI 0)), (5, .int (jI 0)), (4, .ref b), (3, .int (jI (↑n))), (2, .int (jI (↑k))), (0, .ref q), (1, .ref q2)]) rfl (by decide) dJ35_compareHalf_50 rfl ?_
        refine sw_iload_n (n := 53) F 3 rfl rfl dJ35_compareHalf_52 rfl ?_
        refine sw_iload_n (n := 54) F 4 rfl rfl dJ35_compareHalf_53 rfl ?_
        have K78 : ∀ (b0 : Nat) (c : Nat), (b0 + n = k ∧ b0 ≤ 1) → (c ≤ 1) → (c = wv g2 b0) → SW x [ob (xg x) q 19 [.ref a, .int (jI (↑n)), .int (jI 0)], aN (xg x) 0 a n f, ob (xg x) q2 19 [.ref b, .int (jI (↑k)), .int (jI 0)], pl (xg x) M] 0 0 78 [(0, .ref q), (1, .ref q2), (3, .int (jI (↑n))), (4, .ref b), (5, .int (jI (↑b0))), (6, .int (jI (↑c * 2147483648)))] [] := by
          intro b0 c hb0 hc hbc
          refine sw_aload_n (n := 79) F 0 (some q) rfl rfl rfl dJ35_compareHalf_78 rfl ?_
          refine sw_get (n := 82) F 0 rfl (k := 0) ⟨(RJ35, TJ35, 3), rfl, by decide, q1836, in_J35, Or.inl rfl⟩ rfl dJ35_compareHalf_79 rfl ?_
          refine sw_astore (n := 84) F (some a) (L2 := [(7, .ref a), (0, .ref q), (1, .ref q2), (3, .int (jI (↑n))), (4, .ref b), (5, .int (jI (↑b0))), (6, .int (jI (↑c * 2147483648)))]) rfl rfl (by decide) dJ35_compareHalf_82 rfl ?_
          refine sw_aload_n (n := 85) F 1 (some q) rfl rfl rfl dJ35_compareHalf_84 rfl ?_
          refine sw_get (n := 88) F 0 rfl (k := 2) ⟨(RJ35, TJ35, 3), rfl, by decide, q1838, in_J35, Or.inl rfl⟩ rfl dJ35_compareHalf_85 rfl ?_
          refine sw_istore (n := 90) F (L2 := [(8, .int (jI 0)), (7, .ref a), (0, .ref q), (1, .ref q2), (3, .int (jI (↑n))), (4, .ref b), (5, .int (jI (↑b0))), (6, .int (jI (↑c * 2147483648)))]) rfl (by decide) dJ35_compareHalf_88 rfl ?_
          refine sw_iload (n := 92) F 6 rfl dJ35_compareHalf_90 rfl ?_
          refine sw_istore (n := 94) F (L2 := [(9, .int (jI (↑b0))), (8, .int (jI 0)), (7, .ref a), (0, .ref q), (1, .ref q2), (3, .int (jI (↑n))), (4, .ref b), (5, .int (jI (↑b0))), (6, .int (jI (↑c * 2147483648)))]) rfl (by decide) dJ35_compareHalf_92 rfl ?_
          have K94 : ∀ N94 : Nat, ∀ (i : Nat) (c : Nat), (i ≤ n) → (c ≤ 1) → (2 * wv f i + c = wv g2 (b0 + i)) → ((n - i) < N94) → SW x [ob (xg x) q 19 [.ref a, .int (jI (↑n)), .int (jI 0)], aN (xg x) 0 a n f, ob (xg x) q2 19 [.ref b, .int (jI (↑k)), .int (jI 0)], pl (xg x) M] 0 0 94 [(0, .ref q), (3, .int (jI (↑n))), (4, .ref b), (6, .int (jI (↑c * 2147483648))), (7, .ref a), (8, .int (jI (↑i))), (9, .int (jI (↑b0 + ↑i)))] [] := by
            intro N94; induction N94 with
            | zero => intro i c hi hc hI hmu94; omega
            | succ N94 ih94 =>
              intro i c hi hc hI hmu94
              refine sw_iload (n := 96) F 5 rfl dJ35_compareHalf_94 rfl ?_
              refine sw_iload_n (n := 97) F 1 rfl rfl dJ35_compareHalf_96 rfl ?_
              refine sw_aload_n (n := 98) F 0 (some q) rfl rfl rfl dJ35_compareHalf_97 rfl ?_
              refine sw_get (n := 101) F 0 rfl (k := 2) ⟨(RJ35, TJ35, 3), rfl, by decide, q1838, in_J35, Or.inl rfl⟩ rfl dJ35_compareHalf_98 rfl ?_
              refine sw_iadd (n := 102) F dJ35_compareHalf_101 rfl ?_
              refine sw_icmp_ge (n := 105) F (by omega) (by omega) (tgt := 178) dJ35_compareHalf_102 (by decide) rfl (fun c_102 => ?_) (fun c_102 => ?_)
              ·
                refine sw_iload (n := 180) F 3 rfl dJ35_compareHalf_178 rfl ?_
                refine sw_if_neU (n := 183) F (by omega) (tgt := 187) dJ35_compareHalf_180 (by decide) rfl (fun c_180 => ?_) (fun c_180 => ?_)
                ·
                  refine sw_iconst (n := 188) F (-1) (by decide) dJ35_compareHalf_187 rfl ?_
                  exact sw_iret F _ rfl (by first | rfl | exact jI_nz (by omega) | exact jI_nc (by omega)) dJ35_compareHalf_188 (by rw [hPo]; exact ⟨(by have e9 := hI; rw [show i = n by omega, show b0 + n = k by omega] at e9; first | (rw [cmpI_eq (by omega)]) | (rw [cmpI_lt (by omega)])), rfl⟩)
                ·
                  refine sw_iconst (n := 184) F (0) (by decide) dJ35_compareHalf_183 rfl ?_
                  refine sw_goto F (n := 188) dJ35_compareHalf_184 (by decide) ?_
                  exact sw_iret F _ rfl (by first | rfl | exact jI_nz (by omega) | exact jI_nc (by omega)) dJ35_compareHalf_188 (by rw [hPo]; exact ⟨(by have e9 := hI; rw [show i = n by omega, show b0 + n = k by omega] at e9; first | (rw [cmpI_eq (by omega)]) | (rw [cmpI_lt (by omega)])), rfl⟩)
              ·
                have hb_x : f i < 4294967296 := hw.1 _ (by omega)
                have hb_y : g2 (b0 + i) < 4294967296 := hw2.1 _ (by omega)
                obtain ⟨bv, hbv⟩ : ∃ z : Nat, z = g2 (b0 + i) := ⟨_, rfl⟩
                obtain ⟨hb, hhb⟩ : ∃ z : Nat, z = bv / 2 + c * 2147483648 := ⟨_, rfl⟩
                have hcs := ch_s (v := f i) hI hhb
                have hce := ch_e (b := b0) (i := i) hw.1 (fun j9 hj9 => hw2.1 j9 (by omega)) (show i < n by omega)
                rw [show b0 + n = k by omega, wv_s, show b0 + i + 1 = (b0 + i) + 1 from rfl, wv_s, ← hbv] at hce
                refine sw_aload (n := 107) F 2 (some b) rfl rfl dJ35_compareHalf_105 rfl ?_
                refine sw_iload (n := 109) F 6 rfl dJ35_compareHalf_107 rfl ?_
                refine sw_iinc (n := 112) F 6 (L2 := [(9, .int (jI (↑b0 + ↑i + 1))), (0, .ref q), (3, .int (jI (↑n))), (4, .ref b), (6, .int (jI (↑c * 2147483648))), (7, .ref a), (8, .int (jI (↑i)))]) rfl rfl (by decide) dJ35_compareHalf_109 rfl ?_
                refine sw_ialoadK (n := 113) F (plA F 3 rfl hy) (b0 + i) (by omega) (by omega) dJ35_compareHalf_112 rfl ?_
                show SW x _ _ _ _ _ [.int (jI (↑(g2 (b0 + i))))]
                refine sw_top (topI (show (↑(g2 (b0 + i)) : Int) = ↑bv by rw [hbv])) ?_
                refine sw_istore (n := 115) F (L2 := [(10, .int (jI (↑bv))), (9, .int (jI (↑b0 + ↑i + 1))), (0, .ref q), (3, .int (jI (↑n))), (4, .ref b), (6, .int (jI (↑c * 2147483648))), (7, .ref a), (8, .int (jI (↑i)))]) rfl (by decide) dJ35_compareHalf_113 rfl ?_
                refine sw_iload (n := 117) F 0 rfl dJ35_compareHalf_115 rfl ?_
                refine sw_iconst (n := 118) F (1) (by decide) dJ35_compareHalf_117 rfl ?_
                refine sw_iushr (n := 119) F (jI ((↑bv) / 2)) (by have h7s := jI_ushrPQ (z := ↑bv) (c := 1) (P := 2) (k := 1) (by omega) (by decide) (by decide); exact h7s) dJ35_compareHalf_118 rfl ?_
                refine sw_iload (n := 121) F 5 rfl dJ35_compareHalf_119 rfl ?_
                refine sw_iadd (n := 122) F dJ35_compareHalf_121 rfl ?_
                refine sw_top (topI (show (((↑bv) / 2) + (↑c * 2147483648) : Int) = ↑hb by omega)) ?_
                refine sw_i2lr (n := 123) F dJ35_compareHalf_122 rfl ?_
                refine sw_ldc2 (n := 126) F (4294967295) q1865 (by decide) dJ35_compareHalf_123 rfl ?_
                refine sw_land (n := 127) F (jL (↑hb)) (jI_wordE (by omega)) dJ35_compareHalf_126 rfl ?_
                refine sw_lstore (n := 129) F (L2 := [(11, .long (jL (↑hb))), (10, .int (jI (↑bv))), (9, .int (jI (↑b0 + ↑i + 1))), (0, .ref q), (3, .int (jI (↑n))), (4, .ref b), (6, .int (jI (↑c * 2147483648))), (7, .ref a), (8, .int (jI (↑i)))]) rfl (by decide) dJ35_compareHalf_127 rfl ?_
                refine sw_aload (n := 131) F 7 (some a) rfl rfl dJ35_compareHalf_129 rfl ?_
                refine sw_iload (n := 133) F 8 rfl dJ35_compareHalf_131 rfl ?_
                refine sw_iinc (n := 136) F 8 (L2 := [(8, .int (jI (↑i + 1))), (11, .long (jL (↑hb))), (10, .int (jI (↑bv))), (9, .int (jI (↑b0 + ↑i + 1))), (0, .ref q), (3, .int (jI (↑n))), (4, .ref b), (6, .int (jI (↑c * 2147483648))), (7, .ref a)]) rfl rfl (by decide) dJ35_compareHalf_133 rfl ?_
                refine sw_ialoadN (n := 137) F 1 rfl (fun _ => rfl) i (by omega) (by omega) dJ35_compareHalf_136 rfl ?_
                have hb_1 : f i < 4294967296 := hw.1 _ (by omega)
                refine sw_i2lr (n := 138) F dJ35_compareHalf_137 rfl ?_
                refine sw_ldc2 (n := 141) F (4294967295) q1865 (by decide) dJ35_compareHalf_138 rfl ?_
                refine sw_land (n := 142) F (jL (↑(f i))) (jI_wordE (by omega)) dJ35_compareHalf_141 rfl ?_
                refine sw_lstore (n := 144) F (L2 := [(13, .long (jL (↑(f i)))), (8, .int (jI (↑i + 1))), (11, .long (jL (↑hb))), (10, .int (jI (↑bv))), (9, .int (jI (↑b0 + ↑i + 1))), (0, .ref q), (3, .int (jI (↑n))), (4, .ref b), (6, .int (jI (↑c * 2147483648))), (7, .ref a)]) rfl (by decide) dJ35_compareHalf_142 rfl ?_
                refine sw_lload (n := 146) F 0 rfl dJ35_compareHalf_144 rfl ?_
                refine sw_lload (n := 148) F 2 rfl dJ35_compareHalf_146 rfl ?_
                refine sw_lcmp (n := 149) F (by omega) (by omega) dJ35_compareHalf_148 rfl ?_
                refine sw_if_eq (n := 152) F (lc_rng _ _) (tgt := 166) dJ35_compareHalf_149 (by decide) rfl (fun c_149 => ?_) (fun c_149 => ?_)
                ·
                  have c_149 := lc_eq c_149
                  refine sw_iload (n := 168) F 3 rfl dJ35_compareHalf_166 rfl ?_
                  refine sw_iconst (n := 169) F (1) (by decide) dJ35_compareHalf_168 rfl ?_
                  refine sw_iand (n := 170) F (jI ((↑bv) % 2)) (jI_and 1 (by decide) (by rfl)) dJ35_compareHalf_169 rfl ?_
                  refine sw_bipush (n := 172) F (31) (by decide) dJ35_compareHalf_170 rfl ?_
                  refine sw_ishl (n := 173) F (jI (((↑bv) % 2) * 2147483648)) (by have h7s := jI_shlQ ((↑bv) % 2) (c := 31) (P := 2147483648) (k := 31) (by decide) (by decide); exact h7s) dJ35_compareHalf_172 rfl ?_
                  refine sw_top (topI (show (((↑bv) % 2) * 2147483648 : Int) = ↑(bv % 2) * 2147483648 by omega)) ?_
                  refine sw_istore (n := 175) F (L2 := [(6, .int (jI (↑(bv % 2) * 2147483648))), (13, .long (jL (↑(f i)))), (8, .int (jI (↑i + 1))), (11, .long (jL (↑hb))), (10, .int (jI (↑bv))), (9, .int (jI (↑b0 + ↑i + 1))), (0, .ref q), (3, .int (jI (↑n))), (4, .ref b), (7, .ref a)]) rfl (by decide) dJ35_compareHalf_173 rfl ?_
                  refine sw_goto F (n := 94) dJ35_compareHalf_175 (by decide) ?_
                  refine sw_loc [6, 7, 8, 0, 9, 2, 5] (L2 := [(0, .ref q), (3, .int (jI (↑n))), (4, .ref b), (6, .int (jI (↑(bv % 2) * 2147483648))), (7, .ref a), (8, .int (jI (↑i + 1))), (9, .int (jI (↑b0 + ↑i + 1)))]) rfl ?_
                  rw [show (↑i + 1 : Int) = ↑(i + 1) by omega]
                  rw [show (↑b0 + ↑i + 1 : Int) = ↑b0 + ↑(i + 1) by omega]
                  exact ih94 (i + 1) (bv % 2) (by first | omega | assumption) (by omega) (by first | (have e9 := hcs.1 (by omega); rw [wv_s, show b0 + (i + 1) = (b0 + i) + 1 from rfl, wv_s, ← hbv]; exact e9) | (show 2 * 0 + c = wv g2 (b0 + 0); rw [Nat.add_zero, ← hbc]; omega)) (by omega)
                ·
                  have c_149 := lc_ne c_149
                  refine sw_lload (n := 154) F 0 rfl dJ35_compareHalf_152 rfl ?_
                  refine sw_lload (n := 156) F 2 rfl dJ35_compareHalf_154 rfl ?_
                  refine sw_lcmp (n := 157) F (by omega) (by omega) dJ35_compareHalf_156 rfl ?_
                  refine sw_if_ge (n := 160) F (lc_rng _ _) (tgt := 164) dJ35_compareHalf_157 (by decide) rfl (fun c_157 => ?_) (fun c_157 => ?_)
                  ·
                    have c_157 := lc_ge c_157
                    refine sw_iconst (n := 165) F (1) (by decide) dJ35_compareHalf_164 rfl ?_
                    exact sw_iret F _ rfl (by first | rfl | exact jI_nz (by omega) | exact jI_nc (by omega)) dJ35_compareHalf_165 (by rw [hPo]; exact ⟨(by first | (rw [hce.1 (hcs.2.1 (by omega))]) | (rw [hce.2 (hcs.2.2 (by omega))])), rfl⟩)
                  ·
                    have c_157 := lc_lt c_157
                    refine sw_iconst (n := 161) F (-1) (by decide) dJ35_compareHalf_160 rfl ?_
                    refine sw_goto F (n := 165) dJ35_compareHalf_161 (by decide) ?_
                    exact sw_iret F _ rfl (by first | rfl | exact jI_nz (by omega) | exact jI_nc (by omega)) dJ35_compareHalf_165 (by rw [hPo]; exact ⟨(by first | (rw [hce.1 (hcs.2.1 (by omega))]) | (rw [hce.2 (hcs.2.2 (by omega))])), rfl⟩)
          refine SW.cast (L' := [(9, .int (jI (↑b0 + 0))), (8, .int (jI 0)), (7, .ref a), (0, .ref q), (1, .ref q2), (3, .int (jI (↑n))), (4, .ref b), (5, .int (jI (↑b0))), (6, .int (jI (↑c * 2147483648)))]) ?_ rfl (by rw [show Value.int (jI (↑b0)) = Value.int (jI (↑b0 + 0)) from topI (by omega)]) rfl
          refine sw_loc [3, 5, 6, 8, 2, 1, 0] (L2 := [(0, .ref q), (3, .int (jI (↑n))), (4, .ref b), (6, .int (jI (↑c * 2147483648))), (7, .ref a), (8, .int (jI 0)), (9, .int (jI (↑b0 + 0)))]) rfl ?_
          exact K94 _ 0 c (by first | omega | assumption) (by omega) (by first | (have e9 := hcs.1 (by omega); rw [wv_s, show b0 + (i + 1) = (b0 + i) + 1 from rfl, wv_s, ← hbv]; exact e9) | (show 2 * 0 + c = wv g2 (b0 + 0); rw [Nat.add_zero, ← hbc]; omega)) (Nat.lt_succ_self _)
        refine sw_icmp_eq (n := 57) F (by omega) (by omega) (tgt := 78) dJ35_compareHalf_54 (by decide) rfl (fun c_54 => ?_) (fun c_54 => ?_)
        ·
          refine SW.cast (L' := [(6, .int (jI (0 * 2147483648))), (5, .int (jI 0)), (4, .ref b), (3, .int (jI (↑n))), (2, .int (jI (↑k))), (0, .ref q), (1, .ref q2)]) ?_ rfl (by rw [show Value.int (jI 0) = Value.int (jI (0 * 2147483648)) from topI (by rfl)]) rfl
          refine sw_loc [5, 6, 3, 2, 1, 0] (L2 := [(0, .ref q), (1, .ref q2), (3, .int (jI (↑n))), (4, .ref b), (5, .int (jI 0)), (6, .int (jI (0 * 2147483648)))]) rfl ?_
          exact K78 0 0 (by first | omega | assumption) (by omega) (by first | rfl | (show 1 = wv g2 1; rw [wv_1]; omega))
        ·
          have hb_0 : g2 0 < 4294967296 := hw2.1 _ (by omega)
          refine sw_aload (n := 59) F 2 (some b) rfl rfl dJ35_compareHalf_57 rfl ?_
          refine sw_iload (n := 61) F 1 rfl dJ35_compareHalf_59 rfl ?_
          refine sw_ialoadK (n := 62) F (plA F 3 rfl hy) 0 rfl (by omega) dJ35_compareHalf_61 rfl ?_
          show SW x _ _ _ _ _ [.int (jI (↑(g2 0)))]
          refine sw_iconst (n := 63) F (1) (by decide) dJ35_compareHalf_62 rfl ?_
          refine sw_icmp_neU (n := 66) F (by omega) (by omega) (tgt := 76) dJ35_compareHalf_63 (by decide) rfl (fun c_63 => ?_) (fun c_63 => ?_)
          ·
            refine sw_iconst (n := 77) F (-1) (by decide) dJ35_compareHalf_76 rfl ?_
            exact sw_iret F _ rfl (by first | rfl | exact jI_nz (by omega) | exact jI_nc (by omega)) dJ35_compareHalf_77 (by rw [hPo]; exact ⟨(by rw [hch.2.2 (by omega) (by omega)]), rfl⟩)
          ·
            refine sw_iinc (n := 69) F 1 (L2 := [(5, .int (jI (0 + 1))), (6, .int (jI 0)), (4, .ref b), (3, .int (jI (↑n))), (2, .int (jI (↑k))), (0, .ref q), (1, .ref q2)]) rfl rfl (by decide) dJ35_compareHalf_66 rfl ?_
            refine sw_ldc (n := 71) F (-2147483648) q1899 (by decide) dJ35_compareHalf_69 rfl ?_
            refine sw_istore (n := 73) F (L2 := [(6, .int (jI (-2147483648))), (5, .int (jI (0 + 1))), (4, .ref b), (3, .int (jI (↑n))), (2, .int (jI (↑k))), (0, .ref q), (1, .ref q2)]) rfl (by decide) dJ35_compareHalf_71 rfl ?_
            refine sw_goto F (n := 78) dJ35_compareHalf_73 (by decide) ?_
            refine SW.cast (L' := [(6, .int (jI (1 * 2147483648))), (5, .int (jI (0 + 1))), (4, .ref b), (3, .int (jI (↑n))), (2, .int (jI (↑k))), (0, .ref q), (1, .ref q2)]) ?_ rfl (by rw [show Value.int (jI (-2147483648)) = Value.int (jI (1 * 2147483648)) from topIm (by decide)]) rfl
            refine sw_loc [5, 6, 3, 2, 1, 0] (L2 := [(0, .ref q), (1, .ref q2), (3, .int (jI (↑n))), (4, .ref b), (5, .int (jI (0 + 1))), (6, .int (jI (1 * 2147483648)))]) rfl ?_
            rw [show (0 + 1 : Int) = ↑(0 + 1) by omega]
            exact K78 (0 + 1) 1 (by first | omega | assumption) (by omega) (by first | rfl | (show 1 = wv g2 1; rw [wv_1]; omega))
      ·
        refine sw_iconst (n := 39) F (-1) (by decide) dJ35_compareHalf_38 rfl ?_
        exact sw_iret F _ rfl (by first | rfl | exact jI_nz (by omega) | exact jI_nc (by omega)) dJ35_compareHalf_39 (by rw [hPo]; exact ⟨(by rw [hch.2.1 (by omega)]), rfl⟩)
    ·
      refine sw_iconst (n := 30) F (1) (by decide) dJ35_compareHalf_29 rfl ?_
      exact sw_iret F _ rfl (by first | rfl | exact jI_nz (by omega) | exact jI_nc (by omega)) dJ35_compareHalf_30 (by rw [hPo]; exact ⟨(by rw [hch.1 (by omega)]), rfl⟩)
  · exfalso; omega
set_option maxRecDepth 100000 in
set_option maxHeartbeats 16000000 in
theorem ct_J35_isOdd_z {g : GG} {l : Launch} (q : Nat) (c : Nat)  : Ct g l yJ35_isOdd (ws_ yJ35_isOdd cJ35_isOdd 1 (Option.some Jvm.ClassFile.FieldType.boolean)) 2 32 0 0 [.ref q] [ob g q 19 [.ref c, .int (jI 0), .int (jI 0)]] (fun v9 Ws9 => v9 = some (.int (jI 0)) ∧ Ws9 = [ob g q 19 [.ref c, .int (jI 0), .int (jI 0)]]) (nox) := by
  refine Ct.of (cc := cJ35_isOdd) (nL := 1) (ret := (Option.some Jvm.ClassFile.FieldType.boolean)) (by decide) rfl (Nat.le_of_ble_eq_true rfl) ?_
  intro x hg hl hPo hPx hmc hms F
  subst hg; subst hl
  refine SW.cast (L' := [(0, .ref q)]) ?_ rfl rfl rfl
  refine sw_aload_n (n := 1) F 0 (some q) rfl rfl rfl dJ35_isOdd_0 rfl ?_
  refine sw_callV (n := 4) F (ct_J35_isZero (g := xg x) (l := xl x) q c 0 0 (by first | omega | assumption)) (rcv_ob F 0 rfl rfl) q1930 q1931 q1932 q144 q1933 nd_J35_isZero rfl (by decide) [0] rfl [] rfl 0 0 ⟨by omega, by omega⟩ [] rfl (Nat.le_of_ble_eq_true rfl) dJ35_isOdd_1 rfl (fun _ _ h => h.elim) (fun v Ws h => ?_)
  obtain ⟨rfl, rfl⟩ := h
  show SW x [ob (xg x) q 19 [.ref c, .int (jI 0), .int (jI 0)]] _ _ _ _ [.int (jI (if 0 = 0 then 1 else 0))]
  refine sw_top (topI (show (if 0 = 0 then 1 else 0 : Int) = 1 by rfl)) ?_
  refine sw_if_eq (n := 7) F (by decide) (tgt := 11) dJ35_isOdd_4 (by decide) rfl (fun c_4 => ?_) (fun c_4 => ?_)
  · exfalso; omega
  ·
    refine sw_iconst (n := 8) F (0) (by decide) dJ35_isOdd_7 rfl ?_
    refine sw_goto F (n := 38) dJ35_isOdd_8 (by decide) ?_
    exact sw_iret F _ rfl (by first | rfl | exact jI_nz (by omega) | exact jI_nc (by omega)) dJ35_isOdd_38 (by rw [hPo]; exact ⟨rfl, rfl⟩)
theorem nd_J8_needIncrement_3 : yJ8_needIncrement_3.cls ≠ "java/lang/invoke/MethodHandle" ∧ yJ8_needIncrement_3.cls ≠ "java/lang/invoke/VarHandle" ∧ (parseMethodDescriptor yJ8_needIncrement_3.desc).map (fun d => d.parameters.length) = some 5 := by decide +kernel
set_option maxRecDepth 100000 in
set_option maxHeartbeats 16000000 in
theorem ct_J8_needIncrement_3 {g : GG} {l : Launch} (M : Nat → Option PV) (m : Int) (sg : Int) (q : Nat) (a : Nat) (n : Nat) (f : Nat → Nat) (q2 : Nat) (b : Nat) (k : Nat) (g2 : Nat → Nat) (q3 : Nat) (c3 : Nat) (hw : wOK n f) (hn : 0 < n ∧ n ≤ 8) (hy : at_ g M b (vA k g2)) (hw2 : wOK k g2) (hk : 0 < k ∧ k ≤ 8) (hm : 0 ≤ m ∧ m ≤ 7) (hsg : sg = 1 ∨ sg = -1) : Ct g l yJ8_needIncrement_3 (ws_ yJ8_needIncrement_3 cJ8_needIncrement_3 6 (Option.some Jvm.ClassFile.FieldType.boolean)) 7 105 1 6 [.ref q2, .int (jI m), .int (jI sg), .ref q3, .ref q] [ob g q 19 [.ref a, .int (jI (↑n)), .int (jI 0)], aN g 0 a n f, ob g q2 19 [.ref b, .int (jI (↑k)), .int (jI 0)], pl g M, ob g q3 19 [.ref c3, .int (jI 0), .int (jI 0)]] (fun v9 Ws9 => v9 = some (.int (jI (cnI m sg (cmpI (2 * wv f n) (wv g2 k)) 0))) ∧ (m ≠ 7) ∧ Ws9 = [ob g q 19 [.ref a, .int (jI (↑n)), .int (jI 0)], aN g 0 a n f, ob g q2 19 [.ref b, .int (jI (↑k)), .int (jI 0)], pl g M, ob g q3 19 [.ref c3, .int (jI 0), .int (jI 0)]]) (fun E9 Ws9 => (E9 = "java/lang/ArithmeticException" ∧ (m = 7) ∧ Ws9 = [ob g q 19 [.ref a, .int (jI (↑n)), .int (jI 0)], aN g 0 a n f, ob g q2 19 [.ref b, .int (jI (↑k)), .int (jI 0)], pl g M, ob g q3 19 [.ref c3, .int (jI 0), .int (jI 0)]])) := by
  refine Ct.of (cc := cJ8_needIncrement_3) (nL := 6) (ret := (Option.some Jvm.ClassFile.FieldType.boolean)) (by decide) rfl (Nat.le_of_ble_eq_true rfl) ?_
  intro x hg hl hPo hPx hmc hms F
  subst hg; subst hl
  refine SW.cast (L' := [(0, .ref q2), (1, .int (jI m)), (2, .int (jI sg)), (3, .ref q3), (4, .ref q)]) ?_ rfl rfl rfl
  refine sw_gets (n := 3) F (kaBD F.gx.1).1 q1527 (Or.inl rfl) dJ8_needIncrement_3_0 rfl ?_
  refine sw_if_ne (n := 6) F (by decide) (tgt := 22) dJ8_needIncrement_3_3 (by decide) rfl (fun c_3 => ?_) (fun c_3 => ?_)
  ·
    refine sw_aload (n := 24) F 4 (some q) rfl rfl dJ8_needIncrement_3_22 rfl ?_
    refine sw_aload_n (n := 25) F 0 (some q2) rfl rfl rfl dJ8_needIncrement_3_24 rfl ?_
    refine sw_callV (n := 28) F (ct_J35_compareHalf (g := xg x) (l := xl x) M q a n f q2 b k g2 hw hn hy hw2 hk) (rcv_ob F 0 rfl rfl) q2097 q2098 q2099 q144 q2100 nd_J35_compareHalf rfl (by decide) [0, 1, 2, 3, 4] (perm_ok _ 5 (by decide +kernel) rfl) [ob (xg x) q3 19 [.ref c3, .int (jI 0), .int (jI 0)]] rfl 1 6 ⟨by omega, by omega⟩ [] rfl (Nat.le_of_ble_eq_true rfl) dJ8_needIncrement_3_25 rfl (fun _ _ h => h.elim) (fun v Ws h => ?_)
    obtain ⟨rfl, rfl⟩ := h
    show SW x [ob (xg x) q 19 [.ref a, .int (jI (↑n)), .int (jI 0)], aN (xg x) 0 a n f, ob (xg x) q2 19 [.ref b, .int (jI (↑k)), .int (jI 0)], pl (xg x) M, ob (xg x) q3 19 [.ref c3, .int (jI 0), .int (jI 0)]] _ _ _ _ [.int (jI (cmpI (2 * wv f n) (wv g2 k)))]
    refine sw_istore (n := 30) F (L2 := [(5, .int (jI (cmpI (2 * wv f n) (wv g2 k)))), (0, .ref q2), (1, .int (jI m)), (2, .int (jI sg)), (3, .ref q3), (4, .ref q)]) rfl (by decide) dJ8_needIncrement_3_28 rfl ?_
    have hcr := cmpI_cases (2 * wv f n) (wv g2 k)
    refine sw_iload_n (n := 31) F 2 rfl rfl dJ8_needIncrement_3_30 rfl ?_
    refine sw_iload_n (n := 32) F 3 rfl rfl dJ8_needIncrement_3_31 rfl ?_
    refine sw_iload (n := 34) F 0 rfl dJ8_needIncrement_3_32 rfl ?_
    refine sw_aload_n (n := 35) F 4 (some q3) rfl rfl rfl dJ8_needIncrement_3_34 rfl ?_
    refine sw_callV (n := 38) F (ct_J35_isOdd_z (g := xg x) (l := xl x) q3 c3 ) (rcv_ob F 4 rfl rfl) q1926 q1927 q1928 q144 q1929 nd_J35_isOdd rfl (by decide) [4, 0, 1, 2, 3] (perm_ok _ 5 (by decide +kernel) rfl) [ob (xg x) q 19 [.ref a, .int (jI (↑n)), .int (jI 0)], aN (xg x) 0 a n f, ob (xg x) q2 19 [.ref b, .int (jI (↑k)), .int (jI 0)], pl (xg x) M] rfl 1 6 ⟨by omega, by omega⟩ [.int (jI (cmpI (2 * wv f n) (wv g2 k))), .int (jI sg), .int (jI m)] rfl (Nat.le_of_ble_eq_true rfl) dJ8_needIncrement_3_35 rfl (fun _ _ h => h.elim) (fun v Ws h => ?_)
    obtain ⟨rfl, rfl⟩ := h
    show SW x [ob (xg x) q3 19 [.ref c3, .int (jI 0), .int (jI 0)], ob (xg x) q 19 [.ref a, .int (jI (↑n)), .int (jI 0)], aN (xg x) 0 a n f, ob (xg x) q2 19 [.ref b, .int (jI (↑k)), .int (jI 0)], pl (xg x) M] _ _ _ _ [.int (jI 0), .int (jI (cmpI (2 * wv f n) (wv g2 k))), .int (jI sg), .int (jI m)]
    refine sw_callS (n := 41) F (ct_J8_commonNeedIncrement (g := xg x) (l := xl x) m sg (cmpI (2 * wv f n) (wv g2 k)) 0 hm hsg (by first | omega | assumption) (by first | omega | assumption)) q1781 q1782 q112 q1783 nd_J8_commonNeedIncrement rfl (by decide) [0, 1, 2, 3, 4] (perm_ok _ 5 (by decide +kernel) rfl) [ob (xg x) q3 19 [.ref c3, .int (jI 0), .int (jI 0)], ob (xg x) q 19 [.ref a, .int (jI (↑n)), .int (jI 0)], aN (xg x) 0 a n f, ob (xg x) q2 19 [.ref b, .int (jI (↑k)), .int (jI 0)], pl (xg x) M] rfl 0 0 ⟨by omega, by omega⟩ [] rfl (Nat.le_of_ble_eq_true rfl) dJ8_needIncrement_3_38 rfl (fun E Ws h => ?_) (fun v Ws h => ?_)
    ·
      obtain ⟨rfl, h7_2, rfl⟩ := h
      show SX x [ob (xg x) q3 19 [.ref c3, .int (jI 0), .int (jI 0)], ob (xg x) q 19 [.ref a, .int (jI (↑n)), .int (jI 0)], aN (xg x) 0 a n f, ob (xg x) q2 19 [.ref b, .int (jI (↑k)), .int (jI 0)], pl (xg x) M] _ _ _ _ _
      refine sx_perm [1, 2, 3, 4, 0] (perm_ok _ 5 (by decide +kernel) rfl) [ob (xg x) q 19 [.ref a, .int (jI (↑n)), .int (jI 0)], aN (xg x) 0 a n f, ob (xg x) q2 19 [.ref b, .int (jI (↑k)), .int (jI 0)], pl (xg x) M, ob (xg x) q3 19 [.ref c3, .int (jI 0), .int (jI 0)]] rfl ?_
      exact sx_out F (by rw [hPx]; exact ⟨rfl, h7_2, rfl⟩)
    ·
      obtain ⟨rfl, h7_1, rfl⟩ := h
      show SW x [ob (xg x) q3 19 [.ref c3, .int (jI 0), .int (jI 0)], ob (xg x) q 19 [.ref a, .int (jI (↑n)), .int (jI 0)], aN (xg x) 0 a n f, ob (xg x) q2 19 [.ref b, .int (jI (↑k)), .int (jI 0)], pl (xg x) M] _ _ _ _ [.int (jI (cnI m sg (cmpI (2 * wv f n) (wv g2 k)) 0))]
      refine sw_perm [1, 2, 3, 4, 0] (perm_ok _ 5 (by decide +kernel) rfl) [ob (xg x) q 19 [.ref a, .int (jI (↑n)), .int (jI 0)], aN (xg x) 0 a n f, ob (xg x) q2 19 [.ref b, .int (jI (↑k)), .int (jI 0)], pl (xg x) M, ob (xg x) q3 19 [.ref c3, .int (jI 0), .int (jI 0)]] rfl ?_
      exact sw_iret F _ rfl (by exact jI_nz (cnI_01 (Or.inl rfl))) dJ8_needIncrement_3_41 (by rw [hPo]; exact ⟨rfl, h7_1, rfl⟩)
  · exfalso; exact absurd c_3 (by decide)
theorem nd_J8_divideAndRound_5 : yJ8_divideAndRound_5.cls ≠ "java/lang/invoke/MethodHandle" ∧ yJ8_divideAndRound_5.cls ≠ "java/lang/invoke/VarHandle" ∧ (parseMethodDescriptor yJ8_divideAndRound_5.desc).map (fun d => d.parameters.length) = some 5 := by decide +kernel
set_option maxRecDepth 100000 in
set_option maxHeartbeats 16000000 in
theorem ct_J8_divideAndRound_5 {g : GG} {l : Launch} (M : Nat → Option PV) (q : Nat) (v : Int) (a : Nat) (q2 : Nat) (w : Int) (b : Nat) (s : Int) (m : Int) (hx : at_ g M q (vI v a)) (hy : at_ g M q2 (vI w b)) (hv0 : v ≠ 0) (hb : v.natAbs < bw 6) (hb2 : w.natAbs < bw 6) (hlt : v.natAbs < w.natAbs) (hm : 0 ≤ m ∧ m ≤ 7) (hs : -2147483648 ≤ s ∧ s ≤ 2147483647) : Ct g l yJ8_divideAndRound_5 (ws_ yJ8_divideAndRound_5 cJ8_divideAndRound_5 14 (Option.some (Jvm.ClassFile.FieldType.object "java/math/BigDecimal"))) 8 172 11 54 [.ref q, .ref q2, .int (jI s), .int (jI m), .int (jI s)] [pl g M] (fun v9 Ws9 => ∃ M1 : Nat → Option PV, ∃ r1 : Nat, ∃ o1 : Option Nat, v9 = some (.ref r1) ∧ (le_ M M1) ∧ (at_ g M1 r1 (vD (rdV v w m) s o1)) ∧ (rdF v w m = false) ∧ Ws9 = [pl g M1]) (fun E9 Ws9 => (E9 = "java/lang/ArithmeticException" ∧ (rdF v w m = true) ∧ Ws9 = [pl g M])) := by
  refine Ct.of (cc := cJ8_divideAndRound_5) (nL := 14) (ret := (Option.some (Jvm.ClassFile.FieldType.object "java/math/BigDecimal"))) (by decide) rfl (Nat.le_of_ble_eq_true rfl) ?_
  intro x hg hl hPo hPx hmc hms F
  subst hg; subst hl
  refine SW.cast (L' := [(0, .ref q), (1, .ref q2), (2, .int (jI s)), (3, .int (jI m)), (4, .int (jI s))]) ?_ rfl rfl rfl
  refine sw_factI 0 rfl hx (fun n9 f9 ha9 hw9 hv9 => ?_)
  refine sw_factI 0 rfl hy (fun n8 f8 ha8 hw8 hv8 => ?_)
  have hn9 : n9 ≤ 6 := wOK_len hw9 (by rw [hv9]; exact hb)
  have hn8 : n8 ≤ 6 := wOK_len hw8 (by rw [hv8]; exact hb2)
  have hp9 : 0 < n9 := wv_pos (f := f9) (by omega)
  have hp8 : 0 < n8 := wv_pos (f := f8) (by omega)
  have hs9 := sgI_cases v
  have hs8 := sgI_cases w
  have hxr := xr_s (x := v) (d := w)
  have hltw : wv f9 n9 < wv f8 n8 := by rw [hv9, hv8]; exact hlt
  refine sw_new (n := 3) F (ci := 19) (N := 3) RJ35 TJ35 tyJ35 rfl q1830 q1831 q144 in_J35 tyJ35_ok (fs := [.null, .int (jI 0), .int (jI 0)]) rfl 10 51 ⟨by omega, by omega⟩ dJ8_divideAndRound_5_0 rfl (fun q_1 => ?_)
  refine sw_dup (n := 4) F rfl dJ8_divideAndRound_5_3 rfl ?_
  refine sw_aload_n (n := 5) F 0 (some q) rfl rfl rfl dJ8_divideAndRound_5_4 rfl ?_
  refine sw_getI (n := 8) F 1 rfl hx (k := 1) ⟨(RJ19, TJ19, 6), rfl, by decide, q1074, in_J19, Or.inl rfl⟩ (.ref a) (fun _ _ _ _ => rfl) dJ8_divideAndRound_5_5 rfl ?_
  refine sw_callI (n := 11) F (ct_J35_init (g := xg x) (l := xl x) M q_1 a n9 f9 ha9) q1832 q1833 q144 q1834 rfl nd_J35_init rfl (by decide) [0, 1] rfl [] rfl 10 51 ⟨by omega, by omega⟩ [.ref q_1] rfl (Nat.le_of_ble_eq_true rfl) dJ8_divideAndRound_5_8 rfl (fun _ _ h => h.elim) (fun v Ws h => ?_)
  obtain ⟨rfl, rfl⟩ := h
  show SW x [ob (xg x) q_1 19 [.ref a, .int (jI (↑n9)), .int (jI 0)], pl (xg x) M] _ _ _ _ [.ref q_1]
  refine sw_astore (n := 13) F (some q_1) (L2 := [(7, .ref q_1), (0, .ref q), (1, .ref q2), (2, .int (jI s)), (3, .int (jI m)), (4, .int (jI s))]) rfl rfl (by decide) dJ8_divideAndRound_5_11 rfl ?_
  refine sw_new (n := 16) F (ci := 19) (N := 3) RJ35 TJ35 tyJ35 rfl q1830 q1831 q144 in_J35 tyJ35_ok (fs := [.null, .int (jI 0), .int (jI 0)]) rfl 9 48 ⟨by omega, by omega⟩ dJ8_divideAndRound_5_13 rfl (fun q_2 => ?_)
  refine sw_dup (n := 17) F rfl dJ8_divideAndRound_5_16 rfl ?_
  refine sw_callI (n := 20) F (ct_J35_init_2 (g := xg x) (l := xl x) q_2 ) q1847 q1848 q144 q1849 rfl nd_J35_init_2 rfl (by decide) [0, 1, 2] rfl [ob (xg x) q_1 19 [.ref a, .int (jI (↑n9)), .int (jI 0)], pl (xg x) M] rfl 8 47 ⟨by omega, by omega⟩ [.ref q_2] rfl (Nat.le_of_ble_eq_true rfl) dJ8_divideAndRound_5_17 rfl (fun _ _ h => h.elim) (fun v Ws h => ?_)
  obtain ⟨a1_3, rfl, rfl⟩ := h
  show SW x [ob (xg x) q_2 19 [.ref a1_3, .int (jI 0), .int (jI 0)], aN (xg x) 0 a1_3 1 (fun _ => 0), ob (xg x) q_1 19 [.ref a, .int (jI (↑n9)), .int (jI 0)], pl (xg x) M] _ _ _ _ [.ref q_2]
  refine sw_astore (n := 22) F (some q_2) (L2 := [(8, .ref q_2), (7, .ref q_1), (0, .ref q), (1, .ref q2), (2, .int (jI s)), (3, .int (jI m)), (4, .int (jI s))]) rfl rfl (by decide) dJ8_divideAndRound_5_20 rfl ?_
  refine sw_new (n := 25) F (ci := 19) (N := 3) RJ35 TJ35 tyJ35 rfl q1830 q1831 q144 in_J35 tyJ35_ok (fs := [.null, .int (jI 0), .int (jI 0)]) rfl 7 44 ⟨by omega, by omega⟩ dJ8_divideAndRound_5_22 rfl (fun q_4 => ?_)
  refine sw_dup (n := 26) F rfl dJ8_divideAndRound_5_25 rfl ?_
  refine sw_aload_n (n := 27) F 3 (some q2) rfl rfl rfl dJ8_divideAndRound_5_26 rfl ?_
  refine sw_getI (n := 30) F 4 rfl hy (k := 1) ⟨(RJ19, TJ19, 6), rfl, by decide, q1074, in_J19, Or.inl rfl⟩ (.ref b) (fun _ _ _ _ => rfl) dJ8_divideAndRound_5_27 rfl ?_
  refine sw_callI (n := 33) F (ct_J35_init (g := xg x) (l := xl x) M q_4 b n8 f8 ha8) q1832 q1833 q144 q1834 rfl nd_J35_init rfl (by decide) [0, 4, 1, 2, 3] (perm_ok _ 5 (by decide +kernel) rfl) [ob (xg x) q_2 19 [.ref a1_3, .int (jI 0), .int (jI 0)], aN (xg x) 0 a1_3 1 (fun _ => 0), ob (xg x) q_1 19 [.ref a, .int (jI (↑n9)), .int (jI 0)]] rfl 7 44 ⟨by omega, by omega⟩ [.ref q_4] rfl (Nat.le_of_ble_eq_true rfl) dJ8_divideAndRound_5_30 rfl (fun _ _ h => h.elim) (fun v Ws h => ?_)
  obtain ⟨rfl, rfl⟩ := h
  show SW x [ob (xg x) q_4 19 [.ref b, .int (jI (↑n8)), .int (jI 0)], pl (xg x) M, ob (xg x) q_2 19 [.ref a1_3, .int (jI 0), .int (jI 0)], aN (xg x) 0 a1_3 1 (fun _ => 0), ob (xg x) q_1 19 [.ref a, .int (jI (↑n9)), .int (jI 0)]] _ _ _ _ [.ref q_4]
  refine sw_astore (n := 35) F (some q_4) (L2 := [(9, .ref q_4), (8, .ref q_2), (7, .ref q_1), (0, .ref q), (1, .ref q2), (2, .int (jI s)), (3, .int (jI m)), (4, .int (jI s))]) rfl rfl (by decide) dJ8_divideAndRound_5_33 rfl ?_
  refine sw_aload (n := 37) F 2 (some q_1) rfl rfl dJ8_divideAndRound_5_35 rfl ?_
  refine sw_aload (n := 39) F 0 (some q_4) rfl rfl dJ8_divideAndRound_5_37 rfl ?_
  refine sw_aload (n := 41) F 1 (some q_2) rfl rfl dJ8_divideAndRound_5_39 rfl ?_
  refine sw_callV (n := 44) F (ct_J35_divide_2 (g := xg x) (l := xl x) M q_1 a n9 f9 q_4 b n8 f8 q_2 a1_3 ha9 hw9 (by first | omega | assumption) ha8 hw8 (by first | omega | assumption) hltw) (rcv_ob F 4 rfl rfl) q1958 q1959 q1960 q144 q1961 nd_J35_divide_2 rfl (by decide) [4, 1, 0, 2, 3] (perm_ok _ 5 (by decide +kernel) rfl) [aN (xg x) 0 a1_3 1 (fun _ => 0)] rfl 5 33 ⟨by omega, by omega⟩ [] rfl (Nat.le_of_ble_eq_true rfl) dJ8_divideAndRound_5_41 rfl (fun _ _ h => h.elim) (fun v Ws h => ?_)
  obtain ⟨r1_5, a1_6, f1_7, rfl, hf1_8, rfl⟩ := h
  show SW x [ob (xg x) q_1 19 [.ref a, .int (jI (↑n9)), .int (jI 0)], pl (xg x) M, ob (xg x) q_4 19 [.ref b, .int (jI (↑n8)), .int (jI 0)], ob (xg x) q_2 19 [.ref a1_3, .int (jI 0), .int (jI 0)], ob (xg x) r1_5 19 [.ref a1_6, .int (jI (↑n9)), .int (jI 0)], aN (xg x) 0 a1_6 n9 f1_7, aN (xg x) 0 a1_3 1 (fun _ => 0)] _ _ _ _ [.ref r1_5]
  refine sw_astore (n := 46) F (some r1_5) (L2 := [(10, .ref r1_5), (9, .ref q_4), (8, .ref q_2), (7, .ref q_1), (0, .ref q), (1, .ref q2), (2, .int (jI s)), (3, .int (jI m)), (4, .int (jI s))]) rfl rfl (by decide) dJ8_divideAndRound_5_44 rfl ?_
  have hwR : wOK n9 f1_7 := ⟨fun j hj => by rw [hf1_8 j hj]; exact hw9.1 j hj, fun h => by rw [hf1_8 0 h]; exact hw9.2 h⟩
  have hvR : wv f1_7 n9 = v.natAbs := by rw [wv_cong hf1_8, hv9]
  refine sw_aload (n := 48) F 0 (some r1_5) rfl rfl dJ8_divideAndRound_5_46 rfl ?_
  refine sw_callV (n := 51) F (ct_J35_isZero (g := xg x) (l := xl x) r1_5 a1_6 n9 0 (by first | omega | assumption)) (rcv_ob F 4 rfl rfl) q2093 q1931 q1932 q144 q1933 nd_J35_isZero rfl (by decide) [4, 0, 1, 2, 3, 5, 6] (perm_ok _ 7 (by decide +kernel) rfl) [ob (xg x) q_1 19 [.ref a, .int (jI (↑n9)), .int (jI 0)], pl (xg x) M, ob (xg x) q_4 19 [.ref b, .int (jI (↑n8)), .int (jI 0)], ob (xg x) q_2 19 [.ref a1_3, .int (jI 0), .int (jI 0)], aN (xg x) 0 a1_6 n9 f1_7, aN (xg x) 0 a1_3 1 (fun _ => 0)] rfl 5 33 ⟨by omega, by omega⟩ [] rfl (Nat.le_of_ble_eq_true rfl) dJ8_divideAndRound_5_48 rfl (fun _ _ h => h.elim) (fun v Ws h => ?_)
  obtain ⟨rfl, rfl⟩ := h
  show SW x [ob (xg x) r1_5 19 [.ref a1_6, .int (jI (↑n9)), .int (jI 0)], ob (xg x) q_1 19 [.ref a, .int (jI (↑n9)), .int (jI 0)], pl (xg x) M, ob (xg x) q_4 19 [.ref b, .int (jI (↑n8)), .int (jI 0)], ob (xg x) q_2 19 [.ref a1_3, .int (jI 0), .int (jI 0)], aN (xg x) 0 a1_6 n9 f1_7, aN (xg x) 0 a1_3 1 (fun _ => 0)] _ _ _ _ [.int (jI (if n9 = 0 then 1 else 0))]
  refine sw_top (topI (show (if n9 = 0 then 1 else 0 : Int) = 0 by exact if_neg (by omega))) ?_
  refine sw_istore (n := 53) F (L2 := [(5, .int (jI 0)), (10, .ref r1_5), (9, .ref q_4), (8, .ref q_2), (7, .ref q_1), (0, .ref q), (1, .ref q2), (2, .int (jI s)), (3, .int (jI m)), (4, .int (jI s))]) rfl (by decide) dJ8_divideAndRound_5_51 rfl ?_
  refine sw_aload_n (n := 54) F 5 (some q) rfl rfl rfl dJ8_divideAndRound_5_53 rfl ?_
  refine sw_getI (n := 57) F 2 rfl hx (k := 0) ⟨(RJ19, TJ19, 6), rfl, by decide, q1071, in_J19, Or.inl rfl⟩ (.int (jI (sgI v))) (fun _ _ _ _ => rfl) dJ8_divideAndRound_5_54 rfl ?_
  refine sw_aload_n (n := 58) F 6 (some q2) rfl rfl rfl dJ8_divideAndRound_5_57 rfl ?_
  refine sw_getI (n := 61) F 2 rfl hy (k := 0) ⟨(RJ19, TJ19, 6), rfl, by decide, q1071, in_J19, Or.inl rfl⟩ (.int (jI (sgI w))) (fun _ _ _ _ => rfl) dJ8_divideAndRound_5_58 rfl ?_
  have K69 : ∀ (sg : Int), ((sg = 1 ∧ xrI v w = 0) ∨ (sg = -1 ∧ xrI v w = 1)) → SW x [ob (xg x) r1_5 19 [.ref a1_6, .int (jI (↑n9)), .int (jI 0)], ob (xg x) q_1 19 [.ref a, .int (jI (↑n9)), .int (jI 0)], pl (xg x) M, ob (xg x) q_4 19 [.ref b, .int (jI (↑n8)), .int (jI 0)], ob (xg x) q_2 19 [.ref a1_3, .int (jI 0), .int (jI 0)], aN (xg x) 0 a1_6 n9 f1_7, aN (xg x) 0 a1_3 1 (fun _ => 0)] 5 33 69 [(5, .int (jI 0)), (10, .ref r1_5), (9, .ref q_4), (8, .ref q_2), (7, .ref q_1), (0, .ref q), (1, .ref q2), (2, .int (jI s)), (3, .int (jI m)), (4, .int (jI s))] [.int (jI sg)] := by
    intro sg hsg
    refine sw_istore (n := 71) F (L2 := [(6, .int (jI sg)), (5, .int (jI 0)), (10, .ref r1_5), (9, .ref q_4), (8, .ref q_2), (7, .ref q_1), (0, .ref q), (1, .ref q2), (2, .int (jI s)), (3, .int (jI m)), (4, .int (jI s))]) rfl (by decide) dJ8_divideAndRound_5_69 rfl ?_
    refine sw_iload (n := 73) F 1 rfl dJ8_divideAndRound_5_71 rfl ?_
    refine sw_if_ne (n := 76) F (by decide) (tgt := 108) dJ8_divideAndRound_5_73 (by decide) rfl (fun c_73 => ?_) (fun c_73 => ?_)
    · exfalso; exact absurd c_73 (by decide)
    ·
      refine sw_aload (n := 78) F 3 (some q_4) rfl rfl dJ8_divideAndRound_5_76 rfl ?_
      refine sw_iload_n (n := 79) F 9 rfl rfl dJ8_divideAndRound_5_78 rfl ?_
      refine sw_iload (n := 81) F 0 rfl dJ8_divideAndRound_5_79 rfl ?_
      refine sw_aload (n := 83) F 4 (some q_2) rfl rfl dJ8_divideAndRound_5_81 rfl ?_
      refine sw_aload (n := 85) F 2 (some r1_5) rfl rfl dJ8_divideAndRound_5_83 rfl ?_
      refine sw_callS (n := 88) F (ct_J8_needIncrement_3 (g := xg x) (l := xl x) M m sg r1_5 a1_6 n9 f1_7 q_4 b n8 f8 q_2 a1_3 hwR (by first | omega | assumption) ha8 hw8 (by first | omega | assumption) hm (by omega)) q2094 q2095 q112 q2096 nd_J8_needIncrement_3 rfl (by decide) [0, 5, 3, 2, 4, 1, 6] (perm_ok _ 7 (by decide +kernel) rfl) [ob (xg x) q_1 19 [.ref a, .int (jI (↑n9)), .int (jI 0)], aN (xg x) 0 a1_3 1 (fun _ => 0)] rfl 4 27 ⟨by omega, by omega⟩ [] rfl (Nat.le_of_ble_eq_true rfl) dJ8_divideAndRound_5_85 rfl (fun E Ws h => ?_) (fun v Ws h => ?_)
      ·
        obtain ⟨rfl, h7_10, rfl⟩ := h
        refine sx_drop [3, 0, 1, 2, 4, 5, 6] 1 (perm_ok _ 7 (by decide +kernel) rfl) [pl (xg x) M] rfl ?_
        show SX x [pl (xg x) M] _ _ _ _ _
        exact sx_out F (by rw [hPx]; exact ⟨rfl, (by rw [show m = 7 by assumption]; exact rq_7 (by rw [Nat.mod_eq_of_lt hlt]; omega)), rfl⟩)
      ·
        obtain ⟨rfl, h7_9, rfl⟩ := h
        show SW x [ob (xg x) r1_5 19 [.ref a1_6, .int (jI (↑n9)), .int (jI 0)], aN (xg x) 0 a1_6 n9 f1_7, ob (xg x) q_4 19 [.ref b, .int (jI (↑n8)), .int (jI 0)], pl (xg x) M, ob (xg x) q_2 19 [.ref a1_3, .int (jI 0), .int (jI 0)], ob (xg x) q_1 19 [.ref a, .int (jI (↑n9)), .int (jI 0)], aN (xg x) 0 a1_3 1 (fun _ => 0)] _ _ _ _ [.int (jI (cnI m sg (cmpI (2 * wv f1_7 n9) (wv f8 n8)) 0))]
        refine sw_top (topI (show (cnI m sg (cmpI (2 * wv f1_7 n9) (wv f8 n8)) 0 : Int) = cnI m sg (cmpI (2 * v.natAbs) w.natAbs) ↑((0 : Nat) % 2) by rw [hvR, hv8]; rfl)) ?_
        have hcn9 := cnI_01 (m := m) (sg := sg) (cf := cmpI (2 * v.natAbs) w.natAbs) (od := ↑((0 : Nat) % 2)) (by omega)
        have hrq := rq_c (x := v) (d := w) (Q := 0) (r := v.natAbs) (Nat.div_eq_of_lt hlt).symm (Nat.mod_eq_of_lt hlt).symm hm (by assumption) (by omega) hsg
        refine sw_if_eq (n := 91) F (by omega) (tgt := 99) dJ8_divideAndRound_5_88 (by decide) rfl (fun c_88 => ?_) (fun c_88 => ?_)
        ·
          have hsg2 : sg = 1 ∨ sg = -1 := by omega
          have hfin : sg * ↑(mw (fun _ => 0) 0 0) = rdV v w m := hrq.2 (by omega)
          have hw0 : wOK 0 (fun j => (fun _ => 0) (0 + j)) := nm_0
          have hf0 : ∀ k, k < 1 → (fun _ => 0) k < 4294967296 := fun _ _ => (show 0 < 4294967296 by decide)
          refine sw_aload (n := 101) F 4 (some q_2) rfl rfl dJ8_divideAndRound_5_99 rfl ?_
          refine sw_iload (n := 103) F 0 rfl dJ8_divideAndRound_5_101 rfl ?_
          refine sw_iload_n (n := 104) F 8 rfl rfl dJ8_divideAndRound_5_103 rfl ?_
          refine sw_callV (n := 107) F (ct_J35_toBigDecimal (g := xg x) (l := xl x) M q_2 a1_3 1 (fun _ => 0) 0 0 sg s (by first | omega | assumption) hf0 (by first | omega | assumption) hw0 (by exact hsg2) hs) (rcv_ob F 4 rfl rfl) q2668 q2669 q2670 q144 q2671 nd_J35_toBigDecimal rfl (by decide) [4, 6, 3, 0, 1, 2, 5] (perm_ok _ 7 (by decide +kernel) rfl) [ob (xg x) r1_5 19 [.ref a1_6, .int (jI (↑n9)), .int (jI 0)], aN (xg x) 0 a1_6 n9 f1_7, ob (xg x) q_4 19 [.ref b, .int (jI (↑n8)), .int (jI 0)], ob (xg x) q_1 19 [.ref a, .int (jI (↑n9)), .int (jI 0)]] rfl 1 8 ⟨by omega, by omega⟩ [] rfl (Nat.le_of_ble_eq_true rfl) dJ8_divideAndRound_5_104 rfl (fun _ _ h => h.elim) (fun v Ws h => ?_)
          obtain ⟨M1_11, r1_12, o1_13, rfl, hle_14, hat_15, rfl⟩ := h
          show SW x [pl (xg x) M1_11, ob (xg x) r1_5 19 [.ref a1_6, .int (jI (↑n9)), .int (jI 0)], aN (xg x) 0 a1_6 n9 f1_7, ob (xg x) q_4 19 [.ref b, .int (jI (↑n8)), .int (jI 0)], ob (xg x) q_1 19 [.ref a, .int (jI (↑n9)), .int (jI 0)]] _ _ _ _ [.ref r1_12]
          refine sw_drop [0, 1, 2, 3, 4] 1 (perm_ok _ 5 (by decide +kernel) rfl) [pl (xg x) M1_11] rfl ?_
          exact sw_aret F (some r1_12) _ rfl rfl (by first | exact Or.inl ⟨_, rfl⟩ | exact Or.inr ⟨_, rfl⟩) dJ8_divideAndRound_5_107 (by rw [hPo]; exact ⟨M1_11, r1_12, o1_13, rfl, hle_14, (by rw [← hfin]; assumption), (by exact rd_n hm (by assumption)), rfl⟩)
        ·
          have hw0 : wOK 0 (fun j => (fun _ => 0) (0 + j)) := nm_0
          have hf0 : ∀ k, k < 1 → (fun _ => 0) k < 4294967296 := fun _ _ => (show 0 < 4294967296 by decide)
          refine sw_aload (n := 93) F 4 (some q_2) rfl rfl dJ8_divideAndRound_5_91 rfl ?_
          refine sw_gets (n := 96) F (kONE F.gx.1).1 q1934 (Or.inl rfl) dJ8_divideAndRound_5_93 rfl ?_
          refine sw_callV (n := 99) F (ct_J35_add (g := xg x) (l := xl x) q_2 a1_3 1 (fun _ => 0) 0 0 (tR (xg x) sONE) (by rfl) (by first | omega | assumption) hf0 hw0) (rcv_ob F 4 rfl rfl) q1936 q1937 q1938 q144 q1939 nd_J35_add rfl (by decide) [4, 6, 0, 1, 2, 3, 5] (perm_ok _ 7 (by decide +kernel) rfl) [ob (xg x) r1_5 19 [.ref a1_6, .int (jI (↑n9)), .int (jI 0)], aN (xg x) 0 a1_6 n9 f1_7, ob (xg x) q_4 19 [.ref b, .int (jI (↑n8)), .int (jI 0)], pl (xg x) M, ob (xg x) q_1 19 [.ref a, .int (jI (↑n9)), .int (jI 0)]] rfl 3 19 ⟨by omega, by omega⟩ [] rfl (Nat.le_of_ble_eq_true rfl) dJ8_divideAndRound_5_96 rfl (fun _ _ h => h.elim) (fun v Ws h => ?_)
          obtain ⟨a1_16, N1_17, f1_18, n1_19, o1_20, rfl, hN1_21, hf1_22, hw1_23, hv1_24, rfl⟩ := h
          show SW x [ob (xg x) q_2 19 [.ref a1_16, .int (jI (↑n1_19)), .int (jI (↑o1_20))], aN (xg x) 0 a1_16 N1_17 f1_18, ob (xg x) r1_5 19 [.ref a1_6, .int (jI (↑n9)), .int (jI 0)], aN (xg x) 0 a1_6 n9 f1_7, ob (xg x) q_4 19 [.ref b, .int (jI (↑n8)), .int (jI 0)], pl (xg x) M, ob (xg x) q_1 19 [.ref a, .int (jI (↑n9)), .int (jI 0)]] _ _ _ _ []
          have hsg2 : sg = 1 ∨ sg = -1 := by omega
          have hfin : sg * ↑(mw f1_18 o1_20 n1_19) = rdV v w m := by rw [hv1_24]; exact hrq.1 (by omega)
          refine sw_aload (n := 101) F 4 (some q_2) rfl rfl dJ8_divideAndRound_5_99 rfl ?_
          refine sw_iload (n := 103) F 0 rfl dJ8_divideAndRound_5_101 rfl ?_
          refine sw_iload_n (n := 104) F 8 rfl rfl dJ8_divideAndRound_5_103 rfl ?_
          refine sw_callV (n := 107) F (ct_J35_toBigDecimal (g := xg x) (l := xl x) M q_2 a1_16 N1_17 f1_18 n1_19 o1_20 sg s (by first | omega | assumption) hf1_22 (by first | omega | assumption) hw1_23 (by exact hsg2) hs) (rcv_ob F 0 rfl rfl) q2668 q2669 q2670 q144 q2671 nd_J35_toBigDecimal rfl (by decide) [0, 1, 5, 2, 3, 4, 6] (perm_ok _ 7 (by decide +kernel) rfl) [ob (xg x) r1_5 19 [.ref a1_6, .int (jI (↑n9)), .int (jI 0)], aN (xg x) 0 a1_6 n9 f1_7, ob (xg x) q_4 19 [.ref b, .int (jI (↑n8)), .int (jI 0)], ob (xg x) q_1 19 [.ref a, .int (jI (↑n9)), .int (jI 0)]] rfl 0 0 ⟨by omega, by omega⟩ [] rfl (Nat.le_of_ble_eq_true rfl) dJ8_divideAndRound_5_104 rfl (fun _ _ h => h.elim) (fun v Ws h => ?_)
          obtain ⟨M1_25, r1_26, o1_27, rfl, hle_28, hat_29, rfl⟩ := h
          show SW x [pl (xg x) M1_25, ob (xg x) r1_5 19 [.ref a1_6, .int (jI (↑n9)), .int (jI 0)], aN (xg x) 0 a1_6 n9 f1_7, ob (xg x) q_4 19 [.ref b, .int (jI (↑n8)), .int (jI 0)], ob (xg x) q_1 19 [.ref a, .int (jI (↑n9)), .int (jI 0)]] _ _ _ _ [.ref r1_26]
          refine sw_drop [0, 1, 2, 3, 4] 1 (perm_ok _ 5 (by decide +kernel) rfl) [pl (xg x) M1_25] rfl ?_
          exact sw_aret F (some r1_26) _ rfl rfl (by first | exact Or.inl ⟨_, rfl⟩ | exact Or.inr ⟨_, rfl⟩) dJ8_divideAndRound_5_107 (by rw [hPo]; exact ⟨M1_25, r1_26, o1_27, rfl, hle_28, (by rw [← hfin]; assumption), (by exact rd_n hm (by assumption)), rfl⟩)
  refine sw_icmp_eq (n := 64) F (by omega) (by omega) (tgt := 68) dJ8_divideAndRound_5_61 (by decide) rfl (fun c_61 => ?_) (fun c_61 => ?_)
  ·
    refine sw_iconst (n := 69) F (1) (by decide) dJ8_divideAndRound_5_68 rfl ?_
    exact K69 1 (by omega)
  ·
    refine sw_iconst (n := 65) F (-1) (by decide) dJ8_divideAndRound_5_64 rfl ?_
    refine sw_goto F (n := 69) dJ8_divideAndRound_5_65 (by decide) ?_
    exact K69 (-1) (by omega)
