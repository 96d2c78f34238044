set_option maxRecDepth 100000
def dkwJ19_add_5 : List UInt8 := [180, 0, 32, 160, 0, 7, 4, 167, 0, 4, 2, 183, 0, 175, 176]
abbrev dktJ19_add_5 : List UInt8 := dkwJ19_add_5 ++ []
def dkwJ19_add_4 : List UInt8 := [180, 0, 28, 184, 1, 129, 58, 4, 25, 4, 184, 0, 53, 58, 4, 187, 0, 23, 89, 25, 4, 29, 42]
abbrev dktJ19_add_4 : List UInt8 := dkwJ19_add_4 ++ dktJ19_add_5
def dkwJ19_add_3 : List UInt8 := [158, 0, 17, 42, 180, 0, 28, 31, 184, 1, 119, 184, 1, 127, 167, 0, 14, 31, 184, 1, 119, 42]
abbrev dktJ19_add_3 : List UInt8 := dkwJ19_add_3 ++ dktJ19_add_4
def dkwJ19_add_2 : List UInt8 := [180, 0, 32, 183, 0, 175, 176, 42, 31, 182, 1, 125, 62, 29, 154, 0, 7, 178, 0, 22, 176, 29]
abbrev dktJ19_add_2 : List UInt8 := dkwJ19_add_2 ++ dktJ19_add_3
def dkwJ19_add_1 : List UInt8 := [42, 180, 0, 32, 160, 0, 26, 187, 0, 23, 89, 42, 180, 0, 28, 31, 184, 1, 119, 184, 1, 122, 42]
abbrev dktJ19_add_1 : List UInt8 := dkwJ19_add_1 ++ dktJ19_add_2
def dkwJ19_add_0 : List UInt8 := [31, 9, 148, 154, 0, 5, 42, 176, 42, 180, 0, 32, 154, 0, 8, 31, 184, 0, 235, 176, 31, 184, 1, 114]
abbrev dktJ19_add_0 : List UInt8 := dkwJ19_add_0 ++ dktJ19_add_1
theorem dksJ19_add_0 : cJ19_add.data.toList.drop 0 = dktJ19_add_0 := by decide +kernel
theorem dksJ19_add_1 : cJ19_add.data.toList.drop 24 = dktJ19_add_1 := dk_seg dksJ19_add_0 24 rfl rfl
theorem dksJ19_add_2 : cJ19_add.data.toList.drop 47 = dktJ19_add_2 := dk_seg dksJ19_add_1 23 rfl rfl
theorem dksJ19_add_3 : cJ19_add.data.toList.drop 69 = dktJ19_add_3 := dk_seg dksJ19_add_2 22 rfl rfl
theorem dksJ19_add_4 : cJ19_add.data.toList.drop 91 = dktJ19_add_4 := dk_seg dksJ19_add_3 22 rfl rfl
theorem dksJ19_add_5 : cJ19_add.data.toList.drop 114 = dktJ19_add_5 := dk_seg dksJ19_add_4 23 rfl rfl
theorem dJ19_add_0 : decode cJ19_add 0 = .ok (.lload_n 1, 1) := dk_31 (dk_at dksJ19_add_0 0 rfl rfl)
theorem dJ19_add_1 : decode cJ19_add 1 = .ok (.lconst 0, 1) := dk_9 (dk_at dksJ19_add_0 1 rfl rfl)
theorem dJ19_add_2 : decode cJ19_add 2 = .ok (.lcmp, 1) := dk_148 (dk_at dksJ19_add_0 2 rfl rfl)
theorem dJ19_add_3 : decode cJ19_add 3 = .ok (.ifCond .ne 5, 3) := dk_154 0 5 (dk_at dksJ19_add_0 3 rfl rfl)
theorem dJ19_add_6 : decode cJ19_add 6 = .ok (.aload_n 0, 1) := dk_42 (dk_at dksJ19_add_0 6 rfl rfl)
theorem dJ19_add_7 : decode cJ19_add 7 = .ok (.areturn, 1) := dk_176 (dk_at dksJ19_add_0 7 rfl rfl)
theorem dJ19_add_8 : decode cJ19_add 8 = .ok (.aload_n 0, 1) := dk_42 (dk_at dksJ19_add_0 8 rfl rfl)
theorem dJ19_add_9 : decode cJ19_add 9 = .ok (.getfield 32, 3) := dk_180 0 32 (dk_at dksJ19_add_0 9 rfl rfl)
theorem dJ19_add_12 : decode cJ19_add 12 = .ok (.ifCond .ne 8, 3) := dk_154 0 8 (dk_at dksJ19_add_0 12 rfl rfl)
theorem dJ19_add_15 : decode cJ19_add 15 = .ok (.lload_n 1, 1) := dk_31 (dk_at dksJ19_add_0 15 rfl rfl)
theorem dJ19_add_16 : decode cJ19_add 16 = .ok (.invokestatic 235, 3) := dk_184 0 235 (dk_at dksJ19_add_0 16 rfl rfl)
theorem dJ19_add_19 : decode cJ19_add 19 = .ok (.areturn, 1) := dk_176 (dk_at dksJ19_add_0 19 rfl rfl)
theorem dJ19_add_20 : decode cJ19_add 20 = .ok (.lload_n 1, 1) := dk_31 (dk_at dksJ19_add_0 20 rfl rfl)
theorem dJ19_add_21 : decode cJ19_add 21 = .ok (.invokestatic 370, 3) := dk_184 1 114 (dk_at dksJ19_add_0 21 rfl rfl)
theorem dJ19_add_24 : decode cJ19_add 24 = .ok (.aload_n 0, 1) := dk_42 (dk_at dksJ19_add_1 0 rfl rfl)
theorem dJ19_add_25 : decode cJ19_add 25 = .ok (.getfield 32, 3) := dk_180 0 32 (dk_at dksJ19_add_1 1 rfl rfl)
theorem dJ19_add_28 : decode cJ19_add 28 = .ok (.if_icmp .ne 26, 3) := dk_160 0 26 (dk_at dksJ19_add_1 4 rfl rfl)
theorem dJ19_add_31 : decode cJ19_add 31 = .ok (.new 23, 3) := dk_187 0 23 (dk_at dksJ19_add_1 7 rfl rfl)
theorem dJ19_add_34 : decode cJ19_add 34 = .ok (.dup, 1) := dk_89 (dk_at dksJ19_add_1 10 rfl rfl)
theorem dJ19_add_35 : decode cJ19_add 35 = .ok (.aload_n 0, 1) := dk_42 (dk_at dksJ19_add_1 11 rfl rfl)
theorem dJ19_add_36 : decode cJ19_add 36 = .ok (.getfield 28, 3) := dk_180 0 28 (dk_at dksJ19_add_1 12 rfl rfl)
theorem dJ19_add_39 : decode cJ19_add 39 = .ok (.lload_n 1, 1) := dk_31 (dk_at dksJ19_add_1 15 rfl rfl)
theorem dJ19_add_40 : decode cJ19_add 40 = .ok (.invokestatic 375, 3) := dk_184 1 119 (dk_at dksJ19_add_1 16 rfl rfl)
theorem dJ19_add_43 : decode cJ19_add 43 = .ok (.invokestatic 378, 3) := dk_184 1 122 (dk_at dksJ19_add_1 19 rfl rfl)
theorem dJ19_add_46 : decode cJ19_add 46 = .ok (.aload_n 0, 1) := dk_42 (dk_at dksJ19_add_1 22 rfl rfl)
theorem dJ19_add_47 : decode cJ19_add 47 = .ok (.getfield 32, 3) := dk_180 0 32 (dk_at dksJ19_add_2 0 rfl rfl)
theorem dJ19_add_50 : decode cJ19_add 50 = .ok (.invokespecial 175, 3) := dk_183 0 175 (dk_at dksJ19_add_2 3 rfl rfl)
theorem dJ19_add_53 : decode cJ19_add 53 = .ok (.areturn, 1) := dk_176 (dk_at dksJ19_add_2 6 rfl rfl)
theorem dJ19_add_54 : decode cJ19_add 54 = .ok (.aload_n 0, 1) := dk_42 (dk_at dksJ19_add_2 7 rfl rfl)
theorem dJ19_add_55 : decode cJ19_add 55 = .ok (.lload_n 1, 1) := dk_31 (dk_at dksJ19_add_2 8 rfl rfl)
theorem dJ19_add_56 : decode cJ19_add 56 = .ok (.invokevirtual 381, 3) := dk_182 1 125 (dk_at dksJ19_add_2 9 rfl rfl)
theorem dJ19_add_59 : decode cJ19_add 59 = .ok (.istore_n 3, 1) := dk_62 (dk_at dksJ19_add_2 12 rfl rfl)
theorem dJ19_add_60 : decode cJ19_add 60 = .ok (.iload_n 3, 1) := dk_29 (dk_at dksJ19_add_2 13 rfl rfl)
theorem dJ19_add_61 : decode cJ19_add 61 = .ok (.ifCond .ne 7, 3) := dk_154 0 7 (dk_at dksJ19_add_2 14 rfl rfl)
theorem dJ19_add_64 : decode cJ19_add 64 = .ok (.getstatic 22, 3) := dk_178 0 22 (dk_at dksJ19_add_2 17 rfl rfl)
theorem dJ19_add_67 : decode cJ19_add 67 = .ok (.areturn, 1) := dk_176 (dk_at dksJ19_add_2 20 rfl rfl)
theorem dJ19_add_68 : decode cJ19_add 68 = .ok (.iload_n 3, 1) := dk_29 (dk_at dksJ19_add_2 21 rfl rfl)
theorem dJ19_add_69 : decode cJ19_add 69 = .ok (.ifCond .le 17, 3) := dk_158 0 17 (dk_at dksJ19_add_3 0 rfl rfl)
theorem dJ19_add_72 : decode cJ19_add 72 = .ok (.aload_n 0, 1) := dk_42 (dk_at dksJ19_add_3 3 rfl rfl)
theorem dJ19_add_73 : decode cJ19_add 73 = .ok (.getfield 28, 3) := dk_180 0 28 (dk_at dksJ19_add_3 4 rfl rfl)
theorem dJ19_add_76 : decode cJ19_add 76 = .ok (.lload_n 1, 1) := dk_31 (dk_at dksJ19_add_3 7 rfl rfl)
theorem dJ19_add_77 : decode cJ19_add 77 = .ok (.invokestatic 375, 3) := dk_184 1 119 (dk_at dksJ19_add_3 8 rfl rfl)
theorem dJ19_add_80 : decode cJ19_add 80 = .ok (.invokestatic 383, 3) := dk_184 1 127 (dk_at dksJ19_add_3 11 rfl rfl)
theorem dJ19_add_83 : decode cJ19_add 83 = .ok (.goto 14, 3) := dk_167 0 14 (dk_at dksJ19_add_3 14 rfl rfl)
theorem dJ19_add_86 : decode cJ19_add 86 = .ok (.lload_n 1, 1) := dk_31 (dk_at dksJ19_add_3 17 rfl rfl)
theorem dJ19_add_87 : decode cJ19_add 87 = .ok (.invokestatic 375, 3) := dk_184 1 119 (dk_at dksJ19_add_3 18 rfl rfl)
theorem dJ19_add_90 : decode cJ19_add 90 = .ok (.aload_n 0, 1) := dk_42 (dk_at dksJ19_add_3 21 rfl rfl)
theorem dJ19_add_91 : decode cJ19_add 91 = .ok (.getfield 28, 3) := dk_180 0 28 (dk_at dksJ19_add_4 0 rfl rfl)
theorem dJ19_add_94 : decode cJ19_add 94 = .ok (.invokestatic 385, 3) := dk_184 1 129 (dk_at dksJ19_add_4 3 rfl rfl)
theorem dJ19_add_97 : decode cJ19_add 97 = .ok (.astore 4, 2) := dk_58 4 (dk_at dksJ19_add_4 6 rfl rfl)
theorem dJ19_add_99 : decode cJ19_add 99 = .ok (.aload 4, 2) := dk_25 4 (dk_at dksJ19_add_4 8 rfl rfl)
theorem dJ19_add_101 : decode cJ19_add 101 = .ok (.invokestatic 53, 3) := dk_184 0 53 (dk_at dksJ19_add_4 10 rfl rfl)
theorem dJ19_add_104 : decode cJ19_add 104 = .ok (.astore 4, 2) := dk_58 4 (dk_at dksJ19_add_4 13 rfl rfl)
theorem dJ19_add_106 : decode cJ19_add 106 = .ok (.new 23, 3) := dk_187 0 23 (dk_at dksJ19_add_4 15 rfl rfl)
theorem dJ19_add_109 : decode cJ19_add 109 = .ok (.dup, 1) := dk_89 (dk_at dksJ19_add_4 18 rfl rfl)
theorem dJ19_add_110 : decode cJ19_add 110 = .ok (.aload 4, 2) := dk_25 4 (dk_at dksJ19_add_4 19 rfl rfl)
theorem dJ19_add_112 : decode cJ19_add 112 = .ok (.iload_n 3, 1) := dk_29 (dk_at dksJ19_add_4 21 rfl rfl)
theorem dJ19_add_113 : decode cJ19_add 113 = .ok (.aload_n 0, 1) := dk_42 (dk_at dksJ19_add_4 22 rfl rfl)
theorem dJ19_add_114 : decode cJ19_add 114 = .ok (.getfield 32, 3) := dk_180 0 32 (dk_at dksJ19_add_5 0 rfl rfl)
theorem dJ19_add_117 : decode cJ19_add 117 = .ok (.if_icmp .ne 7, 3) := dk_160 0 7 (dk_at dksJ19_add_5 3 rfl rfl)
theorem dJ19_add_120 : decode cJ19_add 120 = .ok (.iconst 1, 1) := dk_4 (dk_at dksJ19_add_5 6 rfl rfl)
theorem dJ19_add_121 : decode cJ19_add 121 = .ok (.goto 4, 3) := dk_167 0 4 (dk_at dksJ19_add_5 7 rfl rfl)
theorem dJ19_add_124 : decode cJ19_add 124 = .ok (.iconst (-1), 1) := dk_2 (dk_at dksJ19_add_5 10 rfl rfl)
theorem dJ19_add_125 : decode cJ19_add 125 = .ok (.invokespecial 175, 3) := dk_183 0 175 (dk_at dksJ19_add_5 11 rfl rfl)
theorem dJ19_add_128 : decode cJ19_add 128 = .ok (.areturn, 1) := dk_176 (dk_at dksJ19_add_5 14 rfl rfl)
def dkwJ19_add_2_11 : List UInt8 := [4, 25, 7, 190, 184, 1, 132, 25, 10, 3, 4, 79, 25, 10, 176, 25, 7, 176]
abbrev dktJ19_add_2_11 : List UInt8 := dkwJ19_add_2_11 ++ []
def dkwJ19_add_2_10 : List UInt8 := [46, 79, 167, 255, 239, 21, 9, 153, 0, 32, 25, 7, 190, 4, 96, 188, 10, 58, 10, 25, 7, 3, 25, 10]
abbrev dktJ19_add_2_10 : List UInt8 := dkwJ19_add_2_10 ++ dktJ19_add_2_11
def dkwJ19_add_2_9 : List UInt8 := [167, 0, 4, 3, 54, 9, 167, 255, 221, 21, 6, 158, 0, 18, 25, 7, 132, 6, 255, 21, 6, 42, 21, 6]
abbrev dktJ19_add_2_9 : List UInt8 := dkwJ19_add_2_9 ++ dktJ19_add_2_10
def dkwJ19_add_2_8 : List UInt8 := [153, 0, 31, 25, 7, 132, 6, 255, 21, 6, 42, 21, 6, 46, 4, 96, 91, 79, 154, 0, 7, 4]
abbrev dktJ19_add_2_8 : List UInt8 := dkwJ19_add_2_8 ++ dktJ19_add_2_9
def dkwJ19_add_2_7 : List UInt8 := [16, 32, 125, 9, 148, 153, 0, 7, 4, 167, 0, 4, 3, 54, 9, 21, 6, 158, 0, 36, 21, 9]
abbrev dktJ19_add_2_7 : List UInt8 := dkwJ19_add_2_7 ++ dktJ19_add_2_8
def dkwJ19_add_2_6 : List UInt8 := [133, 20, 0, 130, 127, 97, 22, 4, 16, 32, 125, 97, 55, 4, 25, 7, 21, 6, 22, 4, 136, 79, 22, 4]
abbrev dktJ19_add_2_6 : List UInt8 := dkwJ19_add_2_6 ++ dktJ19_add_2_7
def dkwJ19_add_2_5 : List UInt8 := [55, 4, 25, 7, 21, 6, 22, 4, 136, 79, 42, 132, 6, 255, 21, 6, 46, 133, 20, 0, 130, 127, 21, 8]
abbrev dktJ19_add_2_5 : List UInt8 := dkwJ19_add_2_5 ++ dktJ19_add_2_6
def dkwJ19_add_2_4 : List UInt8 := [21, 6, 188, 10, 58, 7, 42, 132, 6, 255, 21, 6, 46, 133, 20, 0, 130, 127, 31, 20, 0, 130, 127, 97]
abbrev dktJ19_add_2_4 : List UInt8 := dkwJ19_add_2_4 ++ dktJ19_add_2_5
def dkwJ19_add_2_3 : List UInt8 := [127, 97, 55, 4, 25, 7, 4, 22, 4, 136, 79, 25, 7, 3, 22, 4, 16, 32, 125, 136, 79, 25, 7, 176]
abbrev dktJ19_add_2_3 : List UInt8 := dkwJ19_add_2_3 ++ dktJ19_add_2_4
def dkwJ19_add_2_2 : List UInt8 := [136, 79, 167, 0, 116, 21, 6, 4, 160, 0, 40, 5, 188, 10, 58, 7, 31, 42, 3, 46, 133, 20, 0, 130]
abbrev dktJ19_add_2_2 : List UInt8 := dkwJ19_add_2_2 ++ dktJ19_add_2_3
def dkwJ19_add_2_1 : List UInt8 := [58, 7, 42, 132, 6, 255, 21, 6, 46, 133, 20, 0, 130, 127, 31, 97, 55, 4, 25, 7, 21, 6, 22, 4]
abbrev dktJ19_add_2_1 : List UInt8 := dkwJ19_add_2_1 ++ dktJ19_add_2_2
def dkwJ19_add_2_0 : List UInt8 := [9, 55, 4, 42, 190, 54, 6, 31, 16, 32, 125, 136, 54, 8, 21, 8, 154, 0, 36, 21, 6, 188, 10]
abbrev dktJ19_add_2_0 : List UInt8 := dkwJ19_add_2_0 ++ dktJ19_add_2_1
theorem dksJ19_add_2_0 : cJ19_add_2.data.toList.drop 0 = dktJ19_add_2_0 := by decide +kernel
theorem dksJ19_add_2_1 : cJ19_add_2.data.toList.drop 23 = dktJ19_add_2_1 := dk_seg dksJ19_add_2_0 23 rfl rfl
theorem dksJ19_add_2_2 : cJ19_add_2.data.toList.drop 47 = dktJ19_add_2_2 := dk_seg dksJ19_add_2_1 24 rfl rfl
theorem dksJ19_add_2_3 : cJ19_add_2.data.toList.drop 71 = dktJ19_add_2_3 := dk_seg dksJ19_add_2_2 24 rfl rfl
theorem dksJ19_add_2_4 : cJ19_add_2.data.toList.drop 95 = dktJ19_add_2_4 := dk_seg dksJ19_add_2_3 24 rfl rfl
theorem dksJ19_add_2_5 : cJ19_add_2.data.toList.drop 119 = dktJ19_add_2_5 := dk_seg dksJ19_add_2_4 24 rfl rfl
theorem dksJ19_add_2_6 : cJ19_add_2.data.toList.drop 143 = dktJ19_add_2_6 := dk_seg dksJ19_add_2_5 24 rfl rfl
theorem dksJ19_add_2_7 : cJ19_add_2.data.toList.drop 167 = dktJ19_add_2_7 := dk_seg dksJ19_add_2_6 24 rfl rfl
theorem dksJ19_add_2_8 : cJ19_add_2.data.toList.drop 189 = dktJ19_add_2_8 := dk_seg dksJ19_add_2_7 22 rfl rfl
theorem dksJ19_add_2_9 : cJ19_add_2.data.toList.drop 211 = dktJ19_add_2_9 := dk_seg dksJ19_add_2_8 22 rfl rfl
theorem dksJ19_add_2_10 : cJ19_add_2.data.toList.drop 235 = dktJ19_add_2_10 := dk_seg dksJ19_add_2_9 24 rfl rfl
theorem dksJ19_add_2_11 : cJ19_add_2.data.toList.drop 259 = dktJ19_add_2_11 := dk_seg dksJ19_add_2_10 24 rfl rfl
theorem dJ19_add_2_0 : decode cJ19_add_2 0 = .ok (.lconst 0, 1) := dk_9 (dk_at dksJ19_add_2_0 0 rfl rfl)
theorem dJ19_add_2_1 : decode cJ19_add_2 1 = .ok (.lstore 4, 2) := dk_55 4 (dk_at dksJ19_add_2_0 1 rfl rfl)
theorem dJ19_add_2_3 : decode cJ19_add_2 3 = .ok (.aload_n 0, 1) := dk_42 (dk_at dksJ19_add_2_0 3 rfl rfl)
theorem dJ19_add_2_4 : decode cJ19_add_2 4 = .ok (.arraylength, 1) := dk_190 (dk_at dksJ19_add_2_0 4 rfl rfl)
theorem dJ19_add_2_5 : decode cJ19_add_2 5 = .ok (.istore 6, 2) := dk_54 6 (dk_at dksJ19_add_2_0 5 rfl rfl)
theorem dJ19_add_2_7 : decode cJ19_add_2 7 = .ok (.lload_n 1, 1) := dk_31 (dk_at dksJ19_add_2_0 7 rfl rfl)
theorem dJ19_add_2_8 : decode cJ19_add_2 8 = .ok (.bipush 32, 2) := dk_16 32 (dk_at dksJ19_add_2_0 8 rfl rfl)
theorem dJ19_add_2_10 : decode cJ19_add_2 10 = .ok (.lushr, 1) := dk_125 (dk_at dksJ19_add_2_0 10 rfl rfl)
theorem dJ19_add_2_11 : decode cJ19_add_2 11 = .ok (.l2i, 1) := dk_136 (dk_at dksJ19_add_2_0 11 rfl rfl)
theorem dJ19_add_2_12 : decode cJ19_add_2 12 = .ok (.istore 8, 2) := dk_54 8 (dk_at dksJ19_add_2_0 12 rfl rfl)
theorem dJ19_add_2_14 : decode cJ19_add_2 14 = .ok (.iload 8, 2) := dk_21 8 (dk_at dksJ19_add_2_0 14 rfl rfl)
theorem dJ19_add_2_16 : decode cJ19_add_2 16 = .ok (.ifCond .ne 36, 3) := dk_154 0 36 (dk_at dksJ19_add_2_0 16 rfl rfl)
theorem dJ19_add_2_19 : decode cJ19_add_2 19 = .ok (.iload 6, 2) := dk_21 6 (dk_at dksJ19_add_2_0 19 rfl rfl)
theorem dJ19_add_2_21 : decode cJ19_add_2 21 = .ok (.newarray .int, 2) := dk_188_10 (dk_at dksJ19_add_2_0 21 rfl rfl)
theorem dJ19_add_2_23 : decode cJ19_add_2 23 = .ok (.astore 7, 2) := dk_58 7 (dk_at dksJ19_add_2_1 0 rfl rfl)
theorem dJ19_add_2_25 : decode cJ19_add_2 25 = .ok (.aload_n 0, 1) := dk_42 (dk_at dksJ19_add_2_1 2 rfl rfl)
theorem dJ19_add_2_26 : decode cJ19_add_2 26 = .ok (.iinc 6 (-1), 3) := dk_132 6 255 (dk_at dksJ19_add_2_1 3 rfl rfl)
theorem dJ19_add_2_29 : decode cJ19_add_2 29 = .ok (.iload 6, 2) := dk_21 6 (dk_at dksJ19_add_2_1 6 rfl rfl)
theorem dJ19_add_2_31 : decode cJ19_add_2 31 = .ok (.iaload, 1) := dk_46 (dk_at dksJ19_add_2_1 8 rfl rfl)
theorem dJ19_add_2_32 : decode cJ19_add_2 32 = .ok (.i2l, 1) := dk_133 (dk_at dksJ19_add_2_1 9 rfl rfl)
theorem dJ19_add_2_33 : decode cJ19_add_2 33 = .ok (.ldc2_w 130, 3) := dk_20 0 130 (dk_at dksJ19_add_2_1 10 rfl rfl)
theorem dJ19_add_2_36 : decode cJ19_add_2 36 = .ok (.land, 1) := dk_127 (dk_at dksJ19_add_2_1 13 rfl rfl)
theorem dJ19_add_2_37 : decode cJ19_add_2 37 = .ok (.lload_n 1, 1) := dk_31 (dk_at dksJ19_add_2_1 14 rfl rfl)
theorem dJ19_add_2_38 : decode cJ19_add_2 38 = .ok (.ladd, 1) := dk_97 (dk_at dksJ19_add_2_1 15 rfl rfl)
theorem dJ19_add_2_39 : decode cJ19_add_2 39 = .ok (.lstore 4, 2) := dk_55 4 (dk_at dksJ19_add_2_1 16 rfl rfl)
theorem dJ19_add_2_41 : decode cJ19_add_2 41 = .ok (.aload 7, 2) := dk_25 7 (dk_at dksJ19_add_2_1 18 rfl rfl)
theorem dJ19_add_2_43 : decode cJ19_add_2 43 = .ok (.iload 6, 2) := dk_21 6 (dk_at dksJ19_add_2_1 20 rfl rfl)
theorem dJ19_add_2_45 : decode cJ19_add_2 45 = .ok (.lload 4, 2) := dk_22 4 (dk_at dksJ19_add_2_1 22 rfl rfl)
theorem dJ19_add_2_47 : decode cJ19_add_2 47 = .ok (.l2i, 1) := dk_136 (dk_at dksJ19_add_2_2 0 rfl rfl)
theorem dJ19_add_2_48 : decode cJ19_add_2 48 = .ok (.iastore, 1) := dk_79 (dk_at dksJ19_add_2_2 1 rfl rfl)
theorem dJ19_add_2_49 : decode cJ19_add_2 49 = .ok (.goto 116, 3) := dk_167 0 116 (dk_at dksJ19_add_2_2 2 rfl rfl)
theorem dJ19_add_2_52 : decode cJ19_add_2 52 = .ok (.iload 6, 2) := dk_21 6 (dk_at dksJ19_add_2_2 5 rfl rfl)
theorem dJ19_add_2_54 : decode cJ19_add_2 54 = .ok (.iconst 1, 1) := dk_4 (dk_at dksJ19_add_2_2 7 rfl rfl)
theorem dJ19_add_2_55 : decode cJ19_add_2 55 = .ok (.if_icmp .ne 40, 3) := dk_160 0 40 (dk_at dksJ19_add_2_2 8 rfl rfl)
theorem dJ19_add_2_58 : decode cJ19_add_2 58 = .ok (.iconst 2, 1) := dk_5 (dk_at dksJ19_add_2_2 11 rfl rfl)
theorem dJ19_add_2_59 : decode cJ19_add_2 59 = .ok (.newarray .int, 2) := dk_188_10 (dk_at dksJ19_add_2_2 12 rfl rfl)
theorem dJ19_add_2_61 : decode cJ19_add_2 61 = .ok (.astore 7, 2) := dk_58 7 (dk_at dksJ19_add_2_2 14 rfl rfl)
theorem dJ19_add_2_63 : decode cJ19_add_2 63 = .ok (.lload_n 1, 1) := dk_31 (dk_at dksJ19_add_2_2 16 rfl rfl)
theorem dJ19_add_2_64 : decode cJ19_add_2 64 = .ok (.aload_n 0, 1) := dk_42 (dk_at dksJ19_add_2_2 17 rfl rfl)
theorem dJ19_add_2_65 : decode cJ19_add_2 65 = .ok (.iconst 0, 1) := dk_3 (dk_at dksJ19_add_2_2 18 rfl rfl)
theorem dJ19_add_2_66 : decode cJ19_add_2 66 = .ok (.iaload, 1) := dk_46 (dk_at dksJ19_add_2_2 19 rfl rfl)
theorem dJ19_add_2_67 : decode cJ19_add_2 67 = .ok (.i2l, 1) := dk_133 (dk_at dksJ19_add_2_2 20 rfl rfl)
theorem dJ19_add_2_68 : decode cJ19_add_2 68 = .ok (.ldc2_w 130, 3) := dk_20 0 130 (dk_at dksJ19_add_2_2 21 rfl rfl)
theorem dJ19_add_2_71 : decode cJ19_add_2 71 = .ok (.land, 1) := dk_127 (dk_at dksJ19_add_2_3 0 rfl rfl)
theorem dJ19_add_2_72 : decode cJ19_add_2 72 = .ok (.ladd, 1) := dk_97 (dk_at dksJ19_add_2_3 1 rfl rfl)
theorem dJ19_add_2_73 : decode cJ19_add_2 73 = .ok (.lstore 4, 2) := dk_55 4 (dk_at dksJ19_add_2_3 2 rfl rfl)
theorem dJ19_add_2_75 : decode cJ19_add_2 75 = .ok (.aload 7, 2) := dk_25 7 (dk_at dksJ19_add_2_3 4 rfl rfl)
theorem dJ19_add_2_77 : decode cJ19_add_2 77 = .ok (.iconst 1, 1) := dk_4 (dk_at dksJ19_add_2_3 6 rfl rfl)
theorem dJ19_add_2_78 : decode cJ19_add_2 78 = .ok (.lload 4, 2) := dk_22 4 (dk_at dksJ19_add_2_3 7 rfl rfl)
theorem dJ19_add_2_80 : decode cJ19_add_2 80 = .ok (.l2i, 1) := dk_136 (dk_at dksJ19_add_2_3 9 rfl rfl)
theorem dJ19_add_2_81 : decode cJ19_add_2 81 = .ok (.iastore, 1) := dk_79 (dk_at dksJ19_add_2_3 10 rfl rfl)
theorem dJ19_add_2_82 : decode cJ19_add_2 82 = .ok (.aload 7, 2) := dk_25 7 (dk_at dksJ19_add_2_3 11 rfl rfl)
theorem dJ19_add_2_84 : decode cJ19_add_2 84 = .ok (.iconst 0, 1) := dk_3 (dk_at dksJ19_add_2_3 13 rfl rfl)
theorem dJ19_add_2_85 : decode cJ19_add_2 85 = .ok (.lload 4, 2) := dk_22 4 (dk_at dksJ19_add_2_3 14 rfl rfl)
theorem dJ19_add_2_87 : decode cJ19_add_2 87 = .ok (.bipush 32, 2) := dk_16 32 (dk_at dksJ19_add_2_3 16 rfl rfl)
theorem dJ19_add_2_89 : decode cJ19_add_2 89 = .ok (.lushr, 1) := dk_125 (dk_at dksJ19_add_2_3 18 rfl rfl)
theorem dJ19_add_2_90 : decode cJ19_add_2 90 = .ok (.l2i, 1) := dk_136 (dk_at dksJ19_add_2_3 19 rfl rfl)
theorem dJ19_add_2_91 : decode cJ19_add_2 91 = .ok (.iastore, 1) := dk_79 (dk_at dksJ19_add_2_3 20 rfl rfl)
theorem dJ19_add_2_92 : decode cJ19_add_2 92 = .ok (.aload 7, 2) := dk_25 7 (dk_at dksJ19_add_2_3 21 rfl rfl)
theorem dJ19_add_2_94 : decode cJ19_add_2 94 = .ok (.areturn, 1) := dk_176 (dk_at dksJ19_add_2_3 23 rfl rfl)
theorem dJ19_add_2_95 : decode cJ19_add_2 95 = .ok (.iload 6, 2) := dk_21 6 (dk_at dksJ19_add_2_4 0 rfl rfl)
theorem dJ19_add_2_97 : decode cJ19_add_2 97 = .ok (.newarray .int, 2) := dk_188_10 (dk_at dksJ19_add_2_4 2 rfl rfl)
theorem dJ19_add_2_99 : decode cJ19_add_2 99 = .ok (.astore 7, 2) := dk_58 7 (dk_at dksJ19_add_2_4 4 rfl rfl)
theorem dJ19_add_2_101 : decode cJ19_add_2 101 = .ok (.aload_n 0, 1) := dk_42 (dk_at dksJ19_add_2_4 6 rfl rfl)
theorem dJ19_add_2_102 : decode cJ19_add_2 102 = .ok (.iinc 6 (-1), 3) := dk_132 6 255 (dk_at dksJ19_add_2_4 7 rfl rfl)
theorem dJ19_add_2_105 : decode cJ19_add_2 105 = .ok (.iload 6, 2) := dk_21 6 (dk_at dksJ19_add_2_4 10 rfl rfl)
theorem dJ19_add_2_107 : decode cJ19_add_2 107 = .ok (.iaload, 1) := dk_46 (dk_at dksJ19_add_2_4 12 rfl rfl)
theorem dJ19_add_2_108 : decode cJ19_add_2 108 = .ok (.i2l, 1) := dk_133 (dk_at dksJ19_add_2_4 13 rfl rfl)
theorem dJ19_add_2_109 : decode cJ19_add_2 109 = .ok (.ldc2_w 130, 3) := dk_20 0 130 (dk_at dksJ19_add_2_4 14 rfl rfl)
theorem dJ19_add_2_112 : decode cJ19_add_2 112 = .ok (.land, 1) := dk_127 (dk_at dksJ19_add_2_4 17 rfl rfl)
theorem dJ19_add_2_113 : decode cJ19_add_2 113 = .ok (.lload_n 1, 1) := dk_31 (dk_at dksJ19_add_2_4 18 rfl rfl)
theorem dJ19_add_2_114 : decode cJ19_add_2 114 = .ok (.ldc2_w 130, 3) := dk_20 0 130 (dk_at dksJ19_add_2_4 19 rfl rfl)
theorem dJ19_add_2_117 : decode cJ19_add_2 117 = .ok (.land, 1) := dk_127 (dk_at dksJ19_add_2_4 22 rfl rfl)
theorem dJ19_add_2_118 : decode cJ19_add_2 118 = .ok (.ladd, 1) := dk_97 (dk_at dksJ19_add_2_4 23 rfl rfl)
theorem dJ19_add_2_119 : decode cJ19_add_2 119 = .ok (.lstore 4, 2) := dk_55 4 (dk_at dksJ19_add_2_5 0 rfl rfl)
theorem dJ19_add_2_121 : decode cJ19_add_2 121 = .ok (.aload 7, 2) := dk_25 7 (dk_at dksJ19_add_2_5 2 rfl rfl)
theorem dJ19_add_2_123 : decode cJ19_add_2 123 = .ok (.iload 6, 2) := dk_21 6 (dk_at dksJ19_add_2_5 4 rfl rfl)
theorem dJ19_add_2_125 : decode cJ19_add_2 125 = .ok (.lload 4, 2) := dk_22 4 (dk_at dksJ19_add_2_5 6 rfl rfl)
theorem dJ19_add_2_127 : decode cJ19_add_2 127 = .ok (.l2i, 1) := dk_136 (dk_at dksJ19_add_2_5 8 rfl rfl)
theorem dJ19_add_2_128 : decode cJ19_add_2 128 = .ok (.iastore, 1) := dk_79 (dk_at dksJ19_add_2_5 9 rfl rfl)
theorem dJ19_add_2_129 : decode cJ19_add_2 129 = .ok (.aload_n 0, 1) := dk_42 (dk_at dksJ19_add_2_5 10 rfl rfl)
theorem dJ19_add_2_130 : decode cJ19_add_2 130 = .ok (.iinc 6 (-1), 3) := dk_132 6 255 (dk_at dksJ19_add_2_5 11 rfl rfl)
theorem dJ19_add_2_133 : decode cJ19_add_2 133 = .ok (.iload 6, 2) := dk_21 6 (dk_at dksJ19_add_2_5 14 rfl rfl)
theorem dJ19_add_2_135 : decode cJ19_add_2 135 = .ok (.iaload, 1) := dk_46 (dk_at dksJ19_add_2_5 16 rfl rfl)
theorem dJ19_add_2_136 : decode cJ19_add_2 136 = .ok (.i2l, 1) := dk_133 (dk_at dksJ19_add_2_5 17 rfl rfl)
theorem dJ19_add_2_137 : decode cJ19_add_2 137 = .ok (.ldc2_w 130, 3) := dk_20 0 130 (dk_at dksJ19_add_2_5 18 rfl rfl)
theorem dJ19_add_2_140 : decode cJ19_add_2 140 = .ok (.land, 1) := dk_127 (dk_at dksJ19_add_2_5 21 rfl rfl)
theorem dJ19_add_2_141 : decode cJ19_add_2 141 = .ok (.iload 8, 2) := dk_21 8 (dk_at dksJ19_add_2_5 22 rfl rfl)
theorem dJ19_add_2_143 : decode cJ19_add_2 143 = .ok (.i2l, 1) := dk_133 (dk_at dksJ19_add_2_6 0 rfl rfl)
theorem dJ19_add_2_144 : decode cJ19_add_2 144 = .ok (.ldc2_w 130, 3) := dk_20 0 130 (dk_at dksJ19_add_2_6 1 rfl rfl)
theorem dJ19_add_2_147 : decode cJ19_add_2 147 = .ok (.land, 1) := dk_127 (dk_at dksJ19_add_2_6 4 rfl rfl)
theorem dJ19_add_2_148 : decode cJ19_add_2 148 = .ok (.ladd, 1) := dk_97 (dk_at dksJ19_add_2_6 5 rfl rfl)
theorem dJ19_add_2_149 : decode cJ19_add_2 149 = .ok (.lload 4, 2) := dk_22 4 (dk_at dksJ19_add_2_6 6 rfl rfl)
theorem dJ19_add_2_151 : decode cJ19_add_2 151 = .ok (.bipush 32, 2) := dk_16 32 (dk_at dksJ19_add_2_6 8 rfl rfl)
theorem dJ19_add_2_153 : decode cJ19_add_2 153 = .ok (.lushr, 1) := dk_125 (dk_at dksJ19_add_2_6 10 rfl rfl)
theorem dJ19_add_2_154 : decode cJ19_add_2 154 = .ok (.ladd, 1) := dk_97 (dk_at dksJ19_add_2_6 11 rfl rfl)
theorem dJ19_add_2_155 : decode cJ19_add_2 155 = .ok (.lstore 4, 2) := dk_55 4 (dk_at dksJ19_add_2_6 12 rfl rfl)
theorem dJ19_add_2_157 : decode cJ19_add_2 157 = .ok (.aload 7, 2) := dk_25 7 (dk_at dksJ19_add_2_6 14 rfl rfl)
theorem dJ19_add_2_159 : decode cJ19_add_2 159 = .ok (.iload 6, 2) := dk_21 6 (dk_at dksJ19_add_2_6 16 rfl rfl)
theorem dJ19_add_2_161 : decode cJ19_add_2 161 = .ok (.lload 4, 2) := dk_22 4 (dk_at dksJ19_add_2_6 18 rfl rfl)
theorem dJ19_add_2_163 : decode cJ19_add_2 163 = .ok (.l2i, 1) := dk_136 (dk_at dksJ19_add_2_6 20 rfl rfl)
theorem dJ19_add_2_164 : decode cJ19_add_2 164 = .ok (.iastore, 1) := dk_79 (dk_at dksJ19_add_2_6 21 rfl rfl)
theorem dJ19_add_2_165 : decode cJ19_add_2 165 = .ok (.lload 4, 2) := dk_22 4 (dk_at dksJ19_add_2_6 22 rfl rfl)
theorem dJ19_add_2_167 : decode cJ19_add_2 167 = .ok (.bipush 32, 2) := dk_16 32 (dk_at dksJ19_add_2_7 0 rfl rfl)
theorem dJ19_add_2_169 : decode cJ19_add_2 169 = .ok (.lushr, 1) := dk_125 (dk_at dksJ19_add_2_7 2 rfl rfl)
theorem dJ19_add_2_170 : decode cJ19_add_2 170 = .ok (.lconst 0, 1) := dk_9 (dk_at dksJ19_add_2_7 3 rfl rfl)
theorem dJ19_add_2_171 : decode cJ19_add_2 171 = .ok (.lcmp, 1) := dk_148 (dk_at dksJ19_add_2_7 4 rfl rfl)
theorem dJ19_add_2_172 : decode cJ19_add_2 172 = .ok (.ifCond .eq 7, 3) := dk_153 0 7 (dk_at dksJ19_add_2_7 5 rfl rfl)
theorem dJ19_add_2_175 : decode cJ19_add_2 175 = .ok (.iconst 1, 1) := dk_4 (dk_at dksJ19_add_2_7 8 rfl rfl)
theorem dJ19_add_2_176 : decode cJ19_add_2 176 = .ok (.goto 4, 3) := dk_167 0 4 (dk_at dksJ19_add_2_7 9 rfl rfl)
theorem dJ19_add_2_179 : decode cJ19_add_2 179 = .ok (.iconst 0, 1) := dk_3 (dk_at dksJ19_add_2_7 12 rfl rfl)
theorem dJ19_add_2_180 : decode cJ19_add_2 180 = .ok (.istore 9, 2) := dk_54 9 (dk_at dksJ19_add_2_7 13 rfl rfl)
theorem dJ19_add_2_182 : decode cJ19_add_2 182 = .ok (.iload 6, 2) := dk_21 6 (dk_at dksJ19_add_2_7 15 rfl rfl)
theorem dJ19_add_2_184 : decode cJ19_add_2 184 = .ok (.ifCond .le 36, 3) := dk_158 0 36 (dk_at dksJ19_add_2_7 17 rfl rfl)
theorem dJ19_add_2_187 : decode cJ19_add_2 187 = .ok (.iload 9, 2) := dk_21 9 (dk_at dksJ19_add_2_7 20 rfl rfl)
theorem dJ19_add_2_189 : decode cJ19_add_2 189 = .ok (.ifCond .eq 31, 3) := dk_153 0 31 (dk_at dksJ19_add_2_8 0 rfl rfl)
theorem dJ19_add_2_192 : decode cJ19_add_2 192 = .ok (.aload 7, 2) := dk_25 7 (dk_at dksJ19_add_2_8 3 rfl rfl)
theorem dJ19_add_2_194 : decode cJ19_add_2 194 = .ok (.iinc 6 (-1), 3) := dk_132 6 255 (dk_at dksJ19_add_2_8 5 rfl rfl)
theorem dJ19_add_2_197 : decode cJ19_add_2 197 = .ok (.iload 6, 2) := dk_21 6 (dk_at dksJ19_add_2_8 8 rfl rfl)
theorem dJ19_add_2_199 : decode cJ19_add_2 199 = .ok (.aload_n 0, 1) := dk_42 (dk_at dksJ19_add_2_8 10 rfl rfl)
theorem dJ19_add_2_200 : decode cJ19_add_2 200 = .ok (.iload 6, 2) := dk_21 6 (dk_at dksJ19_add_2_8 11 rfl rfl)
theorem dJ19_add_2_202 : decode cJ19_add_2 202 = .ok (.iaload, 1) := dk_46 (dk_at dksJ19_add_2_8 13 rfl rfl)
theorem dJ19_add_2_203 : decode cJ19_add_2 203 = .ok (.iconst 1, 1) := dk_4 (dk_at dksJ19_add_2_8 14 rfl rfl)
theorem dJ19_add_2_204 : decode cJ19_add_2 204 = .ok (.iadd, 1) := dk_96 (dk_at dksJ19_add_2_8 15 rfl rfl)
theorem dJ19_add_2_205 : decode cJ19_add_2 205 = .ok (.dup_x2, 1) := dk_91 (dk_at dksJ19_add_2_8 16 rfl rfl)
theorem dJ19_add_2_206 : decode cJ19_add_2 206 = .ok (.iastore, 1) := dk_79 (dk_at dksJ19_add_2_8 17 rfl rfl)
theorem dJ19_add_2_207 : decode cJ19_add_2 207 = .ok (.ifCond .ne 7, 3) := dk_154 0 7 (dk_at dksJ19_add_2_8 18 rfl rfl)
theorem dJ19_add_2_210 : decode cJ19_add_2 210 = .ok (.iconst 1, 1) := dk_4 (dk_at dksJ19_add_2_8 21 rfl rfl)
theorem dJ19_add_2_211 : decode cJ19_add_2 211 = .ok (.goto 4, 3) := dk_167 0 4 (dk_at dksJ19_add_2_9 0 rfl rfl)
theorem dJ19_add_2_214 : decode cJ19_add_2 214 = .ok (.iconst 0, 1) := dk_3 (dk_at dksJ19_add_2_9 3 rfl rfl)
theorem dJ19_add_2_215 : decode cJ19_add_2 215 = .ok (.istore 9, 2) := dk_54 9 (dk_at dksJ19_add_2_9 4 rfl rfl)
theorem dJ19_add_2_217 : decode cJ19_add_2 217 = .ok (.goto (-35), 3) := dk_167 255 221 (dk_at dksJ19_add_2_9 6 rfl rfl)
theorem dJ19_add_2_220 : decode cJ19_add_2 220 = .ok (.iload 6, 2) := dk_21 6 (dk_at dksJ19_add_2_9 9 rfl rfl)
theorem dJ19_add_2_222 : decode cJ19_add_2 222 = .ok (.ifCond .le 18, 3) := dk_158 0 18 (dk_at dksJ19_add_2_9 11 rfl rfl)
theorem dJ19_add_2_225 : decode cJ19_add_2 225 = .ok (.aload 7, 2) := dk_25 7 (dk_at dksJ19_add_2_9 14 rfl rfl)
theorem dJ19_add_2_227 : decode cJ19_add_2 227 = .ok (.iinc 6 (-1), 3) := dk_132 6 255 (dk_at dksJ19_add_2_9 16 rfl rfl)
theorem dJ19_add_2_230 : decode cJ19_add_2 230 = .ok (.iload 6, 2) := dk_21 6 (dk_at dksJ19_add_2_9 19 rfl rfl)
theorem dJ19_add_2_232 : decode cJ19_add_2 232 = .ok (.aload_n 0, 1) := dk_42 (dk_at dksJ19_add_2_9 21 rfl rfl)
theorem dJ19_add_2_233 : decode cJ19_add_2 233 = .ok (.iload 6, 2) := dk_21 6 (dk_at dksJ19_add_2_9 22 rfl rfl)
theorem dJ19_add_2_235 : decode cJ19_add_2 235 = .ok (.iaload, 1) := dk_46 (dk_at dksJ19_add_2_10 0 rfl rfl)
theorem dJ19_add_2_236 : decode cJ19_add_2 236 = .ok (.iastore, 1) := dk_79 (dk_at dksJ19_add_2_10 1 rfl rfl)
theorem dJ19_add_2_237 : decode cJ19_add_2 237 = .ok (.goto (-17), 3) := dk_167 255 239 (dk_at dksJ19_add_2_10 2 rfl rfl)
theorem dJ19_add_2_240 : decode cJ19_add_2 240 = .ok (.iload 9, 2) := dk_21 9 (dk_at dksJ19_add_2_10 5 rfl rfl)
theorem dJ19_add_2_242 : decode cJ19_add_2 242 = .ok (.ifCond .eq 32, 3) := dk_153 0 32 (dk_at dksJ19_add_2_10 7 rfl rfl)
theorem dJ19_add_2_245 : decode cJ19_add_2 245 = .ok (.aload 7, 2) := dk_25 7 (dk_at dksJ19_add_2_10 10 rfl rfl)
theorem dJ19_add_2_247 : decode cJ19_add_2 247 = .ok (.arraylength, 1) := dk_190 (dk_at dksJ19_add_2_10 12 rfl rfl)
theorem dJ19_add_2_248 : decode cJ19_add_2 248 = .ok (.iconst 1, 1) := dk_4 (dk_at dksJ19_add_2_10 13 rfl rfl)
theorem dJ19_add_2_249 : decode cJ19_add_2 249 = .ok (.iadd, 1) := dk_96 (dk_at dksJ19_add_2_10 14 rfl rfl)
theorem dJ19_add_2_250 : decode cJ19_add_2 250 = .ok (.newarray .int, 2) := dk_188_10 (dk_at dksJ19_add_2_10 15 rfl rfl)
theorem dJ19_add_2_252 : decode cJ19_add_2 252 = .ok (.astore 10, 2) := dk_58 10 (dk_at dksJ19_add_2_10 17 rfl rfl)
theorem dJ19_add_2_254 : decode cJ19_add_2 254 = .ok (.aload 7, 2) := dk_25 7 (dk_at dksJ19_add_2_10 19 rfl rfl)
theorem dJ19_add_2_256 : decode cJ19_add_2 256 = .ok (.iconst 0, 1) := dk_3 (dk_at dksJ19_add_2_10 21 rfl rfl)
theorem dJ19_add_2_257 : decode cJ19_add_2 257 = .ok (.aload 10, 2) := dk_25 10 (dk_at dksJ19_add_2_10 22 rfl rfl)
theorem dJ19_add_2_259 : decode cJ19_add_2 259 = .ok (.iconst 1, 1) := dk_4 (dk_at dksJ19_add_2_11 0 rfl rfl)
theorem dJ19_add_2_260 : decode cJ19_add_2 260 = .ok (.aload 7, 2) := dk_25 7 (dk_at dksJ19_add_2_11 1 rfl rfl)
theorem dJ19_add_2_262 : decode cJ19_add_2 262 = .ok (.arraylength, 1) := dk_190 (dk_at dksJ19_add_2_11 3 rfl rfl)
theorem dJ19_add_2_263 : decode cJ19_add_2 263 = .ok (.invokestatic 388, 3) := dk_184 1 132 (dk_at dksJ19_add_2_11 4 rfl rfl)
theorem dJ19_add_2_266 : decode cJ19_add_2 266 = .ok (.aload 10, 2) := dk_25 10 (dk_at dksJ19_add_2_11 7 rfl rfl)
theorem dJ19_add_2_268 : decode cJ19_add_2 268 = .ok (.iconst 0, 1) := dk_3 (dk_at dksJ19_add_2_11 9 rfl rfl)
theorem dJ19_add_2_269 : decode cJ19_add_2 269 = .ok (.iconst 1, 1) := dk_4 (dk_at dksJ19_add_2_11 10 rfl rfl)
theorem dJ19_add_2_270 : decode cJ19_add_2 270 = .ok (.iastore, 1) := dk_79 (dk_at dksJ19_add_2_11 11 rfl rfl)
theorem dJ19_add_2_271 : decode cJ19_add_2 271 = .ok (.aload 10, 2) := dk_25 10 (dk_at dksJ19_add_2_11 12 rfl rfl)
theorem dJ19_add_2_273 : decode cJ19_add_2 273 = .ok (.areturn, 1) := dk_176 (dk_at dksJ19_add_2_11 14 rfl rfl)
theorem dJ19_add_2_274 : decode cJ19_add_2 274 = .ok (.aload 7, 2) := dk_25 7 (dk_at dksJ19_add_2_11 15 rfl rfl)
theorem dJ19_add_2_276 : decode cJ19_add_2 276 = .ok (.areturn, 1) := dk_176 (dk_at dksJ19_add_2_11 17 rfl rfl)
def dkwJ19_compareMagnitude_8 : List UInt8 := [21, 7, 133, 20, 0, 130, 127, 148, 156, 0, 7, 2, 167, 0, 4, 4, 172, 3, 172]
abbrev dktJ19_compareMagnitude_8 : List UInt8 := dkwJ19_compareMagnitude_8 ++ []
def dkwJ19_compareMagnitude_7 : List UInt8 := [45, 4, 46, 54, 6, 31, 136, 54, 7, 21, 6, 21, 7, 159, 0, 27, 21, 6, 133, 20, 0, 130, 127]
abbrev dktJ19_compareMagnitude_7 : List UInt8 := dkwJ19_compareMagnitude_7 ++ dktJ19_compareMagnitude_8
def dkwJ19_compareMagnitude_6 : List UInt8 := [21, 6, 133, 20, 0, 130, 127, 21, 7, 133, 20, 0, 130, 127, 148, 156, 0, 7, 2, 167, 0, 4, 4, 172]
abbrev dktJ19_compareMagnitude_6 : List UInt8 := dkwJ19_compareMagnitude_6 ++ dktJ19_compareMagnitude_7
def dkwJ19_compareMagnitude_5 : List UInt8 := [21, 4, 5, 162, 0, 5, 2, 172, 45, 3, 46, 54, 6, 21, 5, 54, 7, 21, 6, 21, 7, 159, 0, 27]
abbrev dktJ19_compareMagnitude_5 : List UInt8 := dkwJ19_compareMagnitude_5 ++ dktJ19_compareMagnitude_6
def dkwJ19_compareMagnitude_4 : List UInt8 := [20, 0, 130, 127, 21, 7, 133, 20, 0, 130, 127, 148, 156, 0, 7, 2, 167, 0, 4, 4, 172, 3, 172]
abbrev dktJ19_compareMagnitude_4 : List UInt8 := dkwJ19_compareMagnitude_4 ++ dktJ19_compareMagnitude_5
def dkwJ19_compareMagnitude_3 : List UInt8 := [164, 0, 5, 4, 172, 45, 3, 46, 54, 6, 31, 136, 54, 7, 21, 6, 21, 7, 159, 0, 27, 21, 6, 133]
abbrev dktJ19_compareMagnitude_3 : List UInt8 := dkwJ19_compareMagnitude_3 ++ dktJ19_compareMagnitude_4
def dkwJ19_compareMagnitude_2 : List UInt8 := [64, 31, 16, 32, 125, 136, 54, 5, 21, 5, 154, 0, 61, 21, 4, 4, 162, 0, 5, 2, 172, 21, 4, 4]
abbrev dktJ19_compareMagnitude_2 : List UInt8 := dkwJ19_compareMagnitude_2 ++ dktJ19_compareMagnitude_3
def dkwJ19_compareMagnitude_1 : List UInt8 := [180, 0, 28, 78, 45, 190, 54, 4, 21, 4, 5, 164, 0, 5, 4, 172, 31, 9, 148, 156, 0, 6, 31, 117]
abbrev dktJ19_compareMagnitude_1 : List UInt8 := dkwJ19_compareMagnitude_1 ++ dktJ19_compareMagnitude_2
def dkwJ19_compareMagnitude_0 : List UInt8 := [178, 1, 53, 154, 0, 19, 31, 20, 1, 183, 148, 154, 0, 11, 187, 1, 57, 89, 183, 1, 59, 191, 42]
abbrev dktJ19_compareMagnitude_0 : List UInt8 := dkwJ19_compareMagnitude_0 ++ dktJ19_compareMagnitude_1
theorem dksJ19_compareMagnitude_0 : cJ19_compareMagnitude.data.toList.drop 0 = dktJ19_compareMagnitude_0 := by decide +kernel
theorem dksJ19_compareMagnitude_1 : cJ19_compareMagnitude.data.toList.drop 23 = dktJ19_compareMagnitude_1 := dk_seg dksJ19_compareMagnitude_0 23 rfl rfl
theorem dksJ19_compareMagnitude_2 : cJ19_compareMagnitude.data.toList.drop 47 = dktJ19_compareMagnitude_2 := dk_seg dksJ19_compareMagnitude_1 24 rfl rfl
theorem dksJ19_compareMagnitude_3 : cJ19_compareMagnitude.data.toList.drop 71 = dktJ19_compareMagnitude_3 := dk_seg dksJ19_compareMagnitude_2 24 rfl rfl
theorem dksJ19_compareMagnitude_4 : cJ19_compareMagnitude.data.toList.drop 95 = dktJ19_compareMagnitude_4 := dk_seg dksJ19_compareMagnitude_3 24 rfl rfl
theorem dksJ19_compareMagnitude_5 : cJ19_compareMagnitude.data.toList.drop 118 = dktJ19_compareMagnitude_5 := dk_seg dksJ19_compareMagnitude_4 23 rfl rfl
theorem dksJ19_compareMagnitude_6 : cJ19_compareMagnitude.data.toList.drop 142 = dktJ19_compareMagnitude_6 := dk_seg dksJ19_compareMagnitude_5 24 rfl rfl
theorem dksJ19_compareMagnitude_7 : cJ19_compareMagnitude.data.toList.drop 166 = dktJ19_compareMagnitude_7 := dk_seg dksJ19_compareMagnitude_6 24 rfl rfl
theorem dksJ19_compareMagnitude_8 : cJ19_compareMagnitude.data.toList.drop 189 = dktJ19_compareMagnitude_8 := dk_seg dksJ19_compareMagnitude_7 23 rfl rfl
theorem dJ19_compareMagnitude_0 : decode cJ19_compareMagnitude 0 = .ok (.getstatic 309, 3) := dk_178 1 53 (dk_at dksJ19_compareMagnitude_0 0 rfl rfl)
theorem dJ19_compareMagnitude_3 : decode cJ19_compareMagnitude 3 = .ok (.ifCond .ne 19, 3) := dk_154 0 19 (dk_at dksJ19_compareMagnitude_0 3 rfl rfl)
theorem dJ19_compareMagnitude_6 : decode cJ19_compareMagnitude 6 = .ok (.lload_n 1, 1) := dk_31 (dk_at dksJ19_compareMagnitude_0 6 rfl rfl)
theorem dJ19_compareMagnitude_7 : decode cJ19_compareMagnitude 7 = .ok (.ldc2_w 439, 3) := dk_20 1 183 (dk_at dksJ19_compareMagnitude_0 7 rfl rfl)
theorem dJ19_compareMagnitude_10 : decode cJ19_compareMagnitude 10 = .ok (.lcmp, 1) := dk_148 (dk_at dksJ19_compareMagnitude_0 10 rfl rfl)
theorem dJ19_compareMagnitude_11 : decode cJ19_compareMagnitude 11 = .ok (.ifCond .ne 11, 3) := dk_154 0 11 (dk_at dksJ19_compareMagnitude_0 11 rfl rfl)
theorem dJ19_compareMagnitude_14 : decode cJ19_compareMagnitude 14 = .ok (.new 313, 3) := dk_187 1 57 (dk_at dksJ19_compareMagnitude_0 14 rfl rfl)
theorem dJ19_compareMagnitude_17 : decode cJ19_compareMagnitude 17 = .ok (.dup, 1) := dk_89 (dk_at dksJ19_compareMagnitude_0 17 rfl rfl)
theorem dJ19_compareMagnitude_18 : decode cJ19_compareMagnitude 18 = .ok (.invokespecial 315, 3) := dk_183 1 59 (dk_at dksJ19_compareMagnitude_0 18 rfl rfl)
theorem dJ19_compareMagnitude_21 : decode cJ19_compareMagnitude 21 = .ok (.athrow, 1) := dk_191 (dk_at dksJ19_compareMagnitude_0 21 rfl rfl)
theorem dJ19_compareMagnitude_22 : decode cJ19_compareMagnitude 22 = .ok (.aload_n 0, 1) := dk_42 (dk_at dksJ19_compareMagnitude_0 22 rfl rfl)
theorem dJ19_compareMagnitude_23 : decode cJ19_compareMagnitude 23 = .ok (.getfield 28, 3) := dk_180 0 28 (dk_at dksJ19_compareMagnitude_1 0 rfl rfl)
theorem dJ19_compareMagnitude_26 : decode cJ19_compareMagnitude 26 = .ok (.astore_n 3, 1) := dk_78 (dk_at dksJ19_compareMagnitude_1 3 rfl rfl)
theorem dJ19_compareMagnitude_27 : decode cJ19_compareMagnitude 27 = .ok (.aload_n 3, 1) := dk_45 (dk_at dksJ19_compareMagnitude_1 4 rfl rfl)
theorem dJ19_compareMagnitude_28 : decode cJ19_compareMagnitude 28 = .ok (.arraylength, 1) := dk_190 (dk_at dksJ19_compareMagnitude_1 5 rfl rfl)
theorem dJ19_compareMagnitude_29 : decode cJ19_compareMagnitude 29 = .ok (.istore 4, 2) := dk_54 4 (dk_at dksJ19_compareMagnitude_1 6 rfl rfl)
theorem dJ19_compareMagnitude_31 : decode cJ19_compareMagnitude 31 = .ok (.iload 4, 2) := dk_21 4 (dk_at dksJ19_compareMagnitude_1 8 rfl rfl)
theorem dJ19_compareMagnitude_33 : decode cJ19_compareMagnitude 33 = .ok (.iconst 2, 1) := dk_5 (dk_at dksJ19_compareMagnitude_1 10 rfl rfl)
theorem dJ19_compareMagnitude_34 : decode cJ19_compareMagnitude 34 = .ok (.if_icmp .le 5, 3) := dk_164 0 5 (dk_at dksJ19_compareMagnitude_1 11 rfl rfl)
theorem dJ19_compareMagnitude_37 : decode cJ19_compareMagnitude 37 = .ok (.iconst 1, 1) := dk_4 (dk_at dksJ19_compareMagnitude_1 14 rfl rfl)
theorem dJ19_compareMagnitude_38 : decode cJ19_compareMagnitude 38 = .ok (.ireturn, 1) := dk_172 (dk_at dksJ19_compareMagnitude_1 15 rfl rfl)
theorem dJ19_compareMagnitude_39 : decode cJ19_compareMagnitude 39 = .ok (.lload_n 1, 1) := dk_31 (dk_at dksJ19_compareMagnitude_1 16 rfl rfl)
theorem dJ19_compareMagnitude_40 : decode cJ19_compareMagnitude 40 = .ok (.lconst 0, 1) := dk_9 (dk_at dksJ19_compareMagnitude_1 17 rfl rfl)
theorem dJ19_compareMagnitude_41 : decode cJ19_compareMagnitude 41 = .ok (.lcmp, 1) := dk_148 (dk_at dksJ19_compareMagnitude_1 18 rfl rfl)
theorem dJ19_compareMagnitude_42 : decode cJ19_compareMagnitude 42 = .ok (.ifCond .ge 6, 3) := dk_156 0 6 (dk_at dksJ19_compareMagnitude_1 19 rfl rfl)
theorem dJ19_compareMagnitude_45 : decode cJ19_compareMagnitude 45 = .ok (.lload_n 1, 1) := dk_31 (dk_at dksJ19_compareMagnitude_1 22 rfl rfl)
theorem dJ19_compareMagnitude_46 : decode cJ19_compareMagnitude 46 = .ok (.lneg, 1) := dk_117 (dk_at dksJ19_compareMagnitude_1 23 rfl rfl)
theorem dJ19_compareMagnitude_47 : decode cJ19_compareMagnitude 47 = .ok (.lstore_n 1, 1) := dk_64 (dk_at dksJ19_compareMagnitude_2 0 rfl rfl)
theorem dJ19_compareMagnitude_48 : decode cJ19_compareMagnitude 48 = .ok (.lload_n 1, 1) := dk_31 (dk_at dksJ19_compareMagnitude_2 1 rfl rfl)
theorem dJ19_compareMagnitude_49 : decode cJ19_compareMagnitude 49 = .ok (.bipush 32, 2) := dk_16 32 (dk_at dksJ19_compareMagnitude_2 2 rfl rfl)
theorem dJ19_compareMagnitude_51 : decode cJ19_compareMagnitude 51 = .ok (.lushr, 1) := dk_125 (dk_at dksJ19_compareMagnitude_2 4 rfl rfl)
theorem dJ19_compareMagnitude_52 : decode cJ19_compareMagnitude 52 = .ok (.l2i, 1) := dk_136 (dk_at dksJ19_compareMagnitude_2 5 rfl rfl)
theorem dJ19_compareMagnitude_53 : decode cJ19_compareMagnitude 53 = .ok (.istore 5, 2) := dk_54 5 (dk_at dksJ19_compareMagnitude_2 6 rfl rfl)
theorem dJ19_compareMagnitude_55 : decode cJ19_compareMagnitude 55 = .ok (.iload 5, 2) := dk_21 5 (dk_at dksJ19_compareMagnitude_2 8 rfl rfl)
theorem dJ19_compareMagnitude_57 : decode cJ19_compareMagnitude 57 = .ok (.ifCond .ne 61, 3) := dk_154 0 61 (dk_at dksJ19_compareMagnitude_2 10 rfl rfl)
theorem dJ19_compareMagnitude_60 : decode cJ19_compareMagnitude 60 = .ok (.iload 4, 2) := dk_21 4 (dk_at dksJ19_compareMagnitude_2 13 rfl rfl)
theorem dJ19_compareMagnitude_62 : decode cJ19_compareMagnitude 62 = .ok (.iconst 1, 1) := dk_4 (dk_at dksJ19_compareMagnitude_2 15 rfl rfl)
theorem dJ19_compareMagnitude_63 : decode cJ19_compareMagnitude 63 = .ok (.if_icmp .ge 5, 3) := dk_162 0 5 (dk_at dksJ19_compareMagnitude_2 16 rfl rfl)
theorem dJ19_compareMagnitude_66 : decode cJ19_compareMagnitude 66 = .ok (.iconst (-1), 1) := dk_2 (dk_at dksJ19_compareMagnitude_2 19 rfl rfl)
theorem dJ19_compareMagnitude_67 : decode cJ19_compareMagnitude 67 = .ok (.ireturn, 1) := dk_172 (dk_at dksJ19_compareMagnitude_2 20 rfl rfl)
theorem dJ19_compareMagnitude_68 : decode cJ19_compareMagnitude 68 = .ok (.iload 4, 2) := dk_21 4 (dk_at dksJ19_compareMagnitude_2 21 rfl rfl)
theorem dJ19_compareMagnitude_70 : decode cJ19_compareMagnitude 70 = .ok (.iconst 1, 1) := dk_4 (dk_at dksJ19_compareMagnitude_2 23 rfl rfl)
theorem dJ19_compareMagnitude_71 : decode cJ19_compareMagnitude 71 = .ok (.if_icmp .le 5, 3) := dk_164 0 5 (dk_at dksJ19_compareMagnitude_3 0 rfl rfl)
theorem dJ19_compareMagnitude_74 : decode cJ19_compareMagnitude 74 = .ok (.iconst 1, 1) := dk_4 (dk_at dksJ19_compareMagnitude_3 3 rfl rfl)
theorem dJ19_compareMagnitude_75 : decode cJ19_compareMagnitude 75 = .ok (.ireturn, 1) := dk_172 (dk_at dksJ19_compareMagnitude_3 4 rfl rfl)
theorem dJ19_compareMagnitude_76 : decode cJ19_compareMagnitude 76 = .ok (.aload_n 3, 1) := dk_45 (dk_at dksJ19_compareMagnitude_3 5 rfl rfl)
theorem dJ19_compareMagnitude_77 : decode cJ19_compareMagnitude 77 = .ok (.iconst 0, 1) := dk_3 (dk_at dksJ19_compareMagnitude_3 6 rfl rfl)
theorem dJ19_compareMagnitude_78 : decode cJ19_compareMagnitude 78 = .ok (.iaload, 1) := dk_46 (dk_at dksJ19_compareMagnitude_3 7 rfl rfl)
theorem dJ19_compareMagnitude_79 : decode cJ19_compareMagnitude 79 = .ok (.istore 6, 2) := dk_54 6 (dk_at dksJ19_compareMagnitude_3 8 rfl rfl)
theorem dJ19_compareMagnitude_81 : decode cJ19_compareMagnitude 81 = .ok (.lload_n 1, 1) := dk_31 (dk_at dksJ19_compareMagnitude_3 10 rfl rfl)
theorem dJ19_compareMagnitude_82 : decode cJ19_compareMagnitude 82 = .ok (.l2i, 1) := dk_136 (dk_at dksJ19_compareMagnitude_3 11 rfl rfl)
theorem dJ19_compareMagnitude_83 : decode cJ19_compareMagnitude 83 = .ok (.istore 7, 2) := dk_54 7 (dk_at dksJ19_compareMagnitude_3 12 rfl rfl)
theorem dJ19_compareMagnitude_85 : decode cJ19_compareMagnitude 85 = .ok (.iload 6, 2) := dk_21 6 (dk_at dksJ19_compareMagnitude_3 14 rfl rfl)
theorem dJ19_compareMagnitude_87 : decode cJ19_compareMagnitude 87 = .ok (.iload 7, 2) := dk_21 7 (dk_at dksJ19_compareMagnitude_3 16 rfl rfl)
theorem dJ19_compareMagnitude_89 : decode cJ19_compareMagnitude 89 = .ok (.if_icmp .eq 27, 3) := dk_159 0 27 (dk_at dksJ19_compareMagnitude_3 18 rfl rfl)
theorem dJ19_compareMagnitude_92 : decode cJ19_compareMagnitude 92 = .ok (.iload 6, 2) := dk_21 6 (dk_at dksJ19_compareMagnitude_3 21 rfl rfl)
theorem dJ19_compareMagnitude_94 : decode cJ19_compareMagnitude 94 = .ok (.i2l, 1) := dk_133 (dk_at dksJ19_compareMagnitude_3 23 rfl rfl)
theorem dJ19_compareMagnitude_95 : decode cJ19_compareMagnitude 95 = .ok (.ldc2_w 130, 3) := dk_20 0 130 (dk_at dksJ19_compareMagnitude_4 0 rfl rfl)
theorem dJ19_compareMagnitude_98 : decode cJ19_compareMagnitude 98 = .ok (.land, 1) := dk_127 (dk_at dksJ19_compareMagnitude_4 3 rfl rfl)
theorem dJ19_compareMagnitude_99 : decode cJ19_compareMagnitude 99 = .ok (.iload 7, 2) := dk_21 7 (dk_at dksJ19_compareMagnitude_4 4 rfl rfl)
theorem dJ19_compareMagnitude_101 : decode cJ19_compareMagnitude 101 = .ok (.i2l, 1) := dk_133 (dk_at dksJ19_compareMagnitude_4 6 rfl rfl)
theorem dJ19_compareMagnitude_102 : decode cJ19_compareMagnitude 102 = .ok (.ldc2_w 130, 3) := dk_20 0 130 (dk_at dksJ19_compareMagnitude_4 7 rfl rfl)
theorem dJ19_compareMagnitude_105 : decode cJ19_compareMagnitude 105 = .ok (.land, 1) := dk_127 (dk_at dksJ19_compareMagnitude_4 10 rfl rfl)
theorem dJ19_compareMagnitude_106 : decode cJ19_compareMagnitude 106 = .ok (.lcmp, 1) := dk_148 (dk_at dksJ19_compareMagnitude_4 11 rfl rfl)
theorem dJ19_compareMagnitude_107 : decode cJ19_compareMagnitude 107 = .ok (.ifCond .ge 7, 3) := dk_156 0 7 (dk_at dksJ19_compareMagnitude_4 12 rfl rfl)
theorem dJ19_compareMagnitude_110 : decode cJ19_compareMagnitude 110 = .ok (.iconst (-1), 1) := dk_2 (dk_at dksJ19_compareMagnitude_4 15 rfl rfl)
theorem dJ19_compareMagnitude_111 : decode cJ19_compareMagnitude 111 = .ok (.goto 4, 3) := dk_167 0 4 (dk_at dksJ19_compareMagnitude_4 16 rfl rfl)
theorem dJ19_compareMagnitude_114 : decode cJ19_compareMagnitude 114 = .ok (.iconst 1, 1) := dk_4 (dk_at dksJ19_compareMagnitude_4 19 rfl rfl)
theorem dJ19_compareMagnitude_115 : decode cJ19_compareMagnitude 115 = .ok (.ireturn, 1) := dk_172 (dk_at dksJ19_compareMagnitude_4 20 rfl rfl)
theorem dJ19_compareMagnitude_116 : decode cJ19_compareMagnitude 116 = .ok (.iconst 0, 1) := dk_3 (dk_at dksJ19_compareMagnitude_4 21 rfl rfl)
theorem dJ19_compareMagnitude_117 : decode cJ19_compareMagnitude 117 = .ok (.ireturn, 1) := dk_172 (dk_at dksJ19_compareMagnitude_4 22 rfl rfl)
theorem dJ19_compareMagnitude_118 : decode cJ19_compareMagnitude 118 = .ok (.iload 4, 2) := dk_21 4 (dk_at dksJ19_compareMagnitude_5 0 rfl rfl)
theorem dJ19_compareMagnitude_120 : decode cJ19_compareMagnitude 120 = .ok (.iconst 2, 1) := dk_5 (dk_at dksJ19_compareMagnitude_5 2 rfl rfl)
theorem dJ19_compareMagnitude_121 : decode cJ19_compareMagnitude 121 = .ok (.if_icmp .ge 5, 3) := dk_162 0 5 (dk_at dksJ19_compareMagnitude_5 3 rfl rfl)
theorem dJ19_compareMagnitude_124 : decode cJ19_compareMagnitude 124 = .ok (.iconst (-1), 1) := dk_2 (dk_at dksJ19_compareMagnitude_5 6 rfl rfl)
theorem dJ19_compareMagnitude_125 : decode cJ19_compareMagnitude 125 = .ok (.ireturn, 1) := dk_172 (dk_at dksJ19_compareMagnitude_5 7 rfl rfl)
theorem dJ19_compareMagnitude_126 : decode cJ19_compareMagnitude 126 = .ok (.aload_n 3, 1) := dk_45 (dk_at dksJ19_compareMagnitude_5 8 rfl rfl)
theorem dJ19_compareMagnitude_127 : decode cJ19_compareMagnitude 127 = .ok (.iconst 0, 1) := dk_3 (dk_at dksJ19_compareMagnitude_5 9 rfl rfl)
theorem dJ19_compareMagnitude_128 : decode cJ19_compareMagnitude 128 = .ok (.iaload, 1) := dk_46 (dk_at dksJ19_compareMagnitude_5 10 rfl rfl)
theorem dJ19_compareMagnitude_129 : decode cJ19_compareMagnitude 129 = .ok (.istore 6, 2) := dk_54 6 (dk_at dksJ19_compareMagnitude_5 11 rfl rfl)
theorem dJ19_compareMagnitude_131 : decode cJ19_compareMagnitude 131 = .ok (.iload 5, 2) := dk_21 5 (dk_at dksJ19_compareMagnitude_5 13 rfl rfl)
theorem dJ19_compareMagnitude_133 : decode cJ19_compareMagnitude 133 = .ok (.istore 7, 2) := dk_54 7 (dk_at dksJ19_compareMagnitude_5 15 rfl rfl)
theorem dJ19_compareMagnitude_135 : decode cJ19_compareMagnitude 135 = .ok (.iload 6, 2) := dk_21 6 (dk_at dksJ19_compareMagnitude_5 17 rfl rfl)
theorem dJ19_compareMagnitude_137 : decode cJ19_compareMagnitude 137 = .ok (.iload 7, 2) := dk_21 7 (dk_at dksJ19_compareMagnitude_5 19 rfl rfl)
theorem dJ19_compareMagnitude_139 : decode cJ19_compareMagnitude 139 = .ok (.if_icmp .eq 27, 3) := dk_159 0 27 (dk_at dksJ19_compareMagnitude_5 21 rfl rfl)
theorem dJ19_compareMagnitude_142 : decode cJ19_compareMagnitude 142 = .ok (.iload 6, 2) := dk_21 6 (dk_at dksJ19_compareMagnitude_6 0 rfl rfl)
theorem dJ19_compareMagnitude_144 : decode cJ19_compareMagnitude 144 = .ok (.i2l, 1) := dk_133 (dk_at dksJ19_compareMagnitude_6 2 rfl rfl)
theorem dJ19_compareMagnitude_145 : decode cJ19_compareMagnitude 145 = .ok (.ldc2_w 130, 3) := dk_20 0 130 (dk_at dksJ19_compareMagnitude_6 3 rfl rfl)
theorem dJ19_compareMagnitude_148 : decode cJ19_compareMagnitude 148 = .ok (.land, 1) := dk_127 (dk_at dksJ19_compareMagnitude_6 6 rfl rfl)
theorem dJ19_compareMagnitude_149 : decode cJ19_compareMagnitude 149 = .ok (.iload 7, 2) := dk_21 7 (dk_at dksJ19_compareMagnitude_6 7 rfl rfl)
theorem dJ19_compareMagnitude_151 : decode cJ19_compareMagnitude 151 = .ok (.i2l, 1) := dk_133 (dk_at dksJ19_compareMagnitude_6 9 rfl rfl)
theorem dJ19_compareMagnitude_152 : decode cJ19_compareMagnitude 152 = .ok (.ldc2_w 130, 3) := dk_20 0 130 (dk_at dksJ19_compareMagnitude_6 10 rfl rfl)
theorem dJ19_compareMagnitude_155 : decode cJ19_compareMagnitude 155 = .ok (.land, 1) := dk_127 (dk_at dksJ19_compareMagnitude_6 13 rfl rfl)
theorem dJ19_compareMagnitude_156 : decode cJ19_compareMagnitude 156 = .ok (.lcmp, 1) := dk_148 (dk_at dksJ19_compareMagnitude_6 14 rfl rfl)
theorem dJ19_compareMagnitude_157 : decode cJ19_compareMagnitude 157 = .ok (.ifCond .ge 7, 3) := dk_156 0 7 (dk_at dksJ19_compareMagnitude_6 15 rfl rfl)
theorem dJ19_compareMagnitude_160 : decode cJ19_compareMagnitude 160 = .ok (.iconst (-1), 1) := dk_2 (dk_at dksJ19_compareMagnitude_6 18 rfl rfl)
theorem dJ19_compareMagnitude_161 : decode cJ19_compareMagnitude 161 = .ok (.goto 4, 3) := dk_167 0 4 (dk_at dksJ19_compareMagnitude_6 19 rfl rfl)
theorem dJ19_compareMagnitude_164 : decode cJ19_compareMagnitude 164 = .ok (.iconst 1, 1) := dk_4 (dk_at dksJ19_compareMagnitude_6 22 rfl rfl)
theorem dJ19_compareMagnitude_165 : decode cJ19_compareMagnitude 165 = .ok (.ireturn, 1) := dk_172 (dk_at dksJ19_compareMagnitude_6 23 rfl rfl)
theorem dJ19_compareMagnitude_166 : decode cJ19_compareMagnitude 166 = .ok (.aload_n 3, 1) := dk_45 (dk_at dksJ19_compareMagnitude_7 0 rfl rfl)
theorem dJ19_compareMagnitude_167 : decode cJ19_compareMagnitude 167 = .ok (.iconst 1, 1) := dk_4 (dk_at dksJ19_compareMagnitude_7 1 rfl rfl)
theorem dJ19_compareMagnitude_168 : decode cJ19_compareMagnitude 168 = .ok (.iaload, 1) := dk_46 (dk_at dksJ19_compareMagnitude_7 2 rfl rfl)
theorem dJ19_compareMagnitude_169 : decode cJ19_compareMagnitude 169 = .ok (.istore 6, 2) := dk_54 6 (dk_at dksJ19_compareMagnitude_7 3 rfl rfl)
theorem dJ19_compareMagnitude_171 : decode cJ19_compareMagnitude 171 = .ok (.lload_n 1, 1) := dk_31 (dk_at dksJ19_compareMagnitude_7 5 rfl rfl)
theorem dJ19_compareMagnitude_172 : decode cJ19_compareMagnitude 172 = .ok (.l2i, 1) := dk_136 (dk_at dksJ19_compareMagnitude_7 6 rfl rfl)
theorem dJ19_compareMagnitude_173 : decode cJ19_compareMagnitude 173 = .ok (.istore 7, 2) := dk_54 7 (dk_at dksJ19_compareMagnitude_7 7 rfl rfl)
theorem dJ19_compareMagnitude_175 : decode cJ19_compareMagnitude 175 = .ok (.iload 6, 2) := dk_21 6 (dk_at dksJ19_compareMagnitude_7 9 rfl rfl)
theorem dJ19_compareMagnitude_177 : decode cJ19_compareMagnitude 177 = .ok (.iload 7, 2) := dk_21 7 (dk_at dksJ19_compareMagnitude_7 11 rfl rfl)
theorem dJ19_compareMagnitude_179 : decode cJ19_compareMagnitude 179 = .ok (.if_icmp .eq 27, 3) := dk_159 0 27 (dk_at dksJ19_compareMagnitude_7 13 rfl rfl)
theorem dJ19_compareMagnitude_182 : decode cJ19_compareMagnitude 182 = .ok (.iload 6, 2) := dk_21 6 (dk_at dksJ19_compareMagnitude_7 16 rfl rfl)
theorem dJ19_compareMagnitude_184 : decode cJ19_compareMagnitude 184 = .ok (.i2l, 1) := dk_133 (dk_at dksJ19_compareMagnitude_7 18 rfl rfl)
theorem dJ19_compareMagnitude_185 : decode cJ19_compareMagnitude 185 = .ok (.ldc2_w 130, 3) := dk_20 0 130 (dk_at dksJ19_compareMagnitude_7 19 rfl rfl)
theorem dJ19_compareMagnitude_188 : decode cJ19_compareMagnitude 188 = .ok (.land, 1) := dk_127 (dk_at dksJ19_compareMagnitude_7 22 rfl rfl)
theorem dJ19_compareMagnitude_189 : decode cJ19_compareMagnitude 189 = .ok (.iload 7, 2) := dk_21 7 (dk_at dksJ19_compareMagnitude_8 0 rfl rfl)
theorem dJ19_compareMagnitude_191 : decode cJ19_compareMagnitude 191 = .ok (.i2l, 1) := dk_133 (dk_at dksJ19_compareMagnitude_8 2 rfl rfl)
theorem dJ19_compareMagnitude_192 : decode cJ19_compareMagnitude 192 = .ok (.ldc2_w 130, 3) := dk_20 0 130 (dk_at dksJ19_compareMagnitude_8 3 rfl rfl)
theorem dJ19_compareMagnitude_195 : decode cJ19_compareMagnitude 195 = .ok (.land, 1) := dk_127 (dk_at dksJ19_compareMagnitude_8 6 rfl rfl)
theorem dJ19_compareMagnitude_196 : decode cJ19_compareMagnitude 196 = .ok (.lcmp, 1) := dk_148 (dk_at dksJ19_compareMagnitude_8 7 rfl rfl)
theorem dJ19_compareMagnitude_197 : decode cJ19_compareMagnitude 197 = .ok (.ifCond .ge 7, 3) := dk_156 0 7 (dk_at dksJ19_compareMagnitude_8 8 rfl rfl)
theorem dJ19_compareMagnitude_200 : decode cJ19_compareMagnitude 200 = .ok (.iconst (-1), 1) := dk_2 (dk_at dksJ19_compareMagnitude_8 11 rfl rfl)
theorem dJ19_compareMagnitude_201 : decode cJ19_compareMagnitude 201 = .ok (.goto 4, 3) := dk_167 0 4 (dk_at dksJ19_compareMagnitude_8 12 rfl rfl)
theorem dJ19_compareMagnitude_204 : decode cJ19_compareMagnitude 204 = .ok (.iconst 1, 1) := dk_4 (dk_at dksJ19_compareMagnitude_8 15 rfl rfl)
theorem dJ19_compareMagnitude_205 : decode cJ19_compareMagnitude 205 = .ok (.ireturn, 1) := dk_172 (dk_at dksJ19_compareMagnitude_8 16 rfl rfl)
theorem dJ19_compareMagnitude_206 : decode cJ19_compareMagnitude 206 = .ok (.iconst 0, 1) := dk_3 (dk_at dksJ19_compareMagnitude_8 17 rfl rfl)
theorem dJ19_compareMagnitude_207 : decode cJ19_compareMagnitude 207 = .ok (.ireturn, 1) := dk_172 (dk_at dksJ19_compareMagnitude_8 18 rfl rfl)
def dkwJ19_subtract_8 : List UInt8 := [46, 79, 167, 255, 239, 25, 5, 176]
abbrev dktJ19_subtract_8 : List UInt8 := dkwJ19_subtract_8 ++ []
def dkwJ19_subtract_7 : List UInt8 := [167, 0, 4, 3, 54, 8, 167, 255, 220, 21, 4, 158, 0, 18, 25, 5, 132, 4, 255, 21, 4, 42, 21, 4]
abbrev dktJ19_subtract_7 : List UInt8 := dkwJ19_subtract_7 ++ dktJ19_subtract_8
def dkwJ19_subtract_6 : List UInt8 := [153, 0, 32, 25, 5, 132, 4, 255, 21, 4, 42, 21, 4, 46, 4, 100, 91, 79, 2, 160, 0, 7, 4]
abbrev dktJ19_subtract_6 : List UInt8 := dkwJ19_subtract_6 ++ dktJ19_subtract_7
def dkwJ19_subtract_5 : List UInt8 := [16, 32, 123, 9, 148, 153, 0, 7, 4, 167, 0, 4, 3, 54, 8, 21, 4, 158, 0, 37, 21, 8]
abbrev dktJ19_subtract_5 : List UInt8 := dkwJ19_subtract_5 ++ dktJ19_subtract_6
def dkwJ19_subtract_4 : List UInt8 := [20, 0, 130, 127, 101, 22, 6, 16, 32, 123, 97, 55, 6, 25, 5, 21, 4, 22, 6, 136, 79, 22, 6]
abbrev dktJ19_subtract_4 : List UInt8 := dkwJ19_subtract_4 ++ dktJ19_subtract_5
def dkwJ19_subtract_3 : List UInt8 := [25, 5, 21, 4, 22, 6, 136, 79, 42, 132, 4, 255, 21, 4, 46, 133, 20, 0, 130, 127, 29, 133]
abbrev dktJ19_subtract_3 : List UInt8 := dkwJ19_subtract_3 ++ dktJ19_subtract_4
def dkwJ19_subtract_2 : List UInt8 := [167, 0, 66, 42, 132, 4, 255, 21, 4, 46, 133, 20, 0, 130, 127, 31, 20, 0, 130, 127, 101, 55, 6]
abbrev dktJ19_subtract_2 : List UInt8 := dkwJ19_subtract_2 ++ dktJ19_subtract_3
def dkwJ19_subtract_1 : List UInt8 := [132, 4, 255, 21, 4, 46, 133, 20, 0, 130, 127, 31, 101, 55, 6, 25, 5, 21, 4, 22, 6, 136, 79]
abbrev dktJ19_subtract_1 : List UInt8 := dkwJ19_subtract_1 ++ dktJ19_subtract_2
def dkwJ19_subtract_0 : List UInt8 := [31, 16, 32, 125, 136, 62, 42, 190, 54, 4, 21, 4, 188, 10, 58, 5, 9, 55, 6, 29, 154, 0, 30, 42]
abbrev dktJ19_subtract_0 : List UInt8 := dkwJ19_subtract_0 ++ dktJ19_subtract_1
theorem dksJ19_subtract_0 : cJ19_subtract.data.toList.drop 0 = dktJ19_subtract_0 := by decide +kernel
theorem dksJ19_subtract_1 : cJ19_subtract.data.toList.drop 24 = dktJ19_subtract_1 := dk_seg dksJ19_subtract_0 24 rfl rfl
theorem dksJ19_subtract_2 : cJ19_subtract.data.toList.drop 47 = dktJ19_subtract_2 := dk_seg dksJ19_subtract_1 23 rfl rfl
theorem dksJ19_subtract_3 : cJ19_subtract.data.toList.drop 70 = dktJ19_subtract_3 := dk_seg dksJ19_subtract_2 23 rfl rfl
theorem dksJ19_subtract_4 : cJ19_subtract.data.toList.drop 92 = dktJ19_subtract_4 := dk_seg dksJ19_subtract_3 22 rfl rfl
theorem dksJ19_subtract_5 : cJ19_subtract.data.toList.drop 115 = dktJ19_subtract_5 := dk_seg dksJ19_subtract_4 23 rfl rfl
theorem dksJ19_subtract_6 : cJ19_subtract.data.toList.drop 137 = dktJ19_subtract_6 := dk_seg dksJ19_subtract_5 22 rfl rfl
theorem dksJ19_subtract_7 : cJ19_subtract.data.toList.drop 160 = dktJ19_subtract_7 := dk_seg dksJ19_subtract_6 23 rfl rfl
theorem dksJ19_subtract_8 : cJ19_subtract.data.toList.drop 184 = dktJ19_subtract_8 := dk_seg dksJ19_subtract_7 24 rfl rfl
theorem dJ19_subtract_0 : decode cJ19_subtract 0 = .ok (.lload_n 1, 1) := dk_31 (dk_at dksJ19_subtract_0 0 rfl rfl)
theorem dJ19_subtract_1 : decode cJ19_subtract 1 = .ok (.bipush 32, 2) := dk_16 32 (dk_at dksJ19_subtract_0 1 rfl rfl)
theorem dJ19_subtract_3 : decode cJ19_subtract 3 = .ok (.lushr, 1) := dk_125 (dk_at dksJ19_subtract_0 3 rfl rfl)
theorem dJ19_subtract_4 : decode cJ19_subtract 4 = .ok (.l2i, 1) := dk_136 (dk_at dksJ19_subtract_0 4 rfl rfl)
theorem dJ19_subtract_5 : decode cJ19_subtract 5 = .ok (.istore_n 3, 1) := dk_62 (dk_at dksJ19_subtract_0 5 rfl rfl)
theorem dJ19_subtract_6 : decode cJ19_subtract 6 = .ok (.aload_n 0, 1) := dk_42 (dk_at dksJ19_subtract_0 6 rfl rfl)
theorem dJ19_subtract_7 : decode cJ19_subtract 7 = .ok (.arraylength, 1) := dk_190 (dk_at dksJ19_subtract_0 7 rfl rfl)
theorem dJ19_subtract_8 : decode cJ19_subtract 8 = .ok (.istore 4, 2) := dk_54 4 (dk_at dksJ19_subtract_0 8 rfl rfl)
theorem dJ19_subtract_10 : decode cJ19_subtract 10 = .ok (.iload 4, 2) := dk_21 4 (dk_at dksJ19_subtract_0 10 rfl rfl)
theorem dJ19_subtract_12 : decode cJ19_subtract 12 = .ok (.newarray .int, 2) := dk_188_10 (dk_at dksJ19_subtract_0 12 rfl rfl)
theorem dJ19_subtract_14 : decode cJ19_subtract 14 = .ok (.astore 5, 2) := dk_58 5 (dk_at dksJ19_subtract_0 14 rfl rfl)
theorem dJ19_subtract_16 : decode cJ19_subtract 16 = .ok (.lconst 0, 1) := dk_9 (dk_at dksJ19_subtract_0 16 rfl rfl)
theorem dJ19_subtract_17 : decode cJ19_subtract 17 = .ok (.lstore 6, 2) := dk_55 6 (dk_at dksJ19_subtract_0 17 rfl rfl)
theorem dJ19_subtract_19 : decode cJ19_subtract 19 = .ok (.iload_n 3, 1) := dk_29 (dk_at dksJ19_subtract_0 19 rfl rfl)
theorem dJ19_subtract_20 : decode cJ19_subtract 20 = .ok (.ifCond .ne 30, 3) := dk_154 0 30 (dk_at dksJ19_subtract_0 20 rfl rfl)
theorem dJ19_subtract_23 : decode cJ19_subtract 23 = .ok (.aload_n 0, 1) := dk_42 (dk_at dksJ19_subtract_0 23 rfl rfl)
theorem dJ19_subtract_24 : decode cJ19_subtract 24 = .ok (.iinc 4 (-1), 3) := dk_132 4 255 (dk_at dksJ19_subtract_1 0 rfl rfl)
theorem dJ19_subtract_27 : decode cJ19_subtract 27 = .ok (.iload 4, 2) := dk_21 4 (dk_at dksJ19_subtract_1 3 rfl rfl)
theorem dJ19_subtract_29 : decode cJ19_subtract 29 = .ok (.iaload, 1) := dk_46 (dk_at dksJ19_subtract_1 5 rfl rfl)
theorem dJ19_subtract_30 : decode cJ19_subtract 30 = .ok (.i2l, 1) := dk_133 (dk_at dksJ19_subtract_1 6 rfl rfl)
theorem dJ19_subtract_31 : decode cJ19_subtract 31 = .ok (.ldc2_w 130, 3) := dk_20 0 130 (dk_at dksJ19_subtract_1 7 rfl rfl)
theorem dJ19_subtract_34 : decode cJ19_subtract 34 = .ok (.land, 1) := dk_127 (dk_at dksJ19_subtract_1 10 rfl rfl)
theorem dJ19_subtract_35 : decode cJ19_subtract 35 = .ok (.lload_n 1, 1) := dk_31 (dk_at dksJ19_subtract_1 11 rfl rfl)
theorem dJ19_subtract_36 : decode cJ19_subtract 36 = .ok (.lsub, 1) := dk_101 (dk_at dksJ19_subtract_1 12 rfl rfl)
theorem dJ19_subtract_37 : decode cJ19_subtract 37 = .ok (.lstore 6, 2) := dk_55 6 (dk_at dksJ19_subtract_1 13 rfl rfl)
theorem dJ19_subtract_39 : decode cJ19_subtract 39 = .ok (.aload 5, 2) := dk_25 5 (dk_at dksJ19_subtract_1 15 rfl rfl)
theorem dJ19_subtract_41 : decode cJ19_subtract 41 = .ok (.iload 4, 2) := dk_21 4 (dk_at dksJ19_subtract_1 17 rfl rfl)
theorem dJ19_subtract_43 : decode cJ19_subtract 43 = .ok (.lload 6, 2) := dk_22 6 (dk_at dksJ19_subtract_1 19 rfl rfl)
theorem dJ19_subtract_45 : decode cJ19_subtract 45 = .ok (.l2i, 1) := dk_136 (dk_at dksJ19_subtract_1 21 rfl rfl)
theorem dJ19_subtract_46 : decode cJ19_subtract 46 = .ok (.iastore, 1) := dk_79 (dk_at dksJ19_subtract_1 22 rfl rfl)
theorem dJ19_subtract_47 : decode cJ19_subtract 47 = .ok (.goto 66, 3) := dk_167 0 66 (dk_at dksJ19_subtract_2 0 rfl rfl)
theorem dJ19_subtract_50 : decode cJ19_subtract 50 = .ok (.aload_n 0, 1) := dk_42 (dk_at dksJ19_subtract_2 3 rfl rfl)
theorem dJ19_subtract_51 : decode cJ19_subtract 51 = .ok (.iinc 4 (-1), 3) := dk_132 4 255 (dk_at dksJ19_subtract_2 4 rfl rfl)
theorem dJ19_subtract_54 : decode cJ19_subtract 54 = .ok (.iload 4, 2) := dk_21 4 (dk_at dksJ19_subtract_2 7 rfl rfl)
theorem dJ19_subtract_56 : decode cJ19_subtract 56 = .ok (.iaload, 1) := dk_46 (dk_at dksJ19_subtract_2 9 rfl rfl)
theorem dJ19_subtract_57 : decode cJ19_subtract 57 = .ok (.i2l, 1) := dk_133 (dk_at dksJ19_subtract_2 10 rfl rfl)
theorem dJ19_subtract_58 : decode cJ19_subtract 58 = .ok (.ldc2_w 130, 3) := dk_20 0 130 (dk_at dksJ19_subtract_2 11 rfl rfl)
theorem dJ19_subtract_61 : decode cJ19_subtract 61 = .ok (.land, 1) := dk_127 (dk_at dksJ19_subtract_2 14 rfl rfl)
theorem dJ19_subtract_62 : decode cJ19_subtract 62 = .ok (.lload_n 1, 1) := dk_31 (dk_at dksJ19_subtract_2 15 rfl rfl)
theorem dJ19_subtract_63 : decode cJ19_subtract 63 = .ok (.ldc2_w 130, 3) := dk_20 0 130 (dk_at dksJ19_subtract_2 16 rfl rfl)
theorem dJ19_subtract_66 : decode cJ19_subtract 66 = .ok (.land, 1) := dk_127 (dk_at dksJ19_subtract_2 19 rfl rfl)
theorem dJ19_subtract_67 : decode cJ19_subtract 67 = .ok (.lsub, 1) := dk_101 (dk_at dksJ19_subtract_2 20 rfl rfl)
theorem dJ19_subtract_68 : decode cJ19_subtract 68 = .ok (.lstore 6, 2) := dk_55 6 (dk_at dksJ19_subtract_2 21 rfl rfl)
theorem dJ19_subtract_70 : decode cJ19_subtract 70 = .ok (.aload 5, 2) := dk_25 5 (dk_at dksJ19_subtract_3 0 rfl rfl)
theorem dJ19_subtract_72 : decode cJ19_subtract 72 = .ok (.iload 4, 2) := dk_21 4 (dk_at dksJ19_subtract_3 2 rfl rfl)
theorem dJ19_subtract_74 : decode cJ19_subtract 74 = .ok (.lload 6, 2) := dk_22 6 (dk_at dksJ19_subtract_3 4 rfl rfl)
theorem dJ19_subtract_76 : decode cJ19_subtract 76 = .ok (.l2i, 1) := dk_136 (dk_at dksJ19_subtract_3 6 rfl rfl)
theorem dJ19_subtract_77 : decode cJ19_subtract 77 = .ok (.iastore, 1) := dk_79 (dk_at dksJ19_subtract_3 7 rfl rfl)
theorem dJ19_subtract_78 : decode cJ19_subtract 78 = .ok (.aload_n 0, 1) := dk_42 (dk_at dksJ19_subtract_3 8 rfl rfl)
theorem dJ19_subtract_79 : decode cJ19_subtract 79 = .ok (.iinc 4 (-1), 3) := dk_132 4 255 (dk_at dksJ19_subtract_3 9 rfl rfl)
theorem dJ19_subtract_82 : decode cJ19_subtract 82 = .ok (.iload 4, 2) := dk_21 4 (dk_at dksJ19_subtract_3 12 rfl rfl)
theorem dJ19_subtract_84 : decode cJ19_subtract 84 = .ok (.iaload, 1) := dk_46 (dk_at dksJ19_subtract_3 14 rfl rfl)
theorem dJ19_subtract_85 : decode cJ19_subtract 85 = .ok (.i2l, 1) := dk_133 (dk_at dksJ19_subtract_3 15 rfl rfl)
theorem dJ19_subtract_86 : decode cJ19_subtract 86 = .ok (.ldc2_w 130, 3) := dk_20 0 130 (dk_at dksJ19_subtract_3 16 rfl rfl)
theorem dJ19_subtract_89 : decode cJ19_subtract 89 = .ok (.land, 1) := dk_127 (dk_at dksJ19_subtract_3 19 rfl rfl)
theorem dJ19_subtract_90 : decode cJ19_subtract 90 = .ok (.iload_n 3, 1) := dk_29 (dk_at dksJ19_subtract_3 20 rfl rfl)
theorem dJ19_subtract_91 : decode cJ19_subtract 91 = .ok (.i2l, 1) := dk_133 (dk_at dksJ19_subtract_3 21 rfl rfl)
theorem dJ19_subtract_92 : decode cJ19_subtract 92 = .ok (.ldc2_w 130, 3) := dk_20 0 130 (dk_at dksJ19_subtract_4 0 rfl rfl)
theorem dJ19_subtract_95 : decode cJ19_subtract 95 = .ok (.land, 1) := dk_127 (dk_at dksJ19_subtract_4 3 rfl rfl)
theorem dJ19_subtract_96 : decode cJ19_subtract 96 = .ok (.lsub, 1) := dk_101 (dk_at dksJ19_subtract_4 4 rfl rfl)
theorem dJ19_subtract_97 : decode cJ19_subtract 97 = .ok (.lload 6, 2) := dk_22 6 (dk_at dksJ19_subtract_4 5 rfl rfl)
theorem dJ19_subtract_99 : decode cJ19_subtract 99 = .ok (.bipush 32, 2) := dk_16 32 (dk_at dksJ19_subtract_4 7 rfl rfl)
theorem dJ19_subtract_101 : decode cJ19_subtract 101 = .ok (.lshr, 1) := dk_123 (dk_at dksJ19_subtract_4 9 rfl rfl)
theorem dJ19_subtract_102 : decode cJ19_subtract 102 = .ok (.ladd, 1) := dk_97 (dk_at dksJ19_subtract_4 10 rfl rfl)
theorem dJ19_subtract_103 : decode cJ19_subtract 103 = .ok (.lstore 6, 2) := dk_55 6 (dk_at dksJ19_subtract_4 11 rfl rfl)
theorem dJ19_subtract_105 : decode cJ19_subtract 105 = .ok (.aload 5, 2) := dk_25 5 (dk_at dksJ19_subtract_4 13 rfl rfl)
theorem dJ19_subtract_107 : decode cJ19_subtract 107 = .ok (.iload 4, 2) := dk_21 4 (dk_at dksJ19_subtract_4 15 rfl rfl)
theorem dJ19_subtract_109 : decode cJ19_subtract 109 = .ok (.lload 6, 2) := dk_22 6 (dk_at dksJ19_subtract_4 17 rfl rfl)
theorem dJ19_subtract_111 : decode cJ19_subtract 111 = .ok (.l2i, 1) := dk_136 (dk_at dksJ19_subtract_4 19 rfl rfl)
theorem dJ19_subtract_112 : decode cJ19_subtract 112 = .ok (.iastore, 1) := dk_79 (dk_at dksJ19_subtract_4 20 rfl rfl)
theorem dJ19_subtract_113 : decode cJ19_subtract 113 = .ok (.lload 6, 2) := dk_22 6 (dk_at dksJ19_subtract_4 21 rfl rfl)
theorem dJ19_subtract_115 : decode cJ19_subtract 115 = .ok (.bipush 32, 2) := dk_16 32 (dk_at dksJ19_subtract_5 0 rfl rfl)
theorem dJ19_subtract_117 : decode cJ19_subtract 117 = .ok (.lshr, 1) := dk_123 (dk_at dksJ19_subtract_5 2 rfl rfl)
theorem dJ19_subtract_118 : decode cJ19_subtract 118 = .ok (.lconst 0, 1) := dk_9 (dk_at dksJ19_subtract_5 3 rfl rfl)
theorem dJ19_subtract_119 : decode cJ19_subtract 119 = .ok (.lcmp, 1) := dk_148 (dk_at dksJ19_subtract_5 4 rfl rfl)
theorem dJ19_subtract_120 : decode cJ19_subtract 120 = .ok (.ifCond .eq 7, 3) := dk_153 0 7 (dk_at dksJ19_subtract_5 5 rfl rfl)
theorem dJ19_subtract_123 : decode cJ19_subtract 123 = .ok (.iconst 1, 1) := dk_4 (dk_at dksJ19_subtract_5 8 rfl rfl)
theorem dJ19_subtract_124 : decode cJ19_subtract 124 = .ok (.goto 4, 3) := dk_167 0 4 (dk_at dksJ19_subtract_5 9 rfl rfl)
theorem dJ19_subtract_127 : decode cJ19_subtract 127 = .ok (.iconst 0, 1) := dk_3 (dk_at dksJ19_subtract_5 12 rfl rfl)
theorem dJ19_subtract_128 : decode cJ19_subtract 128 = .ok (.istore 8, 2) := dk_54 8 (dk_at dksJ19_subtract_5 13 rfl rfl)
theorem dJ19_subtract_130 : decode cJ19_subtract 130 = .ok (.iload 4, 2) := dk_21 4 (dk_at dksJ19_subtract_5 15 rfl rfl)
theorem dJ19_subtract_132 : decode cJ19_subtract 132 = .ok (.ifCond .le 37, 3) := dk_158 0 37 (dk_at dksJ19_subtract_5 17 rfl rfl)
theorem dJ19_subtract_135 : decode cJ19_subtract 135 = .ok (.iload 8, 2) := dk_21 8 (dk_at dksJ19_subtract_5 20 rfl rfl)
theorem dJ19_subtract_137 : decode cJ19_subtract 137 = .ok (.ifCond .eq 32, 3) := dk_153 0 32 (dk_at dksJ19_subtract_6 0 rfl rfl)
theorem dJ19_subtract_140 : decode cJ19_subtract 140 = .ok (.aload 5, 2) := dk_25 5 (dk_at dksJ19_subtract_6 3 rfl rfl)
theorem dJ19_subtract_142 : decode cJ19_subtract 142 = .ok (.iinc 4 (-1), 3) := dk_132 4 255 (dk_at dksJ19_subtract_6 5 rfl rfl)
theorem dJ19_subtract_145 : decode cJ19_subtract 145 = .ok (.iload 4, 2) := dk_21 4 (dk_at dksJ19_subtract_6 8 rfl rfl)
theorem dJ19_subtract_147 : decode cJ19_subtract 147 = .ok (.aload_n 0, 1) := dk_42 (dk_at dksJ19_subtract_6 10 rfl rfl)
theorem dJ19_subtract_148 : decode cJ19_subtract 148 = .ok (.iload 4, 2) := dk_21 4 (dk_at dksJ19_subtract_6 11 rfl rfl)
theorem dJ19_subtract_150 : decode cJ19_subtract 150 = .ok (.iaload, 1) := dk_46 (dk_at dksJ19_subtract_6 13 rfl rfl)
theorem dJ19_subtract_151 : decode cJ19_subtract 151 = .ok (.iconst 1, 1) := dk_4 (dk_at dksJ19_subtract_6 14 rfl rfl)
theorem dJ19_subtract_152 : decode cJ19_subtract 152 = .ok (.isub, 1) := dk_100 (dk_at dksJ19_subtract_6 15 rfl rfl)
theorem dJ19_subtract_153 : decode cJ19_subtract 153 = .ok (.dup_x2, 1) := dk_91 (dk_at dksJ19_subtract_6 16 rfl rfl)
theorem dJ19_subtract_154 : decode cJ19_subtract 154 = .ok (.iastore, 1) := dk_79 (dk_at dksJ19_subtract_6 17 rfl rfl)
theorem dJ19_subtract_155 : decode cJ19_subtract 155 = .ok (.iconst (-1), 1) := dk_2 (dk_at dksJ19_subtract_6 18 rfl rfl)
theorem dJ19_subtract_156 : decode cJ19_subtract 156 = .ok (.if_icmp .ne 7, 3) := dk_160 0 7 (dk_at dksJ19_subtract_6 19 rfl rfl)
theorem dJ19_subtract_159 : decode cJ19_subtract 159 = .ok (.iconst 1, 1) := dk_4 (dk_at dksJ19_subtract_6 22 rfl rfl)
theorem dJ19_subtract_160 : decode cJ19_subtract 160 = .ok (.goto 4, 3) := dk_167 0 4 (dk_at dksJ19_subtract_7 0 rfl rfl)
theorem dJ19_subtract_163 : decode cJ19_subtract 163 = .ok (.iconst 0, 1) := dk_3 (dk_at dksJ19_subtract_7 3 rfl rfl)
theorem dJ19_subtract_164 : decode cJ19_subtract 164 = .ok (.istore 8, 2) := dk_54 8 (dk_at dksJ19_subtract_7 4 rfl rfl)
theorem dJ19_subtract_166 : decode cJ19_subtract 166 = .ok (.goto (-36), 3) := dk_167 255 220 (dk_at dksJ19_subtract_7 6 rfl rfl)
theorem dJ19_subtract_169 : decode cJ19_subtract 169 = .ok (.iload 4, 2) := dk_21 4 (dk_at dksJ19_subtract_7 9 rfl rfl)
theorem dJ19_subtract_171 : decode cJ19_subtract 171 = .ok (.ifCond .le 18, 3) := dk_158 0 18 (dk_at dksJ19_subtract_7 11 rfl rfl)
theorem dJ19_subtract_174 : decode cJ19_subtract 174 = .ok (.aload 5, 2) := dk_25 5 (dk_at dksJ19_subtract_7 14 rfl rfl)
theorem dJ19_subtract_176 : decode cJ19_subtract 176 = .ok (.iinc 4 (-1), 3) := dk_132 4 255 (dk_at dksJ19_subtract_7 16 rfl rfl)
theorem dJ19_subtract_179 : decode cJ19_subtract 179 = .ok (.iload 4, 2) := dk_21 4 (dk_at dksJ19_subtract_7 19 rfl rfl)
theorem dJ19_subtract_181 : decode cJ19_subtract 181 = .ok (.aload_n 0, 1) := dk_42 (dk_at dksJ19_subtract_7 21 rfl rfl)
theorem dJ19_subtract_182 : decode cJ19_subtract 182 = .ok (.iload 4, 2) := dk_21 4 (dk_at dksJ19_subtract_7 22 rfl rfl)
theorem dJ19_subtract_184 : decode cJ19_subtract 184 = .ok (.iaload, 1) := dk_46 (dk_at dksJ19_subtract_8 0 rfl rfl)
theorem dJ19_subtract_185 : decode cJ19_subtract 185 = .ok (.iastore, 1) := dk_79 (dk_at dksJ19_subtract_8 1 rfl rfl)
theorem dJ19_subtract_186 : decode cJ19_subtract 186 = .ok (.goto (-17), 3) := dk_167 255 239 (dk_at dksJ19_subtract_8 2 rfl rfl)
theorem dJ19_subtract_189 : decode cJ19_subtract 189 = .ok (.aload 5, 2) := dk_25 5 (dk_at dksJ19_subtract_8 5 rfl rfl)
theorem dJ19_subtract_191 : decode cJ19_subtract 191 = .ok (.areturn, 1) := dk_176 (dk_at dksJ19_subtract_8 7 rfl rfl)
def dkwJ19_subtract_2_6 : List UInt8 := [133, 20, 0, 130, 127, 101, 22, 5, 16, 32, 123, 97, 55, 5, 25, 4, 3, 22, 5, 136, 79, 25, 4, 176]
abbrev dktJ19_subtract_2_6 : List UInt8 := dkwJ19_subtract_2_6 ++ []
def dkwJ19_subtract_2_5 : List UInt8 := [133, 20, 0, 130, 127, 101, 55, 5, 25, 4, 4, 22, 5, 136, 79, 29, 133, 20, 0, 130, 127, 44, 3, 46]
abbrev dktJ19_subtract_2_5 : List UInt8 := dkwJ19_subtract_2_5 ++ dktJ19_subtract_2_6
def dkwJ19_subtract_2_4 : List UInt8 := [4, 100, 79, 167, 0, 8, 25, 4, 3, 29, 79, 25, 4, 176, 30, 136, 133, 20, 0, 130, 127, 44, 4, 46]
abbrev dktJ19_subtract_2_4 : List UInt8 := dkwJ19_subtract_2_4 ++ dktJ19_subtract_2_5
def dkwJ19_subtract_2_3 : List UInt8 := [16, 32, 123, 9, 148, 153, 0, 7, 4, 167, 0, 4, 3, 54, 7, 21, 7, 153, 0, 13, 25, 4, 3, 29]
abbrev dktJ19_subtract_2_3 : List UInt8 := dkwJ19_subtract_2_3 ++ dktJ19_subtract_2_4
def dkwJ19_subtract_2_2 : List UInt8 := [20, 0, 130, 127, 44, 3, 46, 133, 20, 0, 130, 127, 101, 55, 5, 25, 4, 4, 22, 5, 136, 79, 22, 5]
abbrev dktJ19_subtract_2_2 : List UInt8 := dkwJ19_subtract_2_2 ++ dktJ19_subtract_2_3
def dkwJ19_subtract_2_1 : List UInt8 := [20, 0, 130, 127, 101, 136, 79, 25, 4, 176, 5, 188, 10, 58, 4, 44, 190, 4, 160, 0, 68, 30, 136, 133]
abbrev dktJ19_subtract_2_1 : List UInt8 := dkwJ19_subtract_2_1 ++ dktJ19_subtract_2_2
def dkwJ19_subtract_2_0 : List UInt8 := [30, 16, 32, 125, 136, 62, 29, 154, 0, 26, 4, 188, 10, 58, 4, 25, 4, 3, 30, 44, 3, 46, 133]
abbrev dktJ19_subtract_2_0 : List UInt8 := dkwJ19_subtract_2_0 ++ dktJ19_subtract_2_1
theorem dksJ19_subtract_2_0 : cJ19_subtract_2.data.toList.drop 0 = dktJ19_subtract_2_0 := by decide +kernel
theorem dksJ19_subtract_2_1 : cJ19_subtract_2.data.toList.drop 23 = dktJ19_subtract_2_1 := dk_seg dksJ19_subtract_2_0 23 rfl rfl
theorem dksJ19_subtract_2_2 : cJ19_subtract_2.data.toList.drop 47 = dktJ19_subtract_2_2 := dk_seg dksJ19_subtract_2_1 24 rfl rfl
theorem dksJ19_subtract_2_3 : cJ19_subtract_2.data.toList.drop 71 = dktJ19_subtract_2_3 := dk_seg dksJ19_subtract_2_2 24 rfl rfl
theorem dksJ19_subtract_2_4 : cJ19_subtract_2.data.toList.drop 95 = dktJ19_subtract_2_4 := dk_seg dksJ19_subtract_2_3 24 rfl rfl
theorem dksJ19_subtract_2_5 : cJ19_subtract_2.data.toList.drop 119 = dktJ19_subtract_2_5 := dk_seg dksJ19_subtract_2_4 24 rfl rfl
theorem dksJ19_subtract_2_6 : cJ19_subtract_2.data.toList.drop 143 = dktJ19_subtract_2_6 := dk_seg dksJ19_subtract_2_5 24 rfl rfl
theorem dJ19_subtract_2_0 : decode cJ19_subtract_2 0 = .ok (.lload_n 0, 1) := dk_30 (dk_at dksJ19_subtract_2_0 0 rfl rfl)
theorem dJ19_subtract_2_1 : decode cJ19_subtract_2 1 = .ok (.bipush 32, 2) := dk_16 32 (dk_at dksJ19_subtract_2_0 1 rfl rfl)
theorem dJ19_subtract_2_3 : decode cJ19_subtract_2 3 = .ok (.lushr, 1) := dk_125 (dk_at dksJ19_subtract_2_0 3 rfl rfl)
theorem dJ19_subtract_2_4 : decode cJ19_subtract_2 4 = .ok (.l2i, 1) := dk_136 (dk_at dksJ19_subtract_2_0 4 rfl rfl)
theorem dJ19_subtract_2_5 : decode cJ19_subtract_2 5 = .ok (.istore_n 3, 1) := dk_62 (dk_at dksJ19_subtract_2_0 5 rfl rfl)
theorem dJ19_subtract_2_6 : decode cJ19_subtract_2 6 = .ok (.iload_n 3, 1) := dk_29 (dk_at dksJ19_subtract_2_0 6 rfl rfl)
theorem dJ19_subtract_2_7 : decode cJ19_subtract_2 7 = .ok (.ifCond .ne 26, 3) := dk_154 0 26 (dk_at dksJ19_subtract_2_0 7 rfl rfl)
theorem dJ19_subtract_2_10 : decode cJ19_subtract_2 10 = .ok (.iconst 1, 1) := dk_4 (dk_at dksJ19_subtract_2_0 10 rfl rfl)
theorem dJ19_subtract_2_11 : decode cJ19_subtract_2 11 = .ok (.newarray .int, 2) := dk_188_10 (dk_at dksJ19_subtract_2_0 11 rfl rfl)
theorem dJ19_subtract_2_13 : decode cJ19_subtract_2 13 = .ok (.astore 4, 2) := dk_58 4 (dk_at dksJ19_subtract_2_0 13 rfl rfl)
theorem dJ19_subtract_2_15 : decode cJ19_subtract_2 15 = .ok (.aload 4, 2) := dk_25 4 (dk_at dksJ19_subtract_2_0 15 rfl rfl)
theorem dJ19_subtract_2_17 : decode cJ19_subtract_2 17 = .ok (.iconst 0, 1) := dk_3 (dk_at dksJ19_subtract_2_0 17 rfl rfl)
theorem dJ19_subtract_2_18 : decode cJ19_subtract_2 18 = .ok (.lload_n 0, 1) := dk_30 (dk_at dksJ19_subtract_2_0 18 rfl rfl)
theorem dJ19_subtract_2_19 : decode cJ19_subtract_2 19 = .ok (.aload_n 2, 1) := dk_44 (dk_at dksJ19_subtract_2_0 19 rfl rfl)
theorem dJ19_subtract_2_20 : decode cJ19_subtract_2 20 = .ok (.iconst 0, 1) := dk_3 (dk_at dksJ19_subtract_2_0 20 rfl rfl)
theorem dJ19_subtract_2_21 : decode cJ19_subtract_2 21 = .ok (.iaload, 1) := dk_46 (dk_at dksJ19_subtract_2_0 21 rfl rfl)
theorem dJ19_subtract_2_22 : decode cJ19_subtract_2 22 = .ok (.i2l, 1) := dk_133 (dk_at dksJ19_subtract_2_0 22 rfl rfl)
theorem dJ19_subtract_2_23 : decode cJ19_subtract_2 23 = .ok (.ldc2_w 130, 3) := dk_20 0 130 (dk_at dksJ19_subtract_2_1 0 rfl rfl)
theorem dJ19_subtract_2_26 : decode cJ19_subtract_2 26 = .ok (.land, 1) := dk_127 (dk_at dksJ19_subtract_2_1 3 rfl rfl)
theorem dJ19_subtract_2_27 : decode cJ19_subtract_2 27 = .ok (.lsub, 1) := dk_101 (dk_at dksJ19_subtract_2_1 4 rfl rfl)
theorem dJ19_subtract_2_28 : decode cJ19_subtract_2 28 = .ok (.l2i, 1) := dk_136 (dk_at dksJ19_subtract_2_1 5 rfl rfl)
theorem dJ19_subtract_2_29 : decode cJ19_subtract_2 29 = .ok (.iastore, 1) := dk_79 (dk_at dksJ19_subtract_2_1 6 rfl rfl)
theorem dJ19_subtract_2_30 : decode cJ19_subtract_2 30 = .ok (.aload 4, 2) := dk_25 4 (dk_at dksJ19_subtract_2_1 7 rfl rfl)
theorem dJ19_subtract_2_32 : decode cJ19_subtract_2 32 = .ok (.areturn, 1) := dk_176 (dk_at dksJ19_subtract_2_1 9 rfl rfl)
theorem dJ19_subtract_2_33 : decode cJ19_subtract_2 33 = .ok (.iconst 2, 1) := dk_5 (dk_at dksJ19_subtract_2_1 10 rfl rfl)
theorem dJ19_subtract_2_34 : decode cJ19_subtract_2 34 = .ok (.newarray .int, 2) := dk_188_10 (dk_at dksJ19_subtract_2_1 11 rfl rfl)
theorem dJ19_subtract_2_36 : decode cJ19_subtract_2 36 = .ok (.astore 4, 2) := dk_58 4 (dk_at dksJ19_subtract_2_1 13 rfl rfl)
theorem dJ19_subtract_2_38 : decode cJ19_subtract_2 38 = .ok (.aload_n 2, 1) := dk_44 (dk_at dksJ19_subtract_2_1 15 rfl rfl)
theorem dJ19_subtract_2_39 : decode cJ19_subtract_2 39 = .ok (.arraylength, 1) := dk_190 (dk_at dksJ19_subtract_2_1 16 rfl rfl)
theorem dJ19_subtract_2_40 : decode cJ19_subtract_2 40 = .ok (.iconst 1, 1) := dk_4 (dk_at dksJ19_subtract_2_1 17 rfl rfl)
theorem dJ19_subtract_2_41 : decode cJ19_subtract_2 41 = .ok (.if_icmp .ne 68, 3) := dk_160 0 68 (dk_at dksJ19_subtract_2_1 18 rfl rfl)
theorem dJ19_subtract_2_44 : decode cJ19_subtract_2 44 = .ok (.lload_n 0, 1) := dk_30 (dk_at dksJ19_subtract_2_1 21 rfl rfl)
theorem dJ19_subtract_2_45 : decode cJ19_subtract_2 45 = .ok (.l2i, 1) := dk_136 (dk_at dksJ19_subtract_2_1 22 rfl rfl)
theorem dJ19_subtract_2_46 : decode cJ19_subtract_2 46 = .ok (.i2l, 1) := dk_133 (dk_at dksJ19_subtract_2_1 23 rfl rfl)
theorem dJ19_subtract_2_47 : decode cJ19_subtract_2 47 = .ok (.ldc2_w 130, 3) := dk_20 0 130 (dk_at dksJ19_subtract_2_2 0 rfl rfl)
theorem dJ19_subtract_2_50 : decode cJ19_subtract_2 50 = .ok (.land, 1) := dk_127 (dk_at dksJ19_subtract_2_2 3 rfl rfl)
theorem dJ19_subtract_2_51 : decode cJ19_subtract_2 51 = .ok (.aload_n 2, 1) := dk_44 (dk_at dksJ19_subtract_2_2 4 rfl rfl)
theorem dJ19_subtract_2_52 : decode cJ19_subtract_2 52 = .ok (.iconst 0, 1) := dk_3 (dk_at dksJ19_subtract_2_2 5 rfl rfl)
theorem dJ19_subtract_2_53 : decode cJ19_subtract_2 53 = .ok (.iaload, 1) := dk_46 (dk_at dksJ19_subtract_2_2 6 rfl rfl)
theorem dJ19_subtract_2_54 : decode cJ19_subtract_2 54 = .ok (.i2l, 1) := dk_133 (dk_at dksJ19_subtract_2_2 7 rfl rfl)
theorem dJ19_subtract_2_55 : decode cJ19_subtract_2 55 = .ok (.ldc2_w 130, 3) := dk_20 0 130 (dk_at dksJ19_subtract_2_2 8 rfl rfl)
theorem dJ19_subtract_2_58 : decode cJ19_subtract_2 58 = .ok (.land, 1) := dk_127 (dk_at dksJ19_subtract_2_2 11 rfl rfl)
theorem dJ19_subtract_2_59 : decode cJ19_subtract_2 59 = .ok (.lsub, 1) := dk_101 (dk_at dksJ19_subtract_2_2 12 rfl rfl)
theorem dJ19_subtract_2_60 : decode cJ19_subtract_2 60 = .ok (.lstore 5, 2) := dk_55 5 (dk_at dksJ19_subtract_2_2 13 rfl rfl)
theorem dJ19_subtract_2_62 : decode cJ19_subtract_2 62 = .ok (.aload 4, 2) := dk_25 4 (dk_at dksJ19_subtract_2_2 15 rfl rfl)
theorem dJ19_subtract_2_64 : decode cJ19_subtract_2 64 = .ok (.iconst 1, 1) := dk_4 (dk_at dksJ19_subtract_2_2 17 rfl rfl)
theorem dJ19_subtract_2_65 : decode cJ19_subtract_2 65 = .ok (.lload 5, 2) := dk_22 5 (dk_at dksJ19_subtract_2_2 18 rfl rfl)
theorem dJ19_subtract_2_67 : decode cJ19_subtract_2 67 = .ok (.l2i, 1) := dk_136 (dk_at dksJ19_subtract_2_2 20 rfl rfl)
theorem dJ19_subtract_2_68 : decode cJ19_subtract_2 68 = .ok (.iastore, 1) := dk_79 (dk_at dksJ19_subtract_2_2 21 rfl rfl)
theorem dJ19_subtract_2_69 : decode cJ19_subtract_2 69 = .ok (.lload 5, 2) := dk_22 5 (dk_at dksJ19_subtract_2_2 22 rfl rfl)
theorem dJ19_subtract_2_71 : decode cJ19_subtract_2 71 = .ok (.bipush 32, 2) := dk_16 32 (dk_at dksJ19_subtract_2_3 0 rfl rfl)
theorem dJ19_subtract_2_73 : decode cJ19_subtract_2 73 = .ok (.lshr, 1) := dk_123 (dk_at dksJ19_subtract_2_3 2 rfl rfl)
theorem dJ19_subtract_2_74 : decode cJ19_subtract_2 74 = .ok (.lconst 0, 1) := dk_9 (dk_at dksJ19_subtract_2_3 3 rfl rfl)
theorem dJ19_subtract_2_75 : decode cJ19_subtract_2 75 = .ok (.lcmp, 1) := dk_148 (dk_at dksJ19_subtract_2_3 4 rfl rfl)
theorem dJ19_subtract_2_76 : decode cJ19_subtract_2 76 = .ok (.ifCond .eq 7, 3) := dk_153 0 7 (dk_at dksJ19_subtract_2_3 5 rfl rfl)
theorem dJ19_subtract_2_79 : decode cJ19_subtract_2 79 = .ok (.iconst 1, 1) := dk_4 (dk_at dksJ19_subtract_2_3 8 rfl rfl)
theorem dJ19_subtract_2_80 : decode cJ19_subtract_2 80 = .ok (.goto 4, 3) := dk_167 0 4 (dk_at dksJ19_subtract_2_3 9 rfl rfl)
theorem dJ19_subtract_2_83 : decode cJ19_subtract_2 83 = .ok (.iconst 0, 1) := dk_3 (dk_at dksJ19_subtract_2_3 12 rfl rfl)
theorem dJ19_subtract_2_84 : decode cJ19_subtract_2 84 = .ok (.istore 7, 2) := dk_54 7 (dk_at dksJ19_subtract_2_3 13 rfl rfl)
theorem dJ19_subtract_2_86 : decode cJ19_subtract_2 86 = .ok (.iload 7, 2) := dk_21 7 (dk_at dksJ19_subtract_2_3 15 rfl rfl)
theorem dJ19_subtract_2_88 : decode cJ19_subtract_2 88 = .ok (.ifCond .eq 13, 3) := dk_153 0 13 (dk_at dksJ19_subtract_2_3 17 rfl rfl)
theorem dJ19_subtract_2_91 : decode cJ19_subtract_2 91 = .ok (.aload 4, 2) := dk_25 4 (dk_at dksJ19_subtract_2_3 20 rfl rfl)
theorem dJ19_subtract_2_93 : decode cJ19_subtract_2 93 = .ok (.iconst 0, 1) := dk_3 (dk_at dksJ19_subtract_2_3 22 rfl rfl)
theorem dJ19_subtract_2_94 : decode cJ19_subtract_2 94 = .ok (.iload_n 3, 1) := dk_29 (dk_at dksJ19_subtract_2_3 23 rfl rfl)
theorem dJ19_subtract_2_95 : decode cJ19_subtract_2 95 = .ok (.iconst 1, 1) := dk_4 (dk_at dksJ19_subtract_2_4 0 rfl rfl)
theorem dJ19_subtract_2_96 : decode cJ19_subtract_2 96 = .ok (.isub, 1) := dk_100 (dk_at dksJ19_subtract_2_4 1 rfl rfl)
theorem dJ19_subtract_2_97 : decode cJ19_subtract_2 97 = .ok (.iastore, 1) := dk_79 (dk_at dksJ19_subtract_2_4 2 rfl rfl)
theorem dJ19_subtract_2_98 : decode cJ19_subtract_2 98 = .ok (.goto 8, 3) := dk_167 0 8 (dk_at dksJ19_subtract_2_4 3 rfl rfl)
theorem dJ19_subtract_2_101 : decode cJ19_subtract_2 101 = .ok (.aload 4, 2) := dk_25 4 (dk_at dksJ19_subtract_2_4 6 rfl rfl)
theorem dJ19_subtract_2_103 : decode cJ19_subtract_2 103 = .ok (.iconst 0, 1) := dk_3 (dk_at dksJ19_subtract_2_4 8 rfl rfl)
theorem dJ19_subtract_2_104 : decode cJ19_subtract_2 104 = .ok (.iload_n 3, 1) := dk_29 (dk_at dksJ19_subtract_2_4 9 rfl rfl)
theorem dJ19_subtract_2_105 : decode cJ19_subtract_2 105 = .ok (.iastore, 1) := dk_79 (dk_at dksJ19_subtract_2_4 10 rfl rfl)
theorem dJ19_subtract_2_106 : decode cJ19_subtract_2 106 = .ok (.aload 4, 2) := dk_25 4 (dk_at dksJ19_subtract_2_4 11 rfl rfl)
theorem dJ19_subtract_2_108 : decode cJ19_subtract_2 108 = .ok (.areturn, 1) := dk_176 (dk_at dksJ19_subtract_2_4 13 rfl rfl)
theorem dJ19_subtract_2_109 : decode cJ19_subtract_2 109 = .ok (.lload_n 0, 1) := dk_30 (dk_at dksJ19_subtract_2_4 14 rfl rfl)
theorem dJ19_subtract_2_110 : decode cJ19_subtract_2 110 = .ok (.l2i, 1) := dk_136 (dk_at dksJ19_subtract_2_4 15 rfl rfl)
theorem dJ19_subtract_2_111 : decode cJ19_subtract_2 111 = .ok (.i2l, 1) := dk_133 (dk_at dksJ19_subtract_2_4 16 rfl rfl)
theorem dJ19_subtract_2_112 : decode cJ19_subtract_2 112 = .ok (.ldc2_w 130, 3) := dk_20 0 130 (dk_at dksJ19_subtract_2_4 17 rfl rfl)
theorem dJ19_subtract_2_115 : decode cJ19_subtract_2 115 = .ok (.land, 1) := dk_127 (dk_at dksJ19_subtract_2_4 20 rfl rfl)
theorem dJ19_subtract_2_116 : decode cJ19_subtract_2 116 = .ok (.aload_n 2, 1) := dk_44 (dk_at dksJ19_subtract_2_4 21 rfl rfl)
theorem dJ19_subtract_2_117 : decode cJ19_subtract_2 117 = .ok (.iconst 1, 1) := dk_4 (dk_at dksJ19_subtract_2_4 22 rfl rfl)
theorem dJ19_subtract_2_118 : decode cJ19_subtract_2 118 = .ok (.iaload, 1) := dk_46 (dk_at dksJ19_subtract_2_4 23 rfl rfl)
theorem dJ19_subtract_2_119 : decode cJ19_subtract_2 119 = .ok (.i2l, 1) := dk_133 (dk_at dksJ19_subtract_2_5 0 rfl rfl)
theorem dJ19_subtract_2_120 : decode cJ19_subtract_2 120 = .ok (.ldc2_w 130, 3) := dk_20 0 130 (dk_at dksJ19_subtract_2_5 1 rfl rfl)
theorem dJ19_subtract_2_123 : decode cJ19_subtract_2 123 = .ok (.land, 1) := dk_127 (dk_at dksJ19_subtract_2_5 4 rfl rfl)
theorem dJ19_subtract_2_124 : decode cJ19_subtract_2 124 = .ok (.lsub, 1) := dk_101 (dk_at dksJ19_subtract_2_5 5 rfl rfl)
theorem dJ19_subtract_2_125 : decode cJ19_subtract_2 125 = .ok (.lstore 5, 2) := dk_55 5 (dk_at dksJ19_subtract_2_5 6 rfl rfl)
theorem dJ19_subtract_2_127 : decode cJ19_subtract_2 127 = .ok (.aload 4, 2) := dk_25 4 (dk_at dksJ19_subtract_2_5 8 rfl rfl)
theorem dJ19_subtract_2_129 : decode cJ19_subtract_2 129 = .ok (.iconst 1, 1) := dk_4 (dk_at dksJ19_subtract_2_5 10 rfl rfl)
theorem dJ19_subtract_2_130 : decode cJ19_subtract_2 130 = .ok (.lload 5, 2) := dk_22 5 (dk_at dksJ19_subtract_2_5 11 rfl rfl)
theorem dJ19_subtract_2_132 : decode cJ19_subtract_2 132 = .ok (.l2i, 1) := dk_136 (dk_at dksJ19_subtract_2_5 13 rfl rfl)
theorem dJ19_subtract_2_133 : decode cJ19_subtract_2 133 = .ok (.iastore, 1) := dk_79 (dk_at dksJ19_subtract_2_5 14 rfl rfl)
theorem dJ19_subtract_2_134 : decode cJ19_subtract_2 134 = .ok (.iload_n 3, 1) := dk_29 (dk_at dksJ19_subtract_2_5 15 rfl rfl)
theorem dJ19_subtract_2_135 : decode cJ19_subtract_2 135 = .ok (.i2l, 1) := dk_133 (dk_at dksJ19_subtract_2_5 16 rfl rfl)
theorem dJ19_subtract_2_136 : decode cJ19_subtract_2 136 = .ok (.ldc2_w 130, 3) := dk_20 0 130 (dk_at dksJ19_subtract_2_5 17 rfl rfl)
theorem dJ19_subtract_2_139 : decode cJ19_subtract_2 139 = .ok (.land, 1) := dk_127 (dk_at dksJ19_subtract_2_5 20 rfl rfl)
theorem dJ19_subtract_2_140 : decode cJ19_subtract_2 140 = .ok (.aload_n 2, 1) := dk_44 (dk_at dksJ19_subtract_2_5 21 rfl rfl)
theorem dJ19_subtract_2_141 : decode cJ19_subtract_2 141 = .ok (.iconst 0, 1) := dk_3 (dk_at dksJ19_subtract_2_5 22 rfl rfl)
theorem dJ19_subtract_2_142 : decode cJ19_subtract_2 142 = .ok (.iaload, 1) := dk_46 (dk_at dksJ19_subtract_2_5 23 rfl rfl)
theorem dJ19_subtract_2_143 : decode cJ19_subtract_2 143 = .ok (.i2l, 1) := dk_133 (dk_at dksJ19_subtract_2_6 0 rfl rfl)
theorem dJ19_subtract_2_144 : decode cJ19_subtract_2 144 = .ok (.ldc2_w 130, 3) := dk_20 0 130 (dk_at dksJ19_subtract_2_6 1 rfl rfl)
theorem dJ19_subtract_2_147 : decode cJ19_subtract_2 147 = .ok (.land, 1) := dk_127 (dk_at dksJ19_subtract_2_6 4 rfl rfl)
theorem dJ19_subtract_2_148 : decode cJ19_subtract_2 148 = .ok (.lsub, 1) := dk_101 (dk_at dksJ19_subtract_2_6 5 rfl rfl)
theorem dJ19_subtract_2_149 : decode cJ19_subtract_2 149 = .ok (.lload 5, 2) := dk_22 5 (dk_at dksJ19_subtract_2_6 6 rfl rfl)
theorem dJ19_subtract_2_151 : decode cJ19_subtract_2 151 = .ok (.bipush 32, 2) := dk_16 32 (dk_at dksJ19_subtract_2_6 8 rfl rfl)
theorem dJ19_subtract_2_153 : decode cJ19_subtract_2 153 = .ok (.lshr, 1) := dk_123 (dk_at dksJ19_subtract_2_6 10 rfl rfl)
theorem dJ19_subtract_2_154 : decode cJ19_subtract_2 154 = .ok (.ladd, 1) := dk_97 (dk_at dksJ19_subtract_2_6 11 rfl rfl)
theorem dJ19_subtract_2_155 : decode cJ19_subtract_2 155 = .ok (.lstore 5, 2) := dk_55 5 (dk_at dksJ19_subtract_2_6 12 rfl rfl)
theorem dJ19_subtract_2_157 : decode cJ19_subtract_2 157 = .ok (.aload 4, 2) := dk_25 4 (dk_at dksJ19_subtract_2_6 14 rfl rfl)
theorem dJ19_subtract_2_159 : decode cJ19_subtract_2 159 = .ok (.iconst 0, 1) := dk_3 (dk_at dksJ19_subtract_2_6 16 rfl rfl)
theorem dJ19_subtract_2_160 : decode cJ19_subtract_2 160 = .ok (.lload 5, 2) := dk_22 5 (dk_at dksJ19_subtract_2_6 17 rfl rfl)
theorem dJ19_subtract_2_162 : decode cJ19_subtract_2 162 = .ok (.l2i, 1) := dk_136 (dk_at dksJ19_subtract_2_6 19 rfl rfl)
theorem dJ19_subtract_2_163 : decode cJ19_subtract_2 163 = .ok (.iastore, 1) := dk_79 (dk_at dksJ19_subtract_2_6 20 rfl rfl)
theorem dJ19_subtract_2_164 : decode cJ19_subtract_2 164 = .ok (.aload 4, 2) := dk_25 4 (dk_at dksJ19_subtract_2_6 21 rfl rfl)
theorem dJ19_subtract_2_166 : decode cJ19_subtract_2 166 = .ok (.areturn, 1) := dk_176 (dk_at dksJ19_subtract_2_6 23 rfl rfl)
def dkwJ19_add_3_5 : List UInt8 := [160, 0, 7, 4, 167, 0, 4, 2, 183, 0, 175, 176]
abbrev dktJ19_add_3_5 : List UInt8 := dkwJ19_add_3_5 ++ []
def dkwJ19_add_3_4 : List UInt8 := [180, 0, 28, 184, 1, 112, 78, 45, 184, 0, 53, 78, 187, 0, 23, 89, 45, 28, 42, 180, 0, 32]
abbrev dktJ19_add_3_4 : List UInt8 := dkwJ19_add_3_4 ++ dktJ19_add_3_5
def dkwJ19_add_3_3 : List UInt8 := [158, 0, 17, 42, 180, 0, 28, 43, 180, 0, 28, 184, 1, 112, 167, 0, 14, 43, 180, 0, 28, 42]
abbrev dktJ19_add_3_3 : List UInt8 := dkwJ19_add_3_3 ++ dktJ19_add_3_4
def dkwJ19_add_3_2 : List UInt8 := [180, 0, 32, 183, 0, 175, 176, 42, 43, 182, 1, 109, 61, 28, 154, 0, 7, 178, 0, 22, 176, 28]
abbrev dktJ19_add_3_2 : List UInt8 := dkwJ19_add_3_2 ++ dktJ19_add_3_3
def dkwJ19_add_3_1 : List UInt8 := [180, 0, 32, 160, 0, 26, 187, 0, 23, 89, 42, 180, 0, 28, 43, 180, 0, 28, 184, 1, 106, 42]
abbrev dktJ19_add_3_1 : List UInt8 := dkwJ19_add_3_1 ++ dktJ19_add_3_2
def dkwJ19_add_3_0 : List UInt8 := [43, 180, 0, 32, 154, 0, 5, 42, 176, 42, 180, 0, 32, 154, 0, 5, 43, 176, 43, 180, 0, 32, 42]
abbrev dktJ19_add_3_0 : List UInt8 := dkwJ19_add_3_0 ++ dktJ19_add_3_1
theorem dksJ19_add_3_0 : cJ19_add_3.data.toList.drop 0 = dktJ19_add_3_0 := by decide +kernel
theorem dksJ19_add_3_1 : cJ19_add_3.data.toList.drop 23 = dktJ19_add_3_1 := dk_seg dksJ19_add_3_0 23 rfl rfl
theorem dksJ19_add_3_2 : cJ19_add_3.data.toList.drop 45 = dktJ19_add_3_2 := dk_seg dksJ19_add_3_1 22 rfl rfl
theorem dksJ19_add_3_3 : cJ19_add_3.data.toList.drop 67 = dktJ19_add_3_3 := dk_seg dksJ19_add_3_2 22 rfl rfl
theorem dksJ19_add_3_4 : cJ19_add_3.data.toList.drop 89 = dktJ19_add_3_4 := dk_seg dksJ19_add_3_3 22 rfl rfl
theorem dksJ19_add_3_5 : cJ19_add_3.data.toList.drop 111 = dktJ19_add_3_5 := dk_seg dksJ19_add_3_4 22 rfl rfl
theorem dJ19_add_3_0 : decode cJ19_add_3 0 = .ok (.aload_n 1, 1) := dk_43 (dk_at dksJ19_add_3_0 0 rfl rfl)
theorem dJ19_add_3_1 : decode cJ19_add_3 1 = .ok (.getfield 32, 3) := dk_180 0 32 (dk_at dksJ19_add_3_0 1 rfl rfl)
theorem dJ19_add_3_4 : decode cJ19_add_3 4 = .ok (.ifCond .ne 5, 3) := dk_154 0 5 (dk_at dksJ19_add_3_0 4 rfl rfl)
theorem dJ19_add_3_7 : decode cJ19_add_3 7 = .ok (.aload_n 0, 1) := dk_42 (dk_at dksJ19_add_3_0 7 rfl rfl)
theorem dJ19_add_3_8 : decode cJ19_add_3 8 = .ok (.areturn, 1) := dk_176 (dk_at dksJ19_add_3_0 8 rfl rfl)
theorem dJ19_add_3_9 : decode cJ19_add_3 9 = .ok (.aload_n 0, 1) := dk_42 (dk_at dksJ19_add_3_0 9 rfl rfl)
theorem dJ19_add_3_10 : decode cJ19_add_3 10 = .ok (.getfield 32, 3) := dk_180 0 32 (dk_at dksJ19_add_3_0 10 rfl rfl)
theorem dJ19_add_3_13 : decode cJ19_add_3 13 = .ok (.ifCond .ne 5, 3) := dk_154 0 5 (dk_at dksJ19_add_3_0 13 rfl rfl)
theorem dJ19_add_3_16 : decode cJ19_add_3 16 = .ok (.aload_n 1, 1) := dk_43 (dk_at dksJ19_add_3_0 16 rfl rfl)
theorem dJ19_add_3_17 : decode cJ19_add_3 17 = .ok (.areturn, 1) := dk_176 (dk_at dksJ19_add_3_0 17 rfl rfl)
theorem dJ19_add_3_18 : decode cJ19_add_3 18 = .ok (.aload_n 1, 1) := dk_43 (dk_at dksJ19_add_3_0 18 rfl rfl)
theorem dJ19_add_3_19 : decode cJ19_add_3 19 = .ok (.getfield 32, 3) := dk_180 0 32 (dk_at dksJ19_add_3_0 19 rfl rfl)
theorem dJ19_add_3_22 : decode cJ19_add_3 22 = .ok (.aload_n 0, 1) := dk_42 (dk_at dksJ19_add_3_0 22 rfl rfl)
theorem dJ19_add_3_23 : decode cJ19_add_3 23 = .ok (.getfield 32, 3) := dk_180 0 32 (dk_at dksJ19_add_3_1 0 rfl rfl)
theorem dJ19_add_3_26 : decode cJ19_add_3 26 = .ok (.if_icmp .ne 26, 3) := dk_160 0 26 (dk_at dksJ19_add_3_1 3 rfl rfl)
theorem dJ19_add_3_29 : decode cJ19_add_3 29 = .ok (.new 23, 3) := dk_187 0 23 (dk_at dksJ19_add_3_1 6 rfl rfl)
theorem dJ19_add_3_32 : decode cJ19_add_3 32 = .ok (.dup, 1) := dk_89 (dk_at dksJ19_add_3_1 9 rfl rfl)
theorem dJ19_add_3_33 : decode cJ19_add_3 33 = .ok (.aload_n 0, 1) := dk_42 (dk_at dksJ19_add_3_1 10 rfl rfl)
theorem dJ19_add_3_34 : decode cJ19_add_3 34 = .ok (.getfield 28, 3) := dk_180 0 28 (dk_at dksJ19_add_3_1 11 rfl rfl)
theorem dJ19_add_3_37 : decode cJ19_add_3 37 = .ok (.aload_n 1, 1) := dk_43 (dk_at dksJ19_add_3_1 14 rfl rfl)
theorem dJ19_add_3_38 : decode cJ19_add_3 38 = .ok (.getfield 28, 3) := dk_180 0 28 (dk_at dksJ19_add_3_1 15 rfl rfl)
theorem dJ19_add_3_41 : decode cJ19_add_3 41 = .ok (.invokestatic 362, 3) := dk_184 1 106 (dk_at dksJ19_add_3_1 18 rfl rfl)
theorem dJ19_add_3_44 : decode cJ19_add_3 44 = .ok (.aload_n 0, 1) := dk_42 (dk_at dksJ19_add_3_1 21 rfl rfl)
theorem dJ19_add_3_45 : decode cJ19_add_3 45 = .ok (.getfield 32, 3) := dk_180 0 32 (dk_at dksJ19_add_3_2 0 rfl rfl)
theorem dJ19_add_3_48 : decode cJ19_add_3 48 = .ok (.invokespecial 175, 3) := dk_183 0 175 (dk_at dksJ19_add_3_2 3 rfl rfl)
theorem dJ19_add_3_51 : decode cJ19_add_3 51 = .ok (.areturn, 1) := dk_176 (dk_at dksJ19_add_3_2 6 rfl rfl)
theorem dJ19_add_3_52 : decode cJ19_add_3 52 = .ok (.aload_n 0, 1) := dk_42 (dk_at dksJ19_add_3_2 7 rfl rfl)
theorem dJ19_add_3_53 : decode cJ19_add_3 53 = .ok (.aload_n 1, 1) := dk_43 (dk_at dksJ19_add_3_2 8 rfl rfl)
theorem dJ19_add_3_54 : decode cJ19_add_3 54 = .ok (.invokevirtual 365, 3) := dk_182 1 109 (dk_at dksJ19_add_3_2 9 rfl rfl)
theorem dJ19_add_3_57 : decode cJ19_add_3 57 = .ok (.istore_n 2, 1) := dk_61 (dk_at dksJ19_add_3_2 12 rfl rfl)
theorem dJ19_add_3_58 : decode cJ19_add_3 58 = .ok (.iload_n 2, 1) := dk_28 (dk_at dksJ19_add_3_2 13 rfl rfl)
theorem dJ19_add_3_59 : decode cJ19_add_3 59 = .ok (.ifCond .ne 7, 3) := dk_154 0 7 (dk_at dksJ19_add_3_2 14 rfl rfl)
theorem dJ19_add_3_62 : decode cJ19_add_3 62 = .ok (.getstatic 22, 3) := dk_178 0 22 (dk_at dksJ19_add_3_2 17 rfl rfl)
theorem dJ19_add_3_65 : decode cJ19_add_3 65 = .ok (.areturn, 1) := dk_176 (dk_at dksJ19_add_3_2 20 rfl rfl)
theorem dJ19_add_3_66 : decode cJ19_add_3 66 = .ok (.iload_n 2, 1) := dk_28 (dk_at dksJ19_add_3_2 21 rfl rfl)
theorem dJ19_add_3_67 : decode cJ19_add_3 67 = .ok (.ifCond .le 17, 3) := dk_158 0 17 (dk_at dksJ19_add_3_3 0 rfl rfl)
theorem dJ19_add_3_70 : decode cJ19_add_3 70 = .ok (.aload_n 0, 1) := dk_42 (dk_at dksJ19_add_3_3 3 rfl rfl)
theorem dJ19_add_3_71 : decode cJ19_add_3 71 = .ok (.getfield 28, 3) := dk_180 0 28 (dk_at dksJ19_add_3_3 4 rfl rfl)
theorem dJ19_add_3_74 : decode cJ19_add_3 74 = .ok (.aload_n 1, 1) := dk_43 (dk_at dksJ19_add_3_3 7 rfl rfl)
theorem dJ19_add_3_75 : decode cJ19_add_3 75 = .ok (.getfield 28, 3) := dk_180 0 28 (dk_at dksJ19_add_3_3 8 rfl rfl)
theorem dJ19_add_3_78 : decode cJ19_add_3 78 = .ok (.invokestatic 368, 3) := dk_184 1 112 (dk_at dksJ19_add_3_3 11 rfl rfl)
theorem dJ19_add_3_81 : decode cJ19_add_3 81 = .ok (.goto 14, 3) := dk_167 0 14 (dk_at dksJ19_add_3_3 14 rfl rfl)
theorem dJ19_add_3_84 : decode cJ19_add_3 84 = .ok (.aload_n 1, 1) := dk_43 (dk_at dksJ19_add_3_3 17 rfl rfl)
theorem dJ19_add_3_85 : decode cJ19_add_3 85 = .ok (.getfield 28, 3) := dk_180 0 28 (dk_at dksJ19_add_3_3 18 rfl rfl)
theorem dJ19_add_3_88 : decode cJ19_add_3 88 = .ok (.aload_n 0, 1) := dk_42 (dk_at dksJ19_add_3_3 21 rfl rfl)
theorem dJ19_add_3_89 : decode cJ19_add_3 89 = .ok (.getfield 28, 3) := dk_180 0 28 (dk_at dksJ19_add_3_4 0 rfl rfl)
theorem dJ19_add_3_92 : decode cJ19_add_3 92 = .ok (.invokestatic 368, 3) := dk_184 1 112 (dk_at dksJ19_add_3_4 3 rfl rfl)
theorem dJ19_add_3_95 : decode cJ19_add_3 95 = .ok (.astore_n 3, 1) := dk_78 (dk_at dksJ19_add_3_4 6 rfl rfl)
theorem dJ19_add_3_96 : decode cJ19_add_3 96 = .ok (.aload_n 3, 1) := dk_45 (dk_at dksJ19_add_3_4 7 rfl rfl)
theorem dJ19_add_3_97 : decode cJ19_add_3 97 = .ok (.invokestatic 53, 3) := dk_184 0 53 (dk_at dksJ19_add_3_4 8 rfl rfl)
theorem dJ19_add_3_100 : decode cJ19_add_3 100 = .ok (.astore_n 3, 1) := dk_78 (dk_at dksJ19_add_3_4 11 rfl rfl)
theorem dJ19_add_3_101 : decode cJ19_add_3 101 = .ok (.new 23, 3) := dk_187 0 23 (dk_at dksJ19_add_3_4 12 rfl rfl)
theorem dJ19_add_3_104 : decode cJ19_add_3 104 = .ok (.dup, 1) := dk_89 (dk_at dksJ19_add_3_4 15 rfl rfl)
theorem dJ19_add_3_105 : decode cJ19_add_3 105 = .ok (.aload_n 3, 1) := dk_45 (dk_at dksJ19_add_3_4 16 rfl rfl)
theorem dJ19_add_3_106 : decode cJ19_add_3 106 = .ok (.iload_n 2, 1) := dk_28 (dk_at dksJ19_add_3_4 17 rfl rfl)
theorem dJ19_add_3_107 : decode cJ19_add_3 107 = .ok (.aload_n 0, 1) := dk_42 (dk_at dksJ19_add_3_4 18 rfl rfl)
theorem dJ19_add_3_108 : decode cJ19_add_3 108 = .ok (.getfield 32, 3) := dk_180 0 32 (dk_at dksJ19_add_3_4 19 rfl rfl)
theorem dJ19_add_3_111 : decode cJ19_add_3 111 = .ok (.if_icmp .ne 7, 3) := dk_160 0 7 (dk_at dksJ19_add_3_5 0 rfl rfl)
theorem dJ19_add_3_114 : decode cJ19_add_3 114 = .ok (.iconst 1, 1) := dk_4 (dk_at dksJ19_add_3_5 3 rfl rfl)
theorem dJ19_add_3_115 : decode cJ19_add_3 115 = .ok (.goto 4, 3) := dk_167 0 4 (dk_at dksJ19_add_3_5 4 rfl rfl)
theorem dJ19_add_3_118 : decode cJ19_add_3 118 = .ok (.iconst (-1), 1) := dk_2 (dk_at dksJ19_add_3_5 7 rfl rfl)
theorem dJ19_add_3_119 : decode cJ19_add_3 119 = .ok (.invokespecial 175, 3) := dk_183 0 175 (dk_at dksJ19_add_3_5 8 rfl rfl)
theorem dJ19_add_3_122 : decode cJ19_add_3 122 = .ok (.areturn, 1) := dk_176 (dk_at dksJ19_add_3_5 11 rfl rfl)
def dkwJ19_add_4_9 : List UInt8 := [25, 8, 176, 25, 4, 176]
abbrev dktJ19_add_4_9 : List UInt8 := dkwJ19_add_4_9 ++ []
def dkwJ19_add_4_8 : List UInt8 := [4, 96, 188, 10, 58, 8, 25, 4, 3, 25, 8, 4, 25, 4, 190, 184, 1, 132, 25, 8, 3, 4, 79]
abbrev dktJ19_add_4_8 : List UInt8 := dkwJ19_add_4_8 ++ dktJ19_add_4_9
def dkwJ19_add_4_7 : List UInt8 := [158, 0, 16, 25, 4, 132, 2, 255, 28, 42, 28, 46, 79, 167, 255, 242, 21, 7, 153, 0, 32, 25, 4, 190]
abbrev dktJ19_add_4_7 : List UInt8 := dkwJ19_add_4_7 ++ dktJ19_add_4_8
def dkwJ19_add_4_6 : List UInt8 := [28, 42, 28, 46, 4, 96, 91, 79, 154, 0, 7, 4, 167, 0, 4, 3, 54, 7, 167, 255, 224, 28]
abbrev dktJ19_add_4_6 : List UInt8 := dkwJ19_add_4_6 ++ dktJ19_add_4_7
def dkwJ19_add_4_5 : List UInt8 := [153, 0, 7, 4, 167, 0, 4, 3, 54, 7, 28, 158, 0, 34, 21, 7, 153, 0, 29, 25, 4, 132, 2, 255]
abbrev dktJ19_add_4_5 : List UInt8 := dkwJ19_add_4_5 ++ dktJ19_add_4_6
def dkwJ19_add_4_4 : List UInt8 := [16, 32, 125, 97, 55, 5, 25, 4, 28, 22, 5, 136, 79, 167, 255, 214, 22, 5, 16, 32, 125, 9, 148]
abbrev dktJ19_add_4_4 : List UInt8 := dkwJ19_add_4_4 ++ dktJ19_add_4_5
def dkwJ19_add_4_3 : List UInt8 := [132, 2, 255, 28, 46, 133, 20, 0, 130, 127, 43, 132, 3, 255, 29, 46, 133, 20, 0, 130, 127, 97, 22, 5]
abbrev dktJ19_add_4_3 : List UInt8 := dkwJ19_add_4_3 ++ dktJ19_add_4_4
def dkwJ19_add_4_2 : List UInt8 := [20, 0, 130, 127, 97, 55, 5, 25, 4, 28, 22, 5, 136, 79, 167, 0, 48, 29, 158, 0, 44, 42]
abbrev dktJ19_add_4_2 : List UInt8 := dkwJ19_add_4_2 ++ dktJ19_add_4_3
def dkwJ19_add_4_1 : List UInt8 := [9, 55, 5, 29, 4, 160, 0, 35, 42, 132, 2, 255, 28, 46, 133, 20, 0, 130, 127, 43, 3, 46, 133]
abbrev dktJ19_add_4_1 : List UInt8 := dkwJ19_add_4_1 ++ dktJ19_add_4_2
def dkwJ19_add_4_0 : List UInt8 := [42, 190, 43, 190, 162, 0, 9, 42, 77, 43, 75, 44, 76, 42, 190, 61, 43, 190, 62, 28, 188, 10, 58, 4]
abbrev dktJ19_add_4_0 : List UInt8 := dkwJ19_add_4_0 ++ dktJ19_add_4_1
theorem dksJ19_add_4_0 : cJ19_add_4.data.toList.drop 0 = dktJ19_add_4_0 := by decide +kernel
theorem dksJ19_add_4_1 : cJ19_add_4.data.toList.drop 24 = dktJ19_add_4_1 := dk_seg dksJ19_add_4_0 24 rfl rfl
theorem dksJ19_add_4_2 : cJ19_add_4.data.toList.drop 47 = dktJ19_add_4_2 := dk_seg dksJ19_add_4_1 23 rfl rfl
theorem dksJ19_add_4_3 : cJ19_add_4.data.toList.drop 69 = dktJ19_add_4_3 := dk_seg dksJ19_add_4_2 22 rfl rfl
theorem dksJ19_add_4_4 : cJ19_add_4.data.toList.drop 93 = dktJ19_add_4_4 := dk_seg dksJ19_add_4_3 24 rfl rfl
theorem dksJ19_add_4_5 : cJ19_add_4.data.toList.drop 116 = dktJ19_add_4_5 := dk_seg dksJ19_add_4_4 23 rfl rfl
theorem dksJ19_add_4_6 : cJ19_add_4.data.toList.drop 140 = dktJ19_add_4_6 := dk_seg dksJ19_add_4_5 24 rfl rfl
theorem dksJ19_add_4_7 : cJ19_add_4.data.toList.drop 162 = dktJ19_add_4_7 := dk_seg dksJ19_add_4_6 22 rfl rfl
theorem dksJ19_add_4_8 : cJ19_add_4.data.toList.drop 186 = dktJ19_add_4_8 := dk_seg dksJ19_add_4_7 24 rfl rfl
theorem dksJ19_add_4_9 : cJ19_add_4.data.toList.drop 209 = dktJ19_add_4_9 := dk_seg dksJ19_add_4_8 23 rfl rfl
theorem dJ19_add_4_0 : decode cJ19_add_4 0 = .ok (.aload_n 0, 1) := dk_42 (dk_at dksJ19_add_4_0 0 rfl rfl)
theorem dJ19_add_4_1 : decode cJ19_add_4 1 = .ok (.arraylength, 1) := dk_190 (dk_at dksJ19_add_4_0 1 rfl rfl)
theorem dJ19_add_4_2 : decode cJ19_add_4 2 = .ok (.aload_n 1, 1) := dk_43 (dk_at dksJ19_add_4_0 2 rfl rfl)
theorem dJ19_add_4_3 : decode cJ19_add_4 3 = .ok (.arraylength, 1) := dk_190 (dk_at dksJ19_add_4_0 3 rfl rfl)
theorem dJ19_add_4_4 : decode cJ19_add_4 4 = .ok (.if_icmp .ge 9, 3) := dk_162 0 9 (dk_at dksJ19_add_4_0 4 rfl rfl)
theorem dJ19_add_4_7 : decode cJ19_add_4 7 = .ok (.aload_n 0, 1) := dk_42 (dk_at dksJ19_add_4_0 7 rfl rfl)
theorem dJ19_add_4_8 : decode cJ19_add_4 8 = .ok (.astore_n 2, 1) := dk_77 (dk_at dksJ19_add_4_0 8 rfl rfl)
theorem dJ19_add_4_9 : decode cJ19_add_4 9 = .ok (.aload_n 1, 1) := dk_43 (dk_at dksJ19_add_4_0 9 rfl rfl)
theorem dJ19_add_4_10 : decode cJ19_add_4 10 = .ok (.astore_n 0, 1) := dk_75 (dk_at dksJ19_add_4_0 10 rfl rfl)
theorem dJ19_add_4_11 : decode cJ19_add_4 11 = .ok (.aload_n 2, 1) := dk_44 (dk_at dksJ19_add_4_0 11 rfl rfl)
theorem dJ19_add_4_12 : decode cJ19_add_4 12 = .ok (.astore_n 1, 1) := dk_76 (dk_at dksJ19_add_4_0 12 rfl rfl)
theorem dJ19_add_4_13 : decode cJ19_add_4 13 = .ok (.aload_n 0, 1) := dk_42 (dk_at dksJ19_add_4_0 13 rfl rfl)
theorem dJ19_add_4_14 : decode cJ19_add_4 14 = .ok (.arraylength, 1) := dk_190 (dk_at dksJ19_add_4_0 14 rfl rfl)
theorem dJ19_add_4_15 : decode cJ19_add_4 15 = .ok (.istore_n 2, 1) := dk_61 (dk_at dksJ19_add_4_0 15 rfl rfl)
theorem dJ19_add_4_16 : decode cJ19_add_4 16 = .ok (.aload_n 1, 1) := dk_43 (dk_at dksJ19_add_4_0 16 rfl rfl)
theorem dJ19_add_4_17 : decode cJ19_add_4 17 = .ok (.arraylength, 1) := dk_190 (dk_at dksJ19_add_4_0 17 rfl rfl)
theorem dJ19_add_4_18 : decode cJ19_add_4 18 = .ok (.istore_n 3, 1) := dk_62 (dk_at dksJ19_add_4_0 18 rfl rfl)
theorem dJ19_add_4_19 : decode cJ19_add_4 19 = .ok (.iload_n 2, 1) := dk_28 (dk_at dksJ19_add_4_0 19 rfl rfl)
theorem dJ19_add_4_20 : decode cJ19_add_4 20 = .ok (.newarray .int, 2) := dk_188_10 (dk_at dksJ19_add_4_0 20 rfl rfl)
theorem dJ19_add_4_22 : decode cJ19_add_4 22 = .ok (.astore 4, 2) := dk_58 4 (dk_at dksJ19_add_4_0 22 rfl rfl)
theorem dJ19_add_4_24 : decode cJ19_add_4 24 = .ok (.lconst 0, 1) := dk_9 (dk_at dksJ19_add_4_1 0 rfl rfl)
theorem dJ19_add_4_25 : decode cJ19_add_4 25 = .ok (.lstore 5, 2) := dk_55 5 (dk_at dksJ19_add_4_1 1 rfl rfl)
theorem dJ19_add_4_27 : decode cJ19_add_4 27 = .ok (.iload_n 3, 1) := dk_29 (dk_at dksJ19_add_4_1 3 rfl rfl)
theorem dJ19_add_4_28 : decode cJ19_add_4 28 = .ok (.iconst 1, 1) := dk_4 (dk_at dksJ19_add_4_1 4 rfl rfl)
theorem dJ19_add_4_29 : decode cJ19_add_4 29 = .ok (.if_icmp .ne 35, 3) := dk_160 0 35 (dk_at dksJ19_add_4_1 5 rfl rfl)
theorem dJ19_add_4_32 : decode cJ19_add_4 32 = .ok (.aload_n 0, 1) := dk_42 (dk_at dksJ19_add_4_1 8 rfl rfl)
theorem dJ19_add_4_33 : decode cJ19_add_4 33 = .ok (.iinc 2 (-1), 3) := dk_132 2 255 (dk_at dksJ19_add_4_1 9 rfl rfl)
theorem dJ19_add_4_36 : decode cJ19_add_4 36 = .ok (.iload_n 2, 1) := dk_28 (dk_at dksJ19_add_4_1 12 rfl rfl)
theorem dJ19_add_4_37 : decode cJ19_add_4 37 = .ok (.iaload, 1) := dk_46 (dk_at dksJ19_add_4_1 13 rfl rfl)
theorem dJ19_add_4_38 : decode cJ19_add_4 38 = .ok (.i2l, 1) := dk_133 (dk_at dksJ19_add_4_1 14 rfl rfl)
theorem dJ19_add_4_39 : decode cJ19_add_4 39 = .ok (.ldc2_w 130, 3) := dk_20 0 130 (dk_at dksJ19_add_4_1 15 rfl rfl)
theorem dJ19_add_4_42 : decode cJ19_add_4 42 = .ok (.land, 1) := dk_127 (dk_at dksJ19_add_4_1 18 rfl rfl)
theorem dJ19_add_4_43 : decode cJ19_add_4 43 = .ok (.aload_n 1, 1) := dk_43 (dk_at dksJ19_add_4_1 19 rfl rfl)
theorem dJ19_add_4_44 : decode cJ19_add_4 44 = .ok (.iconst 0, 1) := dk_3 (dk_at dksJ19_add_4_1 20 rfl rfl)
theorem dJ19_add_4_45 : decode cJ19_add_4 45 = .ok (.iaload, 1) := dk_46 (dk_at dksJ19_add_4_1 21 rfl rfl)
theorem dJ19_add_4_46 : decode cJ19_add_4 46 = .ok (.i2l, 1) := dk_133 (dk_at dksJ19_add_4_1 22 rfl rfl)
theorem dJ19_add_4_47 : decode cJ19_add_4 47 = .ok (.ldc2_w 130, 3) := dk_20 0 130 (dk_at dksJ19_add_4_2 0 rfl rfl)
theorem dJ19_add_4_50 : decode cJ19_add_4 50 = .ok (.land, 1) := dk_127 (dk_at dksJ19_add_4_2 3 rfl rfl)
theorem dJ19_add_4_51 : decode cJ19_add_4 51 = .ok (.ladd, 1) := dk_97 (dk_at dksJ19_add_4_2 4 rfl rfl)
theorem dJ19_add_4_52 : decode cJ19_add_4 52 = .ok (.lstore 5, 2) := dk_55 5 (dk_at dksJ19_add_4_2 5 rfl rfl)
theorem dJ19_add_4_54 : decode cJ19_add_4 54 = .ok (.aload 4, 2) := dk_25 4 (dk_at dksJ19_add_4_2 7 rfl rfl)
theorem dJ19_add_4_56 : decode cJ19_add_4 56 = .ok (.iload_n 2, 1) := dk_28 (dk_at dksJ19_add_4_2 9 rfl rfl)
theorem dJ19_add_4_57 : decode cJ19_add_4 57 = .ok (.lload 5, 2) := dk_22 5 (dk_at dksJ19_add_4_2 10 rfl rfl)
theorem dJ19_add_4_59 : decode cJ19_add_4 59 = .ok (.l2i, 1) := dk_136 (dk_at dksJ19_add_4_2 12 rfl rfl)
theorem dJ19_add_4_60 : decode cJ19_add_4 60 = .ok (.iastore, 1) := dk_79 (dk_at dksJ19_add_4_2 13 rfl rfl)
theorem dJ19_add_4_61 : decode cJ19_add_4 61 = .ok (.goto 48, 3) := dk_167 0 48 (dk_at dksJ19_add_4_2 14 rfl rfl)
theorem dJ19_add_4_64 : decode cJ19_add_4 64 = .ok (.iload_n 3, 1) := dk_29 (dk_at dksJ19_add_4_2 17 rfl rfl)
theorem dJ19_add_4_65 : decode cJ19_add_4 65 = .ok (.ifCond .le 44, 3) := dk_158 0 44 (dk_at dksJ19_add_4_2 18 rfl rfl)
theorem dJ19_add_4_68 : decode cJ19_add_4 68 = .ok (.aload_n 0, 1) := dk_42 (dk_at dksJ19_add_4_2 21 rfl rfl)
theorem dJ19_add_4_69 : decode cJ19_add_4 69 = .ok (.iinc 2 (-1), 3) := dk_132 2 255 (dk_at dksJ19_add_4_3 0 rfl rfl)
theorem dJ19_add_4_72 : decode cJ19_add_4 72 = .ok (.iload_n 2, 1) := dk_28 (dk_at dksJ19_add_4_3 3 rfl rfl)
theorem dJ19_add_4_73 : decode cJ19_add_4 73 = .ok (.iaload, 1) := dk_46 (dk_at dksJ19_add_4_3 4 rfl rfl)
theorem dJ19_add_4_74 : decode cJ19_add_4 74 = .ok (.i2l, 1) := dk_133 (dk_at dksJ19_add_4_3 5 rfl rfl)
theorem dJ19_add_4_75 : decode cJ19_add_4 75 = .ok (.ldc2_w 130, 3) := dk_20 0 130 (dk_at dksJ19_add_4_3 6 rfl rfl)
theorem dJ19_add_4_78 : decode cJ19_add_4 78 = .ok (.land, 1) := dk_127 (dk_at dksJ19_add_4_3 9 rfl rfl)
theorem dJ19_add_4_79 : decode cJ19_add_4 79 = .ok (.aload_n 1, 1) := dk_43 (dk_at dksJ19_add_4_3 10 rfl rfl)
theorem dJ19_add_4_80 : decode cJ19_add_4 80 = .ok (.iinc 3 (-1), 3) := dk_132 3 255 (dk_at dksJ19_add_4_3 11 rfl rfl)
theorem dJ19_add_4_83 : decode cJ19_add_4 83 = .ok (.iload_n 3, 1) := dk_29 (dk_at dksJ19_add_4_3 14 rfl rfl)
theorem dJ19_add_4_84 : decode cJ19_add_4 84 = .ok (.iaload, 1) := dk_46 (dk_at dksJ19_add_4_3 15 rfl rfl)
theorem dJ19_add_4_85 : decode cJ19_add_4 85 = .ok (.i2l, 1) := dk_133 (dk_at dksJ19_add_4_3 16 rfl rfl)
theorem dJ19_add_4_86 : decode cJ19_add_4 86 = .ok (.ldc2_w 130, 3) := dk_20 0 130 (dk_at dksJ19_add_4_3 17 rfl rfl)
theorem dJ19_add_4_89 : decode cJ19_add_4 89 = .ok (.land, 1) := dk_127 (dk_at dksJ19_add_4_3 20 rfl rfl)
theorem dJ19_add_4_90 : decode cJ19_add_4 90 = .ok (.ladd, 1) := dk_97 (dk_at dksJ19_add_4_3 21 rfl rfl)
theorem dJ19_add_4_91 : decode cJ19_add_4 91 = .ok (.lload 5, 2) := dk_22 5 (dk_at dksJ19_add_4_3 22 rfl rfl)
theorem dJ19_add_4_93 : decode cJ19_add_4 93 = .ok (.bipush 32, 2) := dk_16 32 (dk_at dksJ19_add_4_4 0 rfl rfl)
theorem dJ19_add_4_95 : decode cJ19_add_4 95 = .ok (.lushr, 1) := dk_125 (dk_at dksJ19_add_4_4 2 rfl rfl)
theorem dJ19_add_4_96 : decode cJ19_add_4 96 = .ok (.ladd, 1) := dk_97 (dk_at dksJ19_add_4_4 3 rfl rfl)
theorem dJ19_add_4_97 : decode cJ19_add_4 97 = .ok (.lstore 5, 2) := dk_55 5 (dk_at dksJ19_add_4_4 4 rfl rfl)
theorem dJ19_add_4_99 : decode cJ19_add_4 99 = .ok (.aload 4, 2) := dk_25 4 (dk_at dksJ19_add_4_4 6 rfl rfl)
theorem dJ19_add_4_101 : decode cJ19_add_4 101 = .ok (.iload_n 2, 1) := dk_28 (dk_at dksJ19_add_4_4 8 rfl rfl)
theorem dJ19_add_4_102 : decode cJ19_add_4 102 = .ok (.lload 5, 2) := dk_22 5 (dk_at dksJ19_add_4_4 9 rfl rfl)
theorem dJ19_add_4_104 : decode cJ19_add_4 104 = .ok (.l2i, 1) := dk_136 (dk_at dksJ19_add_4_4 11 rfl rfl)
theorem dJ19_add_4_105 : decode cJ19_add_4 105 = .ok (.iastore, 1) := dk_79 (dk_at dksJ19_add_4_4 12 rfl rfl)
theorem dJ19_add_4_106 : decode cJ19_add_4 106 = .ok (.goto (-42), 3) := dk_167 255 214 (dk_at dksJ19_add_4_4 13 rfl rfl)
theorem dJ19_add_4_109 : decode cJ19_add_4 109 = .ok (.lload 5, 2) := dk_22 5 (dk_at dksJ19_add_4_4 16 rfl rfl)
theorem dJ19_add_4_111 : decode cJ19_add_4 111 = .ok (.bipush 32, 2) := dk_16 32 (dk_at dksJ19_add_4_4 18 rfl rfl)
theorem dJ19_add_4_113 : decode cJ19_add_4 113 = .ok (.lushr, 1) := dk_125 (dk_at dksJ19_add_4_4 20 rfl rfl)
theorem dJ19_add_4_114 : decode cJ19_add_4 114 = .ok (.lconst 0, 1) := dk_9 (dk_at dksJ19_add_4_4 21 rfl rfl)
theorem dJ19_add_4_115 : decode cJ19_add_4 115 = .ok (.lcmp, 1) := dk_148 (dk_at dksJ19_add_4_4 22 rfl rfl)
theorem dJ19_add_4_116 : decode cJ19_add_4 116 = .ok (.ifCond .eq 7, 3) := dk_153 0 7 (dk_at dksJ19_add_4_5 0 rfl rfl)
theorem dJ19_add_4_119 : decode cJ19_add_4 119 = .ok (.iconst 1, 1) := dk_4 (dk_at dksJ19_add_4_5 3 rfl rfl)
theorem dJ19_add_4_120 : decode cJ19_add_4 120 = .ok (.goto 4, 3) := dk_167 0 4 (dk_at dksJ19_add_4_5 4 rfl rfl)
theorem dJ19_add_4_123 : decode cJ19_add_4 123 = .ok (.iconst 0, 1) := dk_3 (dk_at dksJ19_add_4_5 7 rfl rfl)
theorem dJ19_add_4_124 : decode cJ19_add_4 124 = .ok (.istore 7, 2) := dk_54 7 (dk_at dksJ19_add_4_5 8 rfl rfl)
theorem dJ19_add_4_126 : decode cJ19_add_4 126 = .ok (.iload_n 2, 1) := dk_28 (dk_at dksJ19_add_4_5 10 rfl rfl)
theorem dJ19_add_4_127 : decode cJ19_add_4 127 = .ok (.ifCond .le 34, 3) := dk_158 0 34 (dk_at dksJ19_add_4_5 11 rfl rfl)
theorem dJ19_add_4_130 : decode cJ19_add_4 130 = .ok (.iload 7, 2) := dk_21 7 (dk_at dksJ19_add_4_5 14 rfl rfl)
theorem dJ19_add_4_132 : decode cJ19_add_4 132 = .ok (.ifCond .eq 29, 3) := dk_153 0 29 (dk_at dksJ19_add_4_5 16 rfl rfl)
theorem dJ19_add_4_135 : decode cJ19_add_4 135 = .ok (.aload 4, 2) := dk_25 4 (dk_at dksJ19_add_4_5 19 rfl rfl)
theorem dJ19_add_4_137 : decode cJ19_add_4 137 = .ok (.iinc 2 (-1), 3) := dk_132 2 255 (dk_at dksJ19_add_4_5 21 rfl rfl)
theorem dJ19_add_4_140 : decode cJ19_add_4 140 = .ok (.iload_n 2, 1) := dk_28 (dk_at dksJ19_add_4_6 0 rfl rfl)
theorem dJ19_add_4_141 : decode cJ19_add_4 141 = .ok (.aload_n 0, 1) := dk_42 (dk_at dksJ19_add_4_6 1 rfl rfl)
theorem dJ19_add_4_142 : decode cJ19_add_4 142 = .ok (.iload_n 2, 1) := dk_28 (dk_at dksJ19_add_4_6 2 rfl rfl)
theorem dJ19_add_4_143 : decode cJ19_add_4 143 = .ok (.iaload, 1) := dk_46 (dk_at dksJ19_add_4_6 3 rfl rfl)
theorem dJ19_add_4_144 : decode cJ19_add_4 144 = .ok (.iconst 1, 1) := dk_4 (dk_at dksJ19_add_4_6 4 rfl rfl)
theorem dJ19_add_4_145 : decode cJ19_add_4 145 = .ok (.iadd, 1) := dk_96 (dk_at dksJ19_add_4_6 5 rfl rfl)
theorem dJ19_add_4_146 : decode cJ19_add_4 146 = .ok (.dup_x2, 1) := dk_91 (dk_at dksJ19_add_4_6 6 rfl rfl)
theorem dJ19_add_4_147 : decode cJ19_add_4 147 = .ok (.iastore, 1) := dk_79 (dk_at dksJ19_add_4_6 7 rfl rfl)
theorem dJ19_add_4_148 : decode cJ19_add_4 148 = .ok (.ifCond .ne 7, 3) := dk_154 0 7 (dk_at dksJ19_add_4_6 8 rfl rfl)
theorem dJ19_add_4_151 : decode cJ19_add_4 151 = .ok (.iconst 1, 1) := dk_4 (dk_at dksJ19_add_4_6 11 rfl rfl)
theorem dJ19_add_4_152 : decode cJ19_add_4 152 = .ok (.goto 4, 3) := dk_167 0 4 (dk_at dksJ19_add_4_6 12 rfl rfl)
theorem dJ19_add_4_155 : decode cJ19_add_4 155 = .ok (.iconst 0, 1) := dk_3 (dk_at dksJ19_add_4_6 15 rfl rfl)
theorem dJ19_add_4_156 : decode cJ19_add_4 156 = .ok (.istore 7, 2) := dk_54 7 (dk_at dksJ19_add_4_6 16 rfl rfl)
theorem dJ19_add_4_158 : decode cJ19_add_4 158 = .ok (.goto (-32), 3) := dk_167 255 224 (dk_at dksJ19_add_4_6 18 rfl rfl)
theorem dJ19_add_4_161 : decode cJ19_add_4 161 = .ok (.iload_n 2, 1) := dk_28 (dk_at dksJ19_add_4_6 21 rfl rfl)
theorem dJ19_add_4_162 : decode cJ19_add_4 162 = .ok (.ifCond .le 16, 3) := dk_158 0 16 (dk_at dksJ19_add_4_7 0 rfl rfl)
theorem dJ19_add_4_165 : decode cJ19_add_4 165 = .ok (.aload 4, 2) := dk_25 4 (dk_at dksJ19_add_4_7 3 rfl rfl)
theorem dJ19_add_4_167 : decode cJ19_add_4 167 = .ok (.iinc 2 (-1), 3) := dk_132 2 255 (dk_at dksJ19_add_4_7 5 rfl rfl)
theorem dJ19_add_4_170 : decode cJ19_add_4 170 = .ok (.iload_n 2, 1) := dk_28 (dk_at dksJ19_add_4_7 8 rfl rfl)
theorem dJ19_add_4_171 : decode cJ19_add_4 171 = .ok (.aload_n 0, 1) := dk_42 (dk_at dksJ19_add_4_7 9 rfl rfl)
theorem dJ19_add_4_172 : decode cJ19_add_4 172 = .ok (.iload_n 2, 1) := dk_28 (dk_at dksJ19_add_4_7 10 rfl rfl)
theorem dJ19_add_4_173 : decode cJ19_add_4 173 = .ok (.iaload, 1) := dk_46 (dk_at dksJ19_add_4_7 11 rfl rfl)
theorem dJ19_add_4_174 : decode cJ19_add_4 174 = .ok (.iastore, 1) := dk_79 (dk_at dksJ19_add_4_7 12 rfl rfl)
theorem dJ19_add_4_175 : decode cJ19_add_4 175 = .ok (.goto (-14), 3) := dk_167 255 242 (dk_at dksJ19_add_4_7 13 rfl rfl)
theorem dJ19_add_4_178 : decode cJ19_add_4 178 = .ok (.iload 7, 2) := dk_21 7 (dk_at dksJ19_add_4_7 16 rfl rfl)
theorem dJ19_add_4_180 : decode cJ19_add_4 180 = .ok (.ifCond .eq 32, 3) := dk_153 0 32 (dk_at dksJ19_add_4_7 18 rfl rfl)
theorem dJ19_add_4_183 : decode cJ19_add_4 183 = .ok (.aload 4, 2) := dk_25 4 (dk_at dksJ19_add_4_7 21 rfl rfl)
theorem dJ19_add_4_185 : decode cJ19_add_4 185 = .ok (.arraylength, 1) := dk_190 (dk_at dksJ19_add_4_7 23 rfl rfl)
theorem dJ19_add_4_186 : decode cJ19_add_4 186 = .ok (.iconst 1, 1) := dk_4 (dk_at dksJ19_add_4_8 0 rfl rfl)
theorem dJ19_add_4_187 : decode cJ19_add_4 187 = .ok (.iadd, 1) := dk_96 (dk_at dksJ19_add_4_8 1 rfl rfl)
theorem dJ19_add_4_188 : decode cJ19_add_4 188 = .ok (.newarray .int, 2) := dk_188_10 (dk_at dksJ19_add_4_8 2 rfl rfl)
theorem dJ19_add_4_190 : decode cJ19_add_4 190 = .ok (.astore 8, 2) := dk_58 8 (dk_at dksJ19_add_4_8 4 rfl rfl)
theorem dJ19_add_4_192 : decode cJ19_add_4 192 = .ok (.aload 4, 2) := dk_25 4 (dk_at dksJ19_add_4_8 6 rfl rfl)
theorem dJ19_add_4_194 : decode cJ19_add_4 194 = .ok (.iconst 0, 1) := dk_3 (dk_at dksJ19_add_4_8 8 rfl rfl)
theorem dJ19_add_4_195 : decode cJ19_add_4 195 = .ok (.aload 8, 2) := dk_25 8 (dk_at dksJ19_add_4_8 9 rfl rfl)
theorem dJ19_add_4_197 : decode cJ19_add_4 197 = .ok (.iconst 1, 1) := dk_4 (dk_at dksJ19_add_4_8 11 rfl rfl)
theorem dJ19_add_4_198 : decode cJ19_add_4 198 = .ok (.aload 4, 2) := dk_25 4 (dk_at dksJ19_add_4_8 12 rfl rfl)
theorem dJ19_add_4_200 : decode cJ19_add_4 200 = .ok (.arraylength, 1) := dk_190 (dk_at dksJ19_add_4_8 14 rfl rfl)
theorem dJ19_add_4_201 : decode cJ19_add_4 201 = .ok (.invokestatic 388, 3) := dk_184 1 132 (dk_at dksJ19_add_4_8 15 rfl rfl)
theorem dJ19_add_4_204 : decode cJ19_add_4 204 = .ok (.aload 8, 2) := dk_25 8 (dk_at dksJ19_add_4_8 18 rfl rfl)
theorem dJ19_add_4_206 : decode cJ19_add_4 206 = .ok (.iconst 0, 1) := dk_3 (dk_at dksJ19_add_4_8 20 rfl rfl)
theorem dJ19_add_4_207 : decode cJ19_add_4 207 = .ok (.iconst 1, 1) := dk_4 (dk_at dksJ19_add_4_8 21 rfl rfl)
theorem dJ19_add_4_208 : decode cJ19_add_4 208 = .ok (.iastore, 1) := dk_79 (dk_at dksJ19_add_4_8 22 rfl rfl)
theorem dJ19_add_4_209 : decode cJ19_add_4 209 = .ok (.aload 8, 2) := dk_25 8 (dk_at dksJ19_add_4_9 0 rfl rfl)
theorem dJ19_add_4_211 : decode cJ19_add_4 211 = .ok (.areturn, 1) := dk_176 (dk_at dksJ19_add_4_9 2 rfl rfl)
theorem dJ19_add_4_212 : decode cJ19_add_4 212 = .ok (.aload 4, 2) := dk_25 4 (dk_at dksJ19_add_4_9 3 rfl rfl)
theorem dJ19_add_4_214 : decode cJ19_add_4 214 = .ok (.areturn, 1) := dk_176 (dk_at dksJ19_add_4_9 5 rfl rfl)
def dkwJ19_subtract_3_5 : List UInt8 := [132, 2, 255, 28, 42, 28, 46, 79, 167, 255, 243, 45, 176]
abbrev dktJ19_subtract_3_5 : List UInt8 := dkwJ19_subtract_3_5 ++ []
def dkwJ19_subtract_3_4 : List UInt8 := [100, 91, 79, 2, 160, 0, 7, 4, 167, 0, 4, 3, 54, 7, 167, 255, 224, 28, 158, 0, 15, 45]
abbrev dktJ19_subtract_3_4 : List UInt8 := dkwJ19_subtract_3_4 ++ dktJ19_subtract_3_5
def dkwJ19_subtract_3_3 : List UInt8 := [167, 0, 4, 3, 54, 7, 28, 158, 0, 34, 21, 7, 153, 0, 29, 45, 132, 2, 255, 28, 42, 28, 46, 4]
abbrev dktJ19_subtract_3_3 : List UInt8 := dkwJ19_subtract_3_3 ++ dktJ19_subtract_3_4
def dkwJ19_subtract_3_2 : List UInt8 := [97, 55, 5, 45, 28, 22, 5, 136, 79, 167, 255, 213, 22, 5, 16, 32, 123, 9, 148, 153, 0, 7, 4]
abbrev dktJ19_subtract_3_2 : List UInt8 := dkwJ19_subtract_3_2 ++ dktJ19_subtract_3_3
def dkwJ19_subtract_3_1 : List UInt8 := [46, 133, 20, 0, 130, 127, 43, 132, 4, 255, 21, 4, 46, 133, 20, 0, 130, 127, 101, 22, 5, 16, 32, 123]
abbrev dktJ19_subtract_3_1 : List UInt8 := dkwJ19_subtract_3_1 ++ dktJ19_subtract_3_2
def dkwJ19_subtract_3_0 : List UInt8 := [42, 190, 61, 28, 188, 10, 78, 43, 190, 54, 4, 9, 55, 5, 21, 4, 158, 0, 44, 42, 132, 2, 255, 28]
abbrev dktJ19_subtract_3_0 : List UInt8 := dkwJ19_subtract_3_0 ++ dktJ19_subtract_3_1
theorem dksJ19_subtract_3_0 : cJ19_subtract_3.data.toList.drop 0 = dktJ19_subtract_3_0 := by decide +kernel
theorem dksJ19_subtract_3_1 : cJ19_subtract_3.data.toList.drop 24 = dktJ19_subtract_3_1 := dk_seg dksJ19_subtract_3_0 24 rfl rfl
theorem dksJ19_subtract_3_2 : cJ19_subtract_3.data.toList.drop 48 = dktJ19_subtract_3_2 := dk_seg dksJ19_subtract_3_1 24 rfl rfl
theorem dksJ19_subtract_3_3 : cJ19_subtract_3.data.toList.drop 71 = dktJ19_subtract_3_3 := dk_seg dksJ19_subtract_3_2 23 rfl rfl
theorem dksJ19_subtract_3_4 : cJ19_subtract_3.data.toList.drop 95 = dktJ19_subtract_3_4 := dk_seg dksJ19_subtract_3_3 24 rfl rfl
theorem dksJ19_subtract_3_5 : cJ19_subtract_3.data.toList.drop 117 = dktJ19_subtract_3_5 := dk_seg dksJ19_subtract_3_4 22 rfl rfl
theorem dJ19_subtract_3_0 : decode cJ19_subtract_3 0 = .ok (.aload_n 0, 1) := dk_42 (dk_at dksJ19_subtract_3_0 0 rfl rfl)
theorem dJ19_subtract_3_1 : decode cJ19_subtract_3 1 = .ok (.arraylength, 1) := dk_190 (dk_at dksJ19_subtract_3_0 1 rfl rfl)
theorem dJ19_subtract_3_2 : decode cJ19_subtract_3 2 = .ok (.istore_n 2, 1) := dk_61 (dk_at dksJ19_subtract_3_0 2 rfl rfl)
theorem dJ19_subtract_3_3 : decode cJ19_subtract_3 3 = .ok (.iload_n 2, 1) := dk_28 (dk_at dksJ19_subtract_3_0 3 rfl rfl)
theorem dJ19_subtract_3_4 : decode cJ19_subtract_3 4 = .ok (.newarray .int, 2) := dk_188_10 (dk_at dksJ19_subtract_3_0 4 rfl rfl)
theorem dJ19_subtract_3_6 : decode cJ19_subtract_3 6 = .ok (.astore_n 3, 1) := dk_78 (dk_at dksJ19_subtract_3_0 6 rfl rfl)
theorem dJ19_subtract_3_7 : decode cJ19_subtract_3 7 = .ok (.aload_n 1, 1) := dk_43 (dk_at dksJ19_subtract_3_0 7 rfl rfl)
theorem dJ19_subtract_3_8 : decode cJ19_subtract_3 8 = .ok (.arraylength, 1) := dk_190 (dk_at dksJ19_subtract_3_0 8 rfl rfl)
theorem dJ19_subtract_3_9 : decode cJ19_subtract_3 9 = .ok (.istore 4, 2) := dk_54 4 (dk_at dksJ19_subtract_3_0 9 rfl rfl)
theorem dJ19_subtract_3_11 : decode cJ19_subtract_3 11 = .ok (.lconst 0, 1) := dk_9 (dk_at dksJ19_subtract_3_0 11 rfl rfl)
theorem dJ19_subtract_3_12 : decode cJ19_subtract_3 12 = .ok (.lstore 5, 2) := dk_55 5 (dk_at dksJ19_subtract_3_0 12 rfl rfl)
theorem dJ19_subtract_3_14 : decode cJ19_subtract_3 14 = .ok (.iload 4, 2) := dk_21 4 (dk_at dksJ19_subtract_3_0 14 rfl rfl)
theorem dJ19_subtract_3_16 : decode cJ19_subtract_3 16 = .ok (.ifCond .le 44, 3) := dk_158 0 44 (dk_at dksJ19_subtract_3_0 16 rfl rfl)
theorem dJ19_subtract_3_19 : decode cJ19_subtract_3 19 = .ok (.aload_n 0, 1) := dk_42 (dk_at dksJ19_subtract_3_0 19 rfl rfl)
theorem dJ19_subtract_3_20 : decode cJ19_subtract_3 20 = .ok (.iinc 2 (-1), 3) := dk_132 2 255 (dk_at dksJ19_subtract_3_0 20 rfl rfl)
theorem dJ19_subtract_3_23 : decode cJ19_subtract_3 23 = .ok (.iload_n 2, 1) := dk_28 (dk_at dksJ19_subtract_3_0 23 rfl rfl)
theorem dJ19_subtract_3_24 : decode cJ19_subtract_3 24 = .ok (.iaload, 1) := dk_46 (dk_at dksJ19_subtract_3_1 0 rfl rfl)
theorem dJ19_subtract_3_25 : decode cJ19_subtract_3 25 = .ok (.i2l, 1) := dk_133 (dk_at dksJ19_subtract_3_1 1 rfl rfl)
theorem dJ19_subtract_3_26 : decode cJ19_subtract_3 26 = .ok (.ldc2_w 130, 3) := dk_20 0 130 (dk_at dksJ19_subtract_3_1 2 rfl rfl)
theorem dJ19_subtract_3_29 : decode cJ19_subtract_3 29 = .ok (.land, 1) := dk_127 (dk_at dksJ19_subtract_3_1 5 rfl rfl)
theorem dJ19_subtract_3_30 : decode cJ19_subtract_3 30 = .ok (.aload_n 1, 1) := dk_43 (dk_at dksJ19_subtract_3_1 6 rfl rfl)
theorem dJ19_subtract_3_31 : decode cJ19_subtract_3 31 = .ok (.iinc 4 (-1), 3) := dk_132 4 255 (dk_at dksJ19_subtract_3_1 7 rfl rfl)
theorem dJ19_subtract_3_34 : decode cJ19_subtract_3 34 = .ok (.iload 4, 2) := dk_21 4 (dk_at dksJ19_subtract_3_1 10 rfl rfl)
theorem dJ19_subtract_3_36 : decode cJ19_subtract_3 36 = .ok (.iaload, 1) := dk_46 (dk_at dksJ19_subtract_3_1 12 rfl rfl)
theorem dJ19_subtract_3_37 : decode cJ19_subtract_3 37 = .ok (.i2l, 1) := dk_133 (dk_at dksJ19_subtract_3_1 13 rfl rfl)
theorem dJ19_subtract_3_38 : decode cJ19_subtract_3 38 = .ok (.ldc2_w 130, 3) := dk_20 0 130 (dk_at dksJ19_subtract_3_1 14 rfl rfl)
theorem dJ19_subtract_3_41 : decode cJ19_subtract_3 41 = .ok (.land, 1) := dk_127 (dk_at dksJ19_subtract_3_1 17 rfl rfl)
theorem dJ19_subtract_3_42 : decode cJ19_subtract_3 42 = .ok (.lsub, 1) := dk_101 (dk_at dksJ19_subtract_3_1 18 rfl rfl)
theorem dJ19_subtract_3_43 : decode cJ19_subtract_3 43 = .ok (.lload 5, 2) := dk_22 5 (dk_at dksJ19_subtract_3_1 19 rfl rfl)
theorem dJ19_subtract_3_45 : decode cJ19_subtract_3 45 = .ok (.bipush 32, 2) := dk_16 32 (dk_at dksJ19_subtract_3_1 21 rfl rfl)
theorem dJ19_subtract_3_47 : decode cJ19_subtract_3 47 = .ok (.lshr, 1) := dk_123 (dk_at dksJ19_subtract_3_1 23 rfl rfl)
theorem dJ19_subtract_3_48 : decode cJ19_subtract_3 48 = .ok (.ladd, 1) := dk_97 (dk_at dksJ19_subtract_3_2 0 rfl rfl)
theorem dJ19_subtract_3_49 : decode cJ19_subtract_3 49 = .ok (.lstore 5, 2) := dk_55 5 (dk_at dksJ19_subtract_3_2 1 rfl rfl)
theorem dJ19_subtract_3_51 : decode cJ19_subtract_3 51 = .ok (.aload_n 3, 1) := dk_45 (dk_at dksJ19_subtract_3_2 3 rfl rfl)
theorem dJ19_subtract_3_52 : decode cJ19_subtract_3 52 = .ok (.iload_n 2, 1) := dk_28 (dk_at dksJ19_subtract_3_2 4 rfl rfl)
theorem dJ19_subtract_3_53 : decode cJ19_subtract_3 53 = .ok (.lload 5, 2) := dk_22 5 (dk_at dksJ19_subtract_3_2 5 rfl rfl)
theorem dJ19_subtract_3_55 : decode cJ19_subtract_3 55 = .ok (.l2i, 1) := dk_136 (dk_at dksJ19_subtract_3_2 7 rfl rfl)
theorem dJ19_subtract_3_56 : decode cJ19_subtract_3 56 = .ok (.iastore, 1) := dk_79 (dk_at dksJ19_subtract_3_2 8 rfl rfl)
theorem dJ19_subtract_3_57 : decode cJ19_subtract_3 57 = .ok (.goto (-43), 3) := dk_167 255 213 (dk_at dksJ19_subtract_3_2 9 rfl rfl)
theorem dJ19_subtract_3_60 : decode cJ19_subtract_3 60 = .ok (.lload 5, 2) := dk_22 5 (dk_at dksJ19_subtract_3_2 12 rfl rfl)
theorem dJ19_subtract_3_62 : decode cJ19_subtract_3 62 = .ok (.bipush 32, 2) := dk_16 32 (dk_at dksJ19_subtract_3_2 14 rfl rfl)
theorem dJ19_subtract_3_64 : decode cJ19_subtract_3 64 = .ok (.lshr, 1) := dk_123 (dk_at dksJ19_subtract_3_2 16 rfl rfl)
theorem dJ19_subtract_3_65 : decode cJ19_subtract_3 65 = .ok (.lconst 0, 1) := dk_9 (dk_at dksJ19_subtract_3_2 17 rfl rfl)
theorem dJ19_subtract_3_66 : decode cJ19_subtract_3 66 = .ok (.lcmp, 1) := dk_148 (dk_at dksJ19_subtract_3_2 18 rfl rfl)
theorem dJ19_subtract_3_67 : decode cJ19_subtract_3 67 = .ok (.ifCond .eq 7, 3) := dk_153 0 7 (dk_at dksJ19_subtract_3_2 19 rfl rfl)
theorem dJ19_subtract_3_70 : decode cJ19_subtract_3 70 = .ok (.iconst 1, 1) := dk_4 (dk_at dksJ19_subtract_3_2 22 rfl rfl)
theorem dJ19_subtract_3_71 : decode cJ19_subtract_3 71 = .ok (.goto 4, 3) := dk_167 0 4 (dk_at dksJ19_subtract_3_3 0 rfl rfl)
theorem dJ19_subtract_3_74 : decode cJ19_subtract_3 74 = .ok (.iconst 0, 1) := dk_3 (dk_at dksJ19_subtract_3_3 3 rfl rfl)
theorem dJ19_subtract_3_75 : decode cJ19_subtract_3 75 = .ok (.istore 7, 2) := dk_54 7 (dk_at dksJ19_subtract_3_3 4 rfl rfl)
theorem dJ19_subtract_3_77 : decode cJ19_subtract_3 77 = .ok (.iload_n 2, 1) := dk_28 (dk_at dksJ19_subtract_3_3 6 rfl rfl)
theorem dJ19_subtract_3_78 : decode cJ19_subtract_3 78 = .ok (.ifCond .le 34, 3) := dk_158 0 34 (dk_at dksJ19_subtract_3_3 7 rfl rfl)
theorem dJ19_subtract_3_81 : decode cJ19_subtract_3 81 = .ok (.iload 7, 2) := dk_21 7 (dk_at dksJ19_subtract_3_3 10 rfl rfl)
theorem dJ19_subtract_3_83 : decode cJ19_subtract_3 83 = .ok (.ifCond .eq 29, 3) := dk_153 0 29 (dk_at dksJ19_subtract_3_3 12 rfl rfl)
theorem dJ19_subtract_3_86 : decode cJ19_subtract_3 86 = .ok (.aload_n 3, 1) := dk_45 (dk_at dksJ19_subtract_3_3 15 rfl rfl)
theorem dJ19_subtract_3_87 : decode cJ19_subtract_3 87 = .ok (.iinc 2 (-1), 3) := dk_132 2 255 (dk_at dksJ19_subtract_3_3 16 rfl rfl)
theorem dJ19_subtract_3_90 : decode cJ19_subtract_3 90 = .ok (.iload_n 2, 1) := dk_28 (dk_at dksJ19_subtract_3_3 19 rfl rfl)
theorem dJ19_subtract_3_91 : decode cJ19_subtract_3 91 = .ok (.aload_n 0, 1) := dk_42 (dk_at dksJ19_subtract_3_3 20 rfl rfl)
theorem dJ19_subtract_3_92 : decode cJ19_subtract_3 92 = .ok (.iload_n 2, 1) := dk_28 (dk_at dksJ19_subtract_3_3 21 rfl rfl)
theorem dJ19_subtract_3_93 : decode cJ19_subtract_3 93 = .ok (.iaload, 1) := dk_46 (dk_at dksJ19_subtract_3_3 22 rfl rfl)
theorem dJ19_subtract_3_94 : decode cJ19_subtract_3 94 = .ok (.iconst 1, 1) := dk_4 (dk_at dksJ19_subtract_3_3 23 rfl rfl)
theorem dJ19_subtract_3_95 : decode cJ19_subtract_3 95 = .ok (.isub, 1) := dk_100 (dk_at dksJ19_subtract_3_4 0 rfl rfl)
theorem dJ19_subtract_3_96 : decode cJ19_subtract_3 96 = .ok (.dup_x2, 1) := dk_91 (dk_at dksJ19_subtract_3_4 1 rfl rfl)
theorem dJ19_subtract_3_97 : decode cJ19_subtract_3 97 = .ok (.iastore, 1) := dk_79 (dk_at dksJ19_subtract_3_4 2 rfl rfl)
theorem dJ19_subtract_3_98 : decode cJ19_subtract_3 98 = .ok (.iconst (-1), 1) := dk_2 (dk_at dksJ19_subtract_3_4 3 rfl rfl)
theorem dJ19_subtract_3_99 : decode cJ19_subtract_3 99 = .ok (.if_icmp .ne 7, 3) := dk_160 0 7 (dk_at dksJ19_subtract_3_4 4 rfl rfl)
theorem dJ19_subtract_3_102 : decode cJ19_subtract_3 102 = .ok (.iconst 1, 1) := dk_4 (dk_at dksJ19_subtract_3_4 7 rfl rfl)
theorem dJ19_subtract_3_103 : decode cJ19_subtract_3 103 = .ok (.goto 4, 3) := dk_167 0 4 (dk_at dksJ19_subtract_3_4 8 rfl rfl)
theorem dJ19_subtract_3_106 : decode cJ19_subtract_3 106 = .ok (.iconst 0, 1) := dk_3 (dk_at dksJ19_subtract_3_4 11 rfl rfl)
theorem dJ19_subtract_3_107 : decode cJ19_subtract_3 107 = .ok (.istore 7, 2) := dk_54 7 (dk_at dksJ19_subtract_3_4 12 rfl rfl)
theorem dJ19_subtract_3_109 : decode cJ19_subtract_3 109 = .ok (.goto (-32), 3) := dk_167 255 224 (dk_at dksJ19_subtract_3_4 14 rfl rfl)
theorem dJ19_subtract_3_112 : decode cJ19_subtract_3 112 = .ok (.iload_n 2, 1) := dk_28 (dk_at dksJ19_subtract_3_4 17 rfl rfl)
theorem dJ19_subtract_3_113 : decode cJ19_subtract_3 113 = .ok (.ifCond .le 15, 3) := dk_158 0 15 (dk_at dksJ19_subtract_3_4 18 rfl rfl)
theorem dJ19_subtract_3_116 : decode cJ19_subtract_3 116 = .ok (.aload_n 3, 1) := dk_45 (dk_at dksJ19_subtract_3_4 21 rfl rfl)
theorem dJ19_subtract_3_117 : decode cJ19_subtract_3 117 = .ok (.iinc 2 (-1), 3) := dk_132 2 255 (dk_at dksJ19_subtract_3_5 0 rfl rfl)
theorem dJ19_subtract_3_120 : decode cJ19_subtract_3 120 = .ok (.iload_n 2, 1) := dk_28 (dk_at dksJ19_subtract_3_5 3 rfl rfl)
theorem dJ19_subtract_3_121 : decode cJ19_subtract_3 121 = .ok (.aload_n 0, 1) := dk_42 (dk_at dksJ19_subtract_3_5 4 rfl rfl)
theorem dJ19_subtract_3_122 : decode cJ19_subtract_3 122 = .ok (.iload_n 2, 1) := dk_28 (dk_at dksJ19_subtract_3_5 5 rfl rfl)
theorem dJ19_subtract_3_123 : decode cJ19_subtract_3 123 = .ok (.iaload, 1) := dk_46 (dk_at dksJ19_subtract_3_5 6 rfl rfl)
theorem dJ19_subtract_3_124 : decode cJ19_subtract_3 124 = .ok (.iastore, 1) := dk_79 (dk_at dksJ19_subtract_3_5 7 rfl rfl)
theorem dJ19_subtract_3_125 : decode cJ19_subtract_3 125 = .ok (.goto (-13), 3) := dk_167 255 243 (dk_at dksJ19_subtract_3_5 8 rfl rfl)
theorem dJ19_subtract_3_128 : decode cJ19_subtract_3 128 = .ok (.aload_n 3, 1) := dk_45 (dk_at dksJ19_subtract_3_5 11 rfl rfl)
theorem dJ19_subtract_3_129 : decode cJ19_subtract_3 129 = .ok (.areturn, 1) := dk_176 (dk_at dksJ19_subtract_3_5 12 rfl rfl)
theorem lay_key {w b2 t B : Nat} : w * t + b2 * (t * B) = (w + b2 * B) * t := by rw [Nat.add_mul, Nat.mul_comm t B, ← Nat.mul_assoc]
theorem add_step {f h r : Nat → Nat} {n k m p p2 i j : Nat} (hr : sm r n m + p / 4294967296 * bw m = sm f n m + sm h k m) (hi : i = n - 1 - m) (hj : j = k - 1 - m) (hp : p2 = f i + h j + p / 4294967296) (hm : m < n) : sm (va_up r i (p2 % 4294967296)) n (m + 1) + p2 / 4294967296 * bw (m + 1) = sm f n (m + 1) + sm h k (m + 1) := by
  rw [sm_lay hm hi, sm_s f, sm_s h, ← hi, ← hj, bw_s]
  have e := lay_key (w := p2 % 4294967296) (b2 := p2 / 4294967296) (t := bw m) (B := 4294967296)
  rw [show p2 % 4294967296 + p2 / 4294967296 * 4294967296 = f i + h j + p / 4294967296 by omega, Nat.add_mul, Nat.add_mul] at e
  omega
theorem inc_step {f r : Nat → Nat} {n m i c c2 Y : Nat} (hr : sm r n m + c * bw m = sm f n m + Y) (hc : c = 1) (hi : i = n - 1 - m) (hm : m < n) (h2 : c2 = (f i + 1) / 4294967296) : sm (va_up r i ((f i + 1) % 4294967296)) n (m + 1) + c2 * bw (m + 1) = sm f n (m + 1) + Y := by
  rw [sm_lay hm hi, sm_s f, ← hi, bw_s]
  have e := lay_key (w := (f i + 1) % 4294967296) (b2 := c2) (t := bw m) (B := 4294967296)
  rw [show (f i + 1) % 4294967296 + c2 * 4294967296 = f i + 1 by omega, Nat.add_mul] at e
  subst hc
  omega
theorem cpy_step {f r : Nat → Nat} {n m i c Y : Nat} (hr : sm r n m + c * bw m = sm f n m + Y) (hc : c = 0) (hi : i = n - 1 - m) (hm : m < n) : sm (va_up r i (f i)) n (m + 1) + c * bw (m + 1) = sm f n (m + 1) + Y := by
  rw [sm_lay hm hi, sm_s f, ← hi]
  subst hc
  omega
theorem sub_step {f h r : Nat → Nat} {n k m b b2 i j : Nat} {p2 : Int} (hr : sm r n m + sm h k m = sm f n m + b * bw m) (hi : i = n - 1 - m) (hj : j = k - 1 - m) (hp : p2 = (f i : Int) - h j - b) (hb : p2 / 4294967296 = -(b2 : Int)) (hm : m < n) : sm (va_up r i (p2 % 4294967296).toNat) n (m + 1) + sm h k (m + 1) = sm f n (m + 1) + b2 * bw (m + 1) := by
  rw [sm_lay hm hi, sm_s f, sm_s h, ← hi, ← hj, bw_s]
  have e : ((p2 % 4294967296).toNat + h j + b) * bw m = (f i + b2 * 4294967296) * bw m := by rw [show (p2 % 4294967296).toNat + h j + b = f i + b2 * 4294967296 by omega]
  rw [Nat.add_mul, Nat.add_mul, Nat.add_mul, Nat.mul_assoc b2, Nat.mul_comm 4294967296] at e
  omega
theorem dec_step {f r : Nat → Nat} {n m i b b2 Y : Nat} (hr : sm r n m + Y = sm f n m + b * bw m) (hb : b = 1) (hi : i = n - 1 - m) (hm : m < n) (hf : f i < 4294967296) (h2 : b2 = if f i = 0 then 1 else 0) : sm (va_up r i ((f i + 4294967295) % 4294967296)) n (m + 1) + Y = sm f n (m + 1) + b2 * bw (m + 1) := by
  rw [sm_lay hm hi, sm_s f, ← hi, bw_s]
  have e : ((f i + 4294967295) % 4294967296 + 1) * bw m = (f i + b2 * 4294967296) * bw m := by
    rw [show (f i + 4294967295) % 4294967296 + 1 = f i + b2 * 4294967296 by split at h2 <;> omega]
  rw [Nat.add_mul, Nat.add_mul, Nat.mul_assoc b2, Nat.mul_comm 4294967296] at e
  subst hb
  omega
theorem cpz_step {f r : Nat → Nat} {n m i b Y : Nat} (hr : sm r n m + Y = sm f n m + b * bw m) (hb : b = 0) (hi : i = n - 1 - m) (hm : m < n) : sm (va_up r i (f i)) n (m + 1) + Y = sm f n (m + 1) + b * bw (m + 1) := by
  rw [sm_lay hm hi, sm_s f, ← hi]
  subst hb
  omega
/-- a carry laid ahead of the words -/
theorem wv_carry {f : Nat → Nat} {n : Nat} : wv (va_up (va_cpy f (fun _ => 0) 0 1 n) 0 1) (n + 1) = bw n + wv f n := by
  have e := wv_app (va_up (va_cpy f (fun _ => 0) 0 1 n) 0 1) 1 n
  rw [show 1 + n = n + 1 by omega] at e
  rw [e, wv_s, vu_eq rfl]
  have e2 : wv (fun j => va_up (va_cpy f (fun _ => 0) 0 1 n) 0 1 (1 + j)) n = wv f n := wv_cong fun j hj => by
    rw [vu_ne (by omega)]; unfold va_cpy; rw [if_pos (by omega)]; congr 1; omega
  rw [e2]
  show (0 * 4294967296 + 1) * bw n + wv f n = _
  omega
theorem carry_ok {f : Nat → Nat} {n : Nat} (hf : ∀ k, k < n → f k < 4294967296) : wOK (n + 1) (va_up (va_cpy f (fun _ => 0) 0 1 n) 0 1) := by
  refine ⟨fun k hk => ?_, fun _ => by rw [vu_eq rfl]; decide⟩
  rcases Nat.eq_zero_or_pos k with c | c
  · rw [vu_eq c]; decide
  · rw [vu_ne (by omega)]; unfold va_cpy; rw [if_pos (by omega)]; exact hf _ (by omega)
theorem nocarry_ok {f r : Nat → Nat} {n Y : Nat} (hf : wOK n f) (hr : ∀ k, k < n → r k < 4294967296) (h : wv r n = wv f n + Y) : wOK n r := wOK_of hr fun hn => by have := wOK_ge hf hn; omega
theorem borrow_0 {r : Nat → Nat} {n X Y b : Nat} (hr : ∀ k, k < n → r k < 4294967296) (h : sm r n n + Y = X + b * bw n) (hb : b ≤ 1) (hl : Y ≤ X) : wv r n = X - Y := by
  have h1 := wv_lt hr
  rw [← wv_sm] at h
  rcases (show b = 0 ∨ b = 1 by omega) with e | e <;> subst e <;> omega
theorem nd_J19_add_4 : yJ19_add_4.cls ≠ "java/lang/invoke/MethodHandle" ∧ yJ19_add_4.cls ≠ "java/lang/invoke/VarHandle" ∧ (parseMethodDescriptor yJ19_add_4.desc).map (fun d => d.parameters.length) = some 2 := by decide +kernel
set_option maxRecDepth 100000 in
set_option maxHeartbeats 16000000 in
theorem ct_J19_add_4 {g : GG} {l : Launch} (M : Nat → Option PV) (a : Nat) (n : Nat) (f : Nat → Nat) (b : Nat) (k : Nat) (h : Nat → Nat) (ha : at_ g M a (vA n f)) (hbb : at_ g M b (vA k h)) (hwa : wOK n f) (hwb : wOK k h) (hn : 0 < n ∧ n ≤ 6) (hk : 0 < k ∧ k ≤ 6) : Ct g l yJ19_add_4 (ws_ yJ19_add_4 cJ19_add_4 9 (Option.some (Jvm.ClassFile.FieldType.array Jvm.ClassFile.FieldType.int))) 1 30 2 13 [.ref a, .ref b] [pl g M] (fun v9 Ws9 => ∃ r1 : Nat, ∃ n1 : Nat, ∃ f1 : Nat → Nat, v9 = some (.ref r1) ∧ (n1 ≤ 7) ∧ (wOK n1 f1) ∧ (wv f1 n1 = wv f n + wv h k) ∧ Ws9 = [aN g 0 r1 n1 f1, pl g M]) (nox) := by
  refine Ct.of (cc := cJ19_add_4) (nL := 9) (ret := (Option.some (Jvm.ClassFile.FieldType.array Jvm.ClassFile.FieldType.int))) (by decide) rfl (Nat.le_of_ble_eq_true rfl) ?_
  intro x hg hl hPo hPx hmc hms F
  subst hg; subst hl
  refine SW.cast (L' := [(0, .ref a), (1, .ref b)]) ?_ rfl rfl rfl
  refine sw_aload_n (n := 1) F 0 (some a) rfl rfl rfl dJ19_add_4_0 rfl ?_
  refine sw_alenK (n := 2) F (plA F 0 rfl ha) dJ19_add_4_1 rfl ?_
  show SW x _ _ _ _ _ [.int (jI (↑n))]
  refine sw_aload_n (n := 3) F 1 (some b) rfl rfl rfl dJ19_add_4_2 rfl ?_
  refine sw_alenK (n := 4) F (plA F 0 rfl hbb) dJ19_add_4_3 rfl ?_
  show SW x _ _ _ _ _ [.int (jI (↑k)), .int (jI (↑n))]
  refine sw_icmp_ge (n := 7) F (by omega) (by omega) (tgt := 13) dJ19_add_4_4 (by decide) rfl (fun c_4 => ?_) (fun c_4 => ?_)
  ·
    have K13 : ∀ (a1 : Nat) (b1 : Nat) (N : Nat) (xf : Nat → Nat) (K : Nat) (yf : Nat → Nat), (at_ (xg x) M a1 (vA N xf)) → (at_ (xg x) M b1 (vA K yf)) → (wOK N xf) → (wOK K yf) → (K ≤ N ∧ 0 < K ∧ N ≤ 6) → (wv xf N + wv yf K = wv f n + wv h k) → SW x [pl (xg x) M] 2 13 13 [(0, .ref a1), (1, .ref b1)] [] := by
      intro a1 b1 N xf K yf hax hay hwX hwY hN6 hsum
      refine sw_aload_n (n := 14) F 0 (some a1) rfl rfl rfl dJ19_add_4_13 rfl ?_
      refine sw_alenK (n := 15) F (plA F 0 rfl hax) dJ19_add_4_14 rfl ?_
      show SW x _ _ _ _ _ [.int (jI (↑N))]
      refine sw_istore_n (n := 16) F (L2 := [(2, .int (jI (↑N))), (0, .ref a1), (1, .ref b1)]) rfl (by decide) rfl dJ19_add_4_15 rfl ?_
      refine sw_aload_n (n := 17) F 2 (some b1) rfl rfl rfl dJ19_add_4_16 rfl ?_
      refine sw_alenK (n := 18) F (plA F 0 rfl hay) dJ19_add_4_17 rfl ?_
      show SW x _ _ _ _ _ [.int (jI (↑K))]
      refine sw_istore_n (n := 19) F (L2 := [(3, .int (jI (↑K))), (2, .int (jI (↑N))), (0, .ref a1), (1, .ref b1)]) rfl (by decide) rfl dJ19_add_4_18 rfl ?_
      refine sw_iload_n (n := 20) F 1 rfl rfl dJ19_add_4_19 rfl ?_
      refine sw_newaN (n := 22) F (N) (by first | omega | rfl) (by omega) 1 7 ⟨by omega, by omega⟩ dJ19_add_4_20 rfl (fun q_1 => ?_)
      refine sw_astore (n := 24) F (some q_1) (L2 := [(4, .ref q_1), (3, .int (jI (↑K))), (2, .int (jI (↑N))), (0, .ref a1), (1, .ref b1)]) rfl rfl (by decide) dJ19_add_4_22 rfl ?_
      refine sw_lconst (n := 25) F 0 (by decide) dJ19_add_4_24 rfl ?_
      refine sw_lstore (n := 27) F (L2 := [(5, .long (jL 0)), (4, .ref q_1), (3, .int (jI (↑K))), (2, .int (jI (↑N))), (0, .ref a1), (1, .ref b1)]) rfl (by decide) dJ19_add_4_25 rfl ?_
      have K161 : ∀ N161 : Nat, ∀ (m : Nat) (rf : Nat → Nat) (c : Nat), (m ≤ N) → (c ≤ 1) → (∀ k, k < N → rf k < 4294967296) → (sm rf N m + c * bw m = sm xf N m + (wv yf K)) → (c = 0 ∨ m = N) → ((N - m) < N161) → SW x [aN (xg x) 0 q_1 N rf, pl (xg x) M] 1 7 161 [(0, .ref a1), (2, .int (jI (↑N - ↑m))), (4, .ref q_1), (7, .int (jI (↑c)))] [] := by
        intro N161; induction N161 with
        | zero => intro m rf c hm hc hrf hri hz hmu161; omega
        | succ N161 ih161 =>
          intro m rf c hm hc hrf hri hz hmu161
          refine sw_iload_n (n := 162) F 1 rfl rfl dJ19_add_4_161 rfl ?_
          refine sw_if_le (n := 165) F (by omega) (tgt := 178) dJ19_add_4_162 (by decide) rfl (fun c_162 => ?_) (fun c_162 => ?_)
          ·
            refine sw_iload (n := 180) F 3 rfl dJ19_add_4_178 rfl ?_
            refine sw_if_eq (n := 183) F (by omega) (tgt := 212) dJ19_add_4_180 (by decide) rfl (fun c_180 => ?_) (fun c_180 => ?_)
            ·
              refine sw_aload (n := 214) F 2 (some q_1) rfl rfl dJ19_add_4_212 rfl ?_
              exact sw_aret F (some q_1) _ rfl rfl (by first | exact Or.inl ⟨_, rfl⟩ | exact Or.inr ⟨_, rfl⟩) dJ19_add_4_214 (by rw [hPo]; exact ⟨q_1, N, rf, rfl, (by first | omega | assumption), (by first | exact carry_ok hrf | exact nocarry_ok hwX hrf (Y := wv yf K) (by have e := hri; rw [show m = N by omega, show c = 0 by omega, ← wv_sm, ← wv_sm] at e; omega)), (by rw [← hsum]; have e := hri; rw [show m = N by omega, show c = 0 by omega, ← wv_sm, ← wv_sm] at e; omega), rfl⟩)
            ·
              refine sw_aload (n := 185) F 2 (some q_1) rfl rfl dJ19_add_4_183 rfl ?_
              refine sw_alen (n := 186) F 0 rfl (fun _ => rfl) dJ19_add_4_185 rfl ?_
              refine sw_iconst (n := 187) F (1) (by decide) dJ19_add_4_186 rfl ?_
              refine sw_iadd (n := 188) F dJ19_add_4_187 rfl ?_
              refine sw_newaN (n := 190) F (N + 1) (by first | omega | rfl) (by omega) 0 0 ⟨by omega, by omega⟩ dJ19_add_4_188 rfl (fun q_2 => ?_)
              refine sw_astore (n := 192) F (some q_2) (L2 := [(8, .ref q_2), (0, .ref a1), (2, .int (jI (↑N - ↑m))), (4, .ref q_1), (7, .int (jI (↑c)))]) rfl rfl (by decide) dJ19_add_4_190 rfl ?_
              refine sw_aload (n := 194) F 3 (some q_1) rfl rfl dJ19_add_4_192 rfl ?_
              refine sw_iconst (n := 195) F (0) (by decide) dJ19_add_4_194 rfl ?_
              refine sw_aload (n := 197) F 0 (some q_2) rfl rfl dJ19_add_4_195 rfl ?_
              refine sw_iconst (n := 198) F (1) (by decide) dJ19_add_4_197 rfl ?_
              refine sw_aload (n := 200) F 3 (some q_1) rfl rfl dJ19_add_4_198 rfl ?_
              refine sw_alen (n := 201) F 1 rfl (fun _ => rfl) dJ19_add_4_200 rfl ?_
              refine sw_copyN (n := 204) F 0 (hA_ar (t0 := 0) (ty := .int) (f := fun j => .int (jI (rf j : Nat))) F (i := 1) rfl (fun _ => rfl)) rfl 0 1 N (by first | rfl | omega) (by first | rfl | omega) (by first | rfl | omega) (by omega) (by omega) (by omega) q1107 q530 q529 q133 (by decide) [aN (xg x) 0 q_2 (N + 1) (va_cpy rf (fun _ => 0) 0 1 N), aN (xg x) 0 q_1 N rf, pl (xg x) M] rfl dJ19_add_4_201 rfl ?_
              refine sw_aload (n := 206) F 0 (some q_2) rfl rfl dJ19_add_4_204 rfl ?_
              refine sw_iconst (n := 207) F (0) (by decide) dJ19_add_4_206 rfl ?_
              refine sw_iconst (n := 208) F (1) (by decide) dJ19_add_4_207 rfl ?_
              refine sw_iastoreW (n := 209) F 0 rfl (fun _ => rfl) 0 rfl (by omega) 1 (by first | omega | rfl) [aN (xg x) 0 q_2 (N + 1) (va_up (va_cpy rf (fun _ => 0) 0 1 N) 0 1), aN (xg x) 0 q_1 N rf, pl (xg x) M] (by rfl) dJ19_add_4_208 rfl ?_
              refine sw_aload (n := 211) F 0 (some q_2) rfl rfl dJ19_add_4_209 rfl ?_
              refine sw_drop [0, 2, 1] 2 rfl [aN (xg x) 0 q_2 (N + 1) (va_up (va_cpy rf (fun _ => 0) 0 1 N) 0 1), pl (xg x) M] rfl ?_
              exact sw_aret F (some q_2) _ rfl rfl (by first | exact Or.inl ⟨_, rfl⟩ | exact Or.inr ⟨_, rfl⟩) dJ19_add_4_211 (by rw [hPo]; exact ⟨q_2, N + 1, va_up (va_cpy rf (fun _ => 0) 0 1 N) 0 1, rfl, (by first | omega | assumption), (by first | exact carry_ok hrf | exact nocarry_ok hwX hrf (Y := wv yf K) (by have e := hri; rw [show m = N by omega, show c = 0 by omega, ← wv_sm, ← wv_sm] at e; omega)), (by rw [wv_carry, ← hsum]; have e := hri; rw [show m = N by omega, show c = 1 by omega, ← wv_sm, ← wv_sm] at e; omega), rfl⟩)
          ·
            refine sw_aload (n := 167) F 2 (some q_1) rfl rfl dJ19_add_4_165 rfl ?_
            refine sw_iinc (n := 170) F 1 (L2 := [(2, .int (jI (↑N - ↑m + (-1)))), (0, .ref a1), (4, .ref q_1), (7, .int (jI (↑c)))]) rfl rfl (by decide) dJ19_add_4_167 rfl ?_
            refine sw_iload_n (n := 171) F 0 rfl rfl dJ19_add_4_170 rfl ?_
            refine sw_aload_n (n := 172) F 1 (some a1) rfl rfl rfl dJ19_add_4_171 rfl ?_
            refine sw_iload_n (n := 173) F 0 rfl rfl dJ19_add_4_172 rfl ?_
            refine sw_ialoadK (n := 174) F (plA F 1 rfl hax) (N - m - 1) (by omega) (by omega) dJ19_add_4_173 rfl ?_
            show SW x _ _ _ _ _ [.int (jI (↑(xf (N - m - 1)))), .int (jI (↑N - ↑m + (-1))), .ref q_1]
            refine sw_iastoreW (n := 175) F 0 rfl (fun _ => rfl) (N - m - 1) (by omega) (by omega) (xf (N - m - 1)) (by first | omega | rfl) [aN (xg x) 0 q_1 N (va_up rf (N - m - 1) (xf (N - m - 1))), pl (xg x) M] (by rfl) dJ19_add_4_174 rfl ?_
            refine sw_goto F (n := 161) dJ19_add_4_175 (by decide) ?_
            refine sw_loc [1, 0, 2, 3] (L2 := [(0, .ref a1), (2, .int (jI (↑N - ↑m + (-1)))), (4, .ref q_1), (7, .int (jI (↑c)))]) rfl ?_
            rw [show (↑N - ↑m + (-1) : Int) = ↑N - ↑(m + 1) by omega]
            exact ih161 (m + 1) (va_up rf (N - m - 1) (xf (N - m - 1))) c (by first | omega | assumption) hc (by exact up_lt hrf (hwX.1 _ (by omega))) (by exact cpy_step hri (by omega) (by omega) (by omega)) (by first | omega | assumption) (by omega)
      have K126 : ∀ N126 : Nat, ∀ (m : Nat) (rf : Nat → Nat) (c : Nat), (m ≤ N) → (c ≤ 1) → (∀ k, k < N → rf k < 4294967296) → (sm rf N m + c * bw m = sm xf N m + (wv yf K)) → ((N - m) < N126) → SW x [aN (xg x) 0 q_1 N rf, pl (xg x) M] 1 7 126 [(0, .ref a1), (2, .int (jI (↑N - ↑m))), (4, .ref q_1), (7, .int (jI (↑c)))] [] := by
        intro N126; induction N126 with
        | zero => intro m rf c hm hc hrf hri hmu126; omega
        | succ N126 ih126 =>
          intro m rf c hm hc hrf hri hmu126
          refine sw_iload_n (n := 127) F 1 rfl rfl dJ19_add_4_126 rfl ?_
          refine sw_if_le (n := 130) F (by omega) (tgt := 161) dJ19_add_4_127 (by decide) rfl (fun c_127 => ?_) (fun c_127 => ?_)
          ·
            exact K161 _ m rf c hm hc (by first | assumption | (intro _ _; decide)) hri (by first | omega | assumption) (Nat.lt_succ_self _)
          ·
            refine sw_iload (n := 132) F 3 rfl dJ19_add_4_130 rfl ?_
            refine sw_if_eq (n := 135) F (by omega) (tgt := 161) dJ19_add_4_132 (by decide) rfl (fun c_132 => ?_) (fun c_132 => ?_)
            ·
              exact K161 _ m rf c hm hc (by first | assumption | (intro _ _; decide)) hri (by first | omega | assumption) (Nat.lt_succ_self _)
            ·
              refine sw_aload (n := 137) F 2 (some q_1) rfl rfl dJ19_add_4_135 rfl ?_
              refine sw_iinc (n := 140) F 1 (L2 := [(2, .int (jI (↑N - ↑m + (-1)))), (0, .ref a1), (4, .ref q_1), (7, .int (jI (↑c)))]) rfl rfl (by decide) dJ19_add_4_137 rfl ?_
              refine sw_iload_n (n := 141) F 0 rfl rfl dJ19_add_4_140 rfl ?_
              refine sw_aload_n (n := 142) F 1 (some a1) rfl rfl rfl dJ19_add_4_141 rfl ?_
              refine sw_iload_n (n := 143) F 0 rfl rfl dJ19_add_4_142 rfl ?_
              refine sw_ialoadK (n := 144) F (plA F 1 rfl hax) (N - m - 1) (by omega) (by omega) dJ19_add_4_143 rfl ?_
              show SW x _ _ _ _ _ [.int (jI (↑(xf (N - m - 1)))), .int (jI (↑N - ↑m + (-1))), .ref q_1]
              refine sw_iconst (n := 145) F (1) (by decide) dJ19_add_4_144 rfl ?_
              refine sw_iadd (n := 146) F dJ19_add_4_145 rfl ?_
              have hb_x : xf (N - m - 1) < 4294967296 := hwX.1 _ (by omega)
              refine sw_top (topIm (show ((↑(xf (N - m - 1))) + 1 : Int) % 4294967296 = (↑((xf (N - m - 1) + 1) % 4294967296)) % 4294967296 by omega)) ?_
              refine sw_dup_x2 (n := 147) F rfl rfl rfl dJ19_add_4_146 rfl ?_
              refine sw_iastoreW (n := 148) F 0 rfl (fun _ => rfl) (N - m - 1) (by omega) (by omega) ((xf (N - m - 1) + 1) % 4294967296) (by first | omega | rfl) [aN (xg x) 0 q_1 N (va_up rf (N - m - 1) ((xf (N - m - 1) + 1) % 4294967296)), pl (xg x) M] (by rfl) dJ19_add_4_147 rfl ?_
              refine sw_if_neU (n := 151) F (by omega) (tgt := 155) dJ19_add_4_148 (by decide) rfl (fun c_148 => ?_) (fun c_148 => ?_)
              ·
                refine sw_iconst (n := 156) F (0) (by decide) dJ19_add_4_155 rfl ?_
                refine sw_istore (n := 158) F (L2 := [(7, .int (jI 0)), (2, .int (jI (↑N - ↑m + (-1)))), (0, .ref a1), (4, .ref q_1)]) rfl (by decide) dJ19_add_4_156 rfl ?_
                refine sw_goto F (n := 126) dJ19_add_4_158 (by decide) ?_
                refine sw_loc [2, 1, 3, 0] (L2 := [(0, .ref a1), (2, .int (jI (↑N - ↑m + (-1)))), (4, .ref q_1), (7, .int (jI 0))]) rfl ?_
                rw [show (↑N - ↑m + (-1) : Int) = ↑N - ↑(m + 1) by omega]
                exact ih126 (m + 1) (va_up rf (N - m - 1) ((xf (N - m - 1) + 1) % 4294967296)) 0 (by first | omega | assumption) (by first | omega | assumption) (by exact up_lt hrf (by omega)) (by exact inc_step hri (by omega) (by omega) (by omega) (by omega)) (by omega)
              ·
                refine sw_iconst (n := 152) F (1) (by decide) dJ19_add_4_151 rfl ?_
                refine sw_goto F (n := 156) dJ19_add_4_152 (by decide) ?_
                refine sw_istore (n := 158) F (L2 := [(7, .int (jI 1)), (2, .int (jI (↑N - ↑m + (-1)))), (0, .ref a1), (4, .ref q_1)]) rfl (by decide) dJ19_add_4_156 rfl ?_
                refine sw_goto F (n := 126) dJ19_add_4_158 (by decide) ?_
                refine sw_loc [2, 1, 3, 0] (L2 := [(0, .ref a1), (2, .int (jI (↑N - ↑m + (-1)))), (4, .ref q_1), (7, .int (jI 1))]) rfl ?_
                rw [show (↑N - ↑m + (-1) : Int) = ↑N - ↑(m + 1) by omega]
                exact ih126 (m + 1) (va_up rf (N - m - 1) ((xf (N - m - 1) + 1) % 4294967296)) 1 (by first | omega | assumption) (by first | omega | assumption) (by exact up_lt hrf (by omega)) (by exact inc_step hri (by omega) (by omega) (by omega) (by omega)) (by omega)
      have K109 : ∀ (m : Nat) (rf : Nat → Nat) (p : Nat), (m ≤ N) → (p < 8589934592) → (∀ k, k < N → rf k < 4294967296) → (sm rf N m + p / 4294967296 * bw m = sm xf N m + wv yf K) → SW x [aN (xg x) 0 q_1 N rf, pl (xg x) M] 1 7 109 [(0, .ref a1), (2, .int (jI (↑N - ↑m))), (4, .ref q_1), (5, .long (jL (↑p)))] [] := by
        intro m rf p hm hp hrf hri
        refine sw_lload (n := 111) F 3 rfl dJ19_add_4_109 rfl ?_
        refine sw_bipush (n := 113) F (32) (by decide) dJ19_add_4_111 rfl ?_
        refine sw_lushr (n := 114) F _ (jL_ushr32 _) dJ19_add_4_113 rfl ?_
        refine sw_lconst (n := 115) F 0 (by decide) dJ19_add_4_114 rfl ?_
        refine sw_lcmp (n := 116) F (by omega) (by decide) dJ19_add_4_115 rfl ?_
        refine sw_if_eq (n := 119) F (by omega) (tgt := 123) dJ19_add_4_116 (by decide) rfl (fun c_116 => ?_) (fun c_116 => ?_)
        ·
          have c_116 : (↑p) % 18446744073709551616 / 4294967296 = 0 := by revert c_116; (repeat' split) <;> omega
          refine sw_iconst (n := 124) F (0) (by decide) dJ19_add_4_123 rfl ?_
          refine sw_istore (n := 126) F (L2 := [(7, .int (jI 0)), (0, .ref a1), (2, .int (jI (↑N - ↑m))), (4, .ref q_1), (5, .long (jL (↑p)))]) rfl (by decide) dJ19_add_4_124 rfl ?_
          refine sw_loc [1, 2, 3, 0] (L2 := [(0, .ref a1), (2, .int (jI (↑N - ↑m))), (4, .ref q_1), (7, .int (jI 0))]) rfl ?_
          exact K126 _ m rf 0 hm (by first | omega | assumption) (by first | assumption | (intro _ _; decide)) (by first | (rw [show p / 4294967296 = 1 by omega] at hri; exact hri) | (rw [show p / 4294967296 = 0 by omega] at hri; exact hri)) (Nat.lt_succ_self _)
        ·
          have c_116 : (↑p) % 18446744073709551616 / 4294967296 ≠ 0 := by revert c_116; (repeat' split) <;> omega
          refine sw_iconst (n := 120) F (1) (by decide) dJ19_add_4_119 rfl ?_
          refine sw_goto F (n := 124) dJ19_add_4_120 (by decide) ?_
          refine sw_istore (n := 126) F (L2 := [(7, .int (jI 1)), (0, .ref a1), (2, .int (jI (↑N - ↑m))), (4, .ref q_1), (5, .long (jL (↑p)))]) rfl (by decide) dJ19_add_4_124 rfl ?_
          refine sw_loc [1, 2, 3, 0] (L2 := [(0, .ref a1), (2, .int (jI (↑N - ↑m))), (4, .ref q_1), (7, .int (jI 1))]) rfl ?_
          exact K126 _ m rf 1 hm (by first | omega | assumption) (by first | assumption | (intro _ _; decide)) (by first | (rw [show p / 4294967296 = 1 by omega] at hri; exact hri) | (rw [show p / 4294967296 = 0 by omega] at hri; exact hri)) (Nat.lt_succ_self _)
      refine sw_iload_n (n := 28) F 2 rfl rfl dJ19_add_4_27 rfl ?_
      refine sw_iconst (n := 29) F (1) (by decide) dJ19_add_4_28 rfl ?_
      refine sw_icmp_ne (n := 32) F (by omega) (by decide) (tgt := 64) dJ19_add_4_29 (by decide) rfl (fun c_29 => ?_) (fun c_29 => ?_)
      ·
        have K64 : ∀ N64 : Nat, ∀ (m : Nat) (rf : Nat → Nat) (p : Nat), (m ≤ K) → (p < 8589934592) → (∀ k, k < N → rf k < 4294967296) → (sm rf N m + p / 4294967296 * bw m = sm xf N m + sm yf K m) → ((K - m) < N64) → SW x [aN (xg x) 0 q_1 N rf, pl (xg x) M] 1 7 64 [(0, .ref a1), (1, .ref b1), (2, .int (jI (↑N - ↑m))), (3, .int (jI (↑K - ↑m))), (4, .ref q_1), (5, .long (jL (↑p)))] [] := by
          intro N64; induction N64 with
          | zero => intro m rf p hm hp hrf hri hmu64; omega
          | succ N64 ih64 =>
            intro m rf p hm hp hrf hri hmu64
            refine sw_iload_n (n := 65) F 3 rfl rfl dJ19_add_4_64 rfl ?_
            refine sw_if_le (n := 68) F (by omega) (tgt := 109) dJ19_add_4_65 (by decide) rfl (fun c_65 => ?_) (fun c_65 => ?_)
            ·
              refine sw_loc [0, 2, 4, 5] (L2 := [(0, .ref a1), (2, .int (jI (↑N - ↑m))), (4, .ref q_1), (5, .long (jL (↑p)))]) rfl ?_
              exact K109 m rf p (by first | omega | assumption) hp (by first | assumption | (intro _ _; decide)) (by rw [show wv yf K = sm yf K m by rw [wv_sm, show m = K by omega]]; exact hri)
            ·
              refine sw_aload_n (n := 69) F 0 (some a1) rfl rfl rfl dJ19_add_4_68 rfl ?_
              refine sw_iinc (n := 72) F 2 (L2 := [(2, .int (jI (↑N - ↑m + (-1)))), (0, .ref a1), (1, .ref b1), (3, .int (jI (↑K - ↑m))), (4, .ref q_1), (5, .long (jL (↑p)))]) rfl rfl (by decide) dJ19_add_4_69 rfl ?_
              refine sw_iload_n (n := 73) F 0 rfl rfl dJ19_add_4_72 rfl ?_
              refine sw_ialoadK (n := 74) F (plA F 1 rfl hax) (N - m - 1) (by omega) (by omega) dJ19_add_4_73 rfl ?_
              show SW x _ _ _ _ _ [.int (jI (↑(xf (N - m - 1))))]
              have hb_3 : xf (N - m - 1) < 4294967296 := hwX.1 _ (by omega)
              refine sw_i2lr (n := 75) F dJ19_add_4_74 rfl ?_
              refine sw_ldc2 (n := 78) F (4294967295) q1106 (by decide) dJ19_add_4_75 rfl ?_
              refine sw_land (n := 79) F (jL (↑(xf (N - m - 1)))) (jI_wordE (by omega)) dJ19_add_4_78 rfl ?_
              refine sw_aload_n (n := 80) F 2 (some b1) rfl rfl rfl dJ19_add_4_79 rfl ?_
              refine sw_iinc (n := 83) F 3 (L2 := [(3, .int (jI (↑K - ↑m + (-1)))), (2, .int (jI (↑N - ↑m + (-1)))), (0, .ref a1), (1, .ref b1), (4, .ref q_1), (5, .long (jL (↑p)))]) rfl rfl (by decide) dJ19_add_4_80 rfl ?_
              refine sw_iload_n (n := 84) F 0 rfl rfl dJ19_add_4_83 rfl ?_
              refine sw_ialoadK (n := 85) F (plA F 1 rfl hay) (K - m - 1) (by omega) (by omega) dJ19_add_4_84 rfl ?_
              show SW x _ _ _ _ _ [.int (jI (↑(yf (K - m - 1)))), .long (jL (↑(xf (N - m - 1))))]
              have hb_4 : yf (K - m - 1) < 4294967296 := hwY.1 _ (by omega)
              refine sw_i2lr (n := 86) F dJ19_add_4_85 rfl ?_
              refine sw_ldc2 (n := 89) F (4294967295) q1106 (by decide) dJ19_add_4_86 rfl ?_
              refine sw_land (n := 90) F (jL (↑(yf (K - m - 1)))) (jI_wordE (by omega)) dJ19_add_4_89 rfl ?_
              refine sw_ladd (n := 91) F dJ19_add_4_90 rfl ?_
              refine sw_lload (n := 93) F 5 rfl dJ19_add_4_91 rfl ?_
              refine sw_bipush (n := 95) F (32) (by decide) dJ19_add_4_93 rfl ?_
              refine sw_lushr (n := 96) F _ (jL_ushr32 _) dJ19_add_4_95 rfl ?_
              refine sw_ladd (n := 97) F dJ19_add_4_96 rfl ?_
              obtain ⟨p2, hp2⟩ : ∃ z : Nat, z = xf (N - m - 1) + yf (K - m - 1) + p / 4294967296 := ⟨_, rfl⟩
              refine sw_top (topL (show (((↑(xf (N - m - 1))) + (↑(yf (K - m - 1)))) + ((↑p) % 18446744073709551616 / 4294967296) : Int) = ↑p2 by omega)) ?_
              refine sw_lstore (n := 99) F (L2 := [(5, .long (jL (↑p2))), (3, .int (jI (↑K - ↑m + (-1)))), (2, .int (jI (↑N - ↑m + (-1)))), (0, .ref a1), (1, .ref b1), (4, .ref q_1)]) rfl (by decide) dJ19_add_4_97 rfl ?_
              refine sw_aload (n := 101) F 5 (some q_1) rfl rfl dJ19_add_4_99 rfl ?_
              refine sw_iload_n (n := 102) F 2 rfl rfl dJ19_add_4_101 rfl ?_
              refine sw_lload (n := 104) F 0 rfl dJ19_add_4_102 rfl ?_
              refine sw_l2i (n := 105) F dJ19_add_4_104 rfl ?_
              refine sw_iastoreW (n := 106) F 0 rfl (fun _ => rfl) (N - m - 1) (by omega) (by omega) (p2 % 4294967296) (by first | omega | rfl) [aN (xg x) 0 q_1 N (va_up rf (N - m - 1) (p2 % 4294967296)), pl (xg x) M] (by rfl) dJ19_add_4_105 rfl ?_
              refine sw_goto F (n := 64) dJ19_add_4_106 (by decide) ?_
              refine sw_loc [3, 4, 2, 1, 5, 0] (L2 := [(0, .ref a1), (1, .ref b1), (2, .int (jI (↑N - ↑m + (-1)))), (3, .int (jI (↑K - ↑m + (-1)))), (4, .ref q_1), (5, .long (jL (↑p2)))]) rfl ?_
              rw [show (↑N - ↑m + (-1) : Int) = ↑N - ↑(m + 1) by omega]
              rw [show (↑K - ↑m + (-1) : Int) = ↑K - ↑(m + 1) by omega]
              exact ih64 (m + 1) (va_up rf (N - m - 1) (p2 % 4294967296)) p2 (by first | omega | assumption) (by first | omega | assumption) (by exact up_lt hrf (by omega)) (by exact add_step hri (by omega) (by omega) hp2 (by omega)) (by omega)
        refine sw_loc [4, 5, 3, 2, 1, 0] (L2 := [(0, .ref a1), (1, .ref b1), (2, .int (jI (↑N))), (3, .int (jI (↑K))), (4, .ref q_1), (5, .long (jL 0))]) rfl ?_
        rw [show (↑N : Int) = ↑N - 0 by omega]
        rw [show (↑K : Int) = ↑K - 0 by omega]
        exact K64 _ 0 (fun _ => 0) 0 (by first | omega | assumption) (by first | omega | assumption) (by first | assumption | (intro _ _; decide)) (by rw [sm_0, sm_0, sm_0]; omega) (Nat.lt_succ_self _)
      ·
        refine sw_aload_n (n := 33) F 4 (some a1) rfl rfl rfl dJ19_add_4_32 rfl ?_
        refine sw_iinc (n := 36) F 3 (L2 := [(2, .int (jI (↑N + (-1)))), (5, .long (jL 0)), (4, .ref q_1), (3, .int (jI (↑K))), (0, .ref a1), (1, .ref b1)]) rfl rfl (by decide) dJ19_add_4_33 rfl ?_
        refine sw_iload_n (n := 37) F 0 rfl rfl dJ19_add_4_36 rfl ?_
        refine sw_ialoadK (n := 38) F (plA F 1 rfl hax) (N - 1) (by omega) (by omega) dJ19_add_4_37 rfl ?_
        show SW x _ _ _ _ _ [.int (jI (↑(xf (N - 1))))]
        have hb_5 : xf (N - 1) < 4294967296 := hwX.1 _ (by omega)
        refine sw_i2lr (n := 39) F dJ19_add_4_38 rfl ?_
        refine sw_ldc2 (n := 42) F (4294967295) q1106 (by decide) dJ19_add_4_39 rfl ?_
        refine sw_land (n := 43) F (jL (↑(xf (N - 1)))) (jI_wordE (by omega)) dJ19_add_4_42 rfl ?_
        refine sw_aload_n (n := 44) F 5 (some b1) rfl rfl rfl dJ19_add_4_43 rfl ?_
        refine sw_iconst (n := 45) F (0) (by decide) dJ19_add_4_44 rfl ?_
        refine sw_ialoadK (n := 46) F (plA F 1 rfl hay) 0 rfl (by omega) dJ19_add_4_45 rfl ?_
        show SW x _ _ _ _ _ [.int (jI (↑(yf 0))), .long (jL (↑(xf (N - 1))))]
        have hb_6 : yf 0 < 4294967296 := hwY.1 _ (by omega)
        refine sw_i2lr (n := 47) F dJ19_add_4_46 rfl ?_
        refine sw_ldc2 (n := 50) F (4294967295) q1106 (by decide) dJ19_add_4_47 rfl ?_
        refine sw_land (n := 51) F (jL (↑(yf 0))) (jI_wordE (by omega)) dJ19_add_4_50 rfl ?_
        refine sw_ladd (n := 52) F dJ19_add_4_51 rfl ?_
        obtain ⟨p, hp⟩ : ∃ z : Nat, z = xf (N - 1) + yf 0 := ⟨_, rfl⟩
        refine sw_top (topL (show ((↑(xf (N - 1))) + (↑(yf 0)) : Int) = ↑p by omega)) ?_
        refine sw_lstore (n := 54) F (L2 := [(5, .long (jL (↑p))), (2, .int (jI (↑N + (-1)))), (4, .ref q_1), (3, .int (jI (↑K))), (0, .ref a1), (1, .ref b1)]) rfl (by decide) dJ19_add_4_52 rfl ?_
        refine SW.cast (L' := [(5, .long (jL (↑p))), (2, .int (jI (↑N - 1))), (4, .ref q_1), (3, .int (jI (↑K))), (0, .ref a1), (1, .ref b1)]) ?_ rfl (by rw [show Value.int (jI (↑N + (-1))) = Value.int (jI (↑N - 1)) from topI (by omega)]) rfl
        refine sw_aload (n := 56) F 2 (some q_1) rfl rfl dJ19_add_4_54 rfl ?_
        refine sw_iload_n (n := 57) F 1 rfl rfl dJ19_add_4_56 rfl ?_
        refine sw_lload (n := 59) F 0 rfl dJ19_add_4_57 rfl ?_
        refine sw_l2i (n := 60) F dJ19_add_4_59 rfl ?_
        refine sw_iastoreW (n := 61) F 0 rfl (fun _ => rfl) (N - 1) (by omega) (by omega) (p % 4294967296) (by first | omega | rfl) [aN (xg x) 0 q_1 N (va_up (fun _ => 0) (N - 1) (p % 4294967296)), pl (xg x) M] (by rfl) dJ19_add_4_60 rfl ?_
        refine sw_goto F (n := 109) dJ19_add_4_61 (by decide) ?_
        refine sw_loc [4, 1, 2, 0] (L2 := [(0, .ref a1), (2, .int (jI (↑N - 1))), (4, .ref q_1), (5, .long (jL (↑p)))]) rfl ?_
        exact K109 1 (va_up (fun _ => 0) (N - 1) (p % 4294967296)) p (by first | omega | assumption) (by first | omega | assumption) (by exact up_lt (fun _ _ => by decide) (by omega)) (by rw [wv_sm, show K = 1 by omega]; exact add_step (r := fun _ => 0) (f := xf) (h := yf) (n := N) (k := 1) (m := 0) (p := 0) (j := 0) (by rw [sm_0, sm_0, sm_0]; omega) (by omega) (by omega) (by omega) (by omega))
    exact K13 a b n f k h ha hbb hwa hwb (by first | omega | assumption) (by first | omega | assumption)
  ·
    refine sw_aload_n (n := 8) F 0 (some a) rfl rfl rfl dJ19_add_4_7 rfl ?_
    refine sw_astore_n (n := 9) F (some a) (L2 := [(2, .ref a), (0, .ref a), (1, .ref b)]) rfl rfl (by decide) rfl dJ19_add_4_8 rfl ?_
    refine sw_aload_n (n := 10) F 2 (some b) rfl rfl rfl dJ19_add_4_9 rfl ?_
    refine sw_astore_n (n := 11) F (some b) (L2 := [(0, .ref b), (2, .ref a), (1, .ref b)]) rfl rfl (by decide) rfl dJ19_add_4_10 rfl ?_
    refine sw_aload_n (n := 12) F 1 (some a) rfl rfl rfl dJ19_add_4_11 rfl ?_
    refine sw_astore_n (n := 13) F (some a) (L2 := [(1, .ref a), (0, .ref b), (2, .ref a)]) rfl rfl (by decide) rfl dJ19_add_4_12 rfl ?_
    have K13 : ∀ (a1 : Nat) (b1 : Nat) (N : Nat) (xf : Nat → Nat) (K : Nat) (yf : Nat → Nat), (at_ (xg x) M a1 (vA N xf)) → (at_ (xg x) M b1 (vA K yf)) → (wOK N xf) → (wOK K yf) → (K ≤ N ∧ 0 < K ∧ N ≤ 6) → (wv xf N + wv yf K = wv f n + wv h k) → SW x [pl (xg x) M] 2 13 13 [(0, .ref a1), (1, .ref b1)] [] := by
      intro a1 b1 N xf K yf hax hay hwX hwY hN6 hsum
      refine sw_aload_n (n := 14) F 0 (some a1) rfl rfl rfl dJ19_add_4_13 rfl ?_
      refine sw_alenK (n := 15) F (plA F 0 rfl hax) dJ19_add_4_14 rfl ?_
      show SW x _ _ _ _ _ [.int (jI (↑N))]
      refine sw_istore_n (n := 16) F (L2 := [(2, .int (jI (↑N))), (0, .ref a1), (1, .ref b1)]) rfl (by decide) rfl dJ19_add_4_15 rfl ?_
      refine sw_aload_n (n := 17) F 2 (some b1) rfl rfl rfl dJ19_add_4_16 rfl ?_
      refine sw_alenK (n := 18) F (plA F 0 rfl hay) dJ19_add_4_17 rfl ?_
      show SW x _ _ _ _ _ [.int (jI (↑K))]
      refine sw_istore_n (n := 19) F (L2 := [(3, .int (jI (↑K))), (2, .int (jI (↑N))), (0, .ref a1), (1, .ref b1)]) rfl (by decide) rfl dJ19_add_4_18 rfl ?_
      refine sw_iload_n (n := 20) F 1 rfl rfl dJ19_add_4_19 rfl ?_
      refine sw_newaN (n := 22) F (N) (by first | omega | rfl) (by omega) 1 7 ⟨by omega, by omega⟩ dJ19_add_4_20 rfl (fun q_7 => ?_)
      refine sw_astore (n := 24) F (some q_7) (L2 := [(4, .ref q_7), (3, .int (jI (↑K))), (2, .int (jI (↑N))), (0, .ref a1), (1, .ref b1)]) rfl rfl (by decide) dJ19_add_4_22 rfl ?_
      refine sw_lconst (n := 25) F 0 (by decide) dJ19_add_4_24 rfl ?_
      refine sw_lstore (n := 27) F (L2 := [(5, .long (jL 0)), (4, .ref q_7), (3, .int (jI (↑K))), (2, .int (jI (↑N))), (0, .ref a1), (1, .ref b1)]) rfl (by decide) dJ19_add_4_25 rfl ?_
      have K161 : ∀ N161 : Nat, ∀ (m : Nat) (rf : Nat → Nat) (c : Nat), (m ≤ N) → (c ≤ 1) → (∀ k, k < N → rf k < 4294967296) → (sm rf N m + c * bw m = sm xf N m + (wv yf K)) → (c = 0 ∨ m = N) → ((N - m) < N161) → SW x [aN (xg x) 0 q_7 N rf, pl (xg x) M] 1 7 161 [(0, .ref a1), (2, .int (jI (↑N - ↑m))), (4, .ref q_7), (7, .int (jI (↑c)))] [] := by
        intro N161; induction N161 with
        | zero => intro m rf c hm hc hrf hri hz hmu161; omega
        | succ N161 ih161 =>
          intro m rf c hm hc hrf hri hz hmu161
          refine sw_iload_n (n := 162) F 1 rfl rfl dJ19_add_4_161 rfl ?_
          refine sw_if_le (n := 165) F (by omega) (tgt := 178) dJ19_add_4_162 (by decide) rfl (fun c_162 => ?_) (fun c_162 => ?_)
          ·
            refine sw_iload (n := 180) F 3 rfl dJ19_add_4_178 rfl ?_
            refine sw_if_eq (n := 183) F (by omega) (tgt := 212) dJ19_add_4_180 (by decide) rfl (fun c_180 => ?_) (fun c_180 => ?_)
            ·
              refine sw_aload (n := 214) F 2 (some q_7) rfl rfl dJ19_add_4_212 rfl ?_
              exact sw_aret F (some q_7) _ rfl rfl (by first | exact Or.inl ⟨_, rfl⟩ | exact Or.inr ⟨_, rfl⟩) dJ19_add_4_214 (by rw [hPo]; exact ⟨q_7, N, rf, rfl, (by first | omega | assumption), (by first | exact carry_ok hrf | exact nocarry_ok hwX hrf (Y := wv yf K) (by have e := hri; rw [show m = N by omega, show c = 0 by omega, ← wv_sm, ← wv_sm] at e; omega)), (by rw [← hsum]; have e := hri; rw [show m = N by omega, show c = 0 by omega, ← wv_sm, ← wv_sm] at e; omega), rfl⟩)
            ·
              refine sw_aload (n := 185) F 2 (some q_7) rfl rfl dJ19_add_4_183 rfl ?_
              refine sw_alen (n := 186) F 0 rfl (fun _ => rfl) dJ19_add_4_185 rfl ?_
              refine sw_iconst (n := 187) F (1) (by decide) dJ19_add_4_186 rfl ?_
              refine sw_iadd (n := 188) F dJ19_add_4_187 rfl ?_
              refine sw_newaN (n := 190) F (N + 1) (by first | omega | rfl) (by omega) 0 0 ⟨by omega, by omega⟩ dJ19_add_4_188 rfl (fun q_8 => ?_)
              refine sw_astore (n := 192) F (some q_8) (L2 := [(8, .ref q_8), (0, .ref a1), (2, .int (jI (↑N - ↑m))), (4, .ref q_7), (7, .int (jI (↑c)))]) rfl rfl (by decide) dJ19_add_4_190 rfl ?_
              refine sw_aload (n := 194) F 3 (some q_7) rfl rfl dJ19_add_4_192 rfl ?_
              refine sw_iconst (n := 195) F (0) (by decide) dJ19_add_4_194 rfl ?_
              refine sw_aload (n := 197) F 0 (some q_8) rfl rfl dJ19_add_4_195 rfl ?_
              refine sw_iconst (n := 198) F (1) (by decide) dJ19_add_4_197 rfl ?_
              refine sw_aload (n := 200) F 3 (some q_7) rfl rfl dJ19_add_4_198 rfl ?_
              refine sw_alen (n := 201) F 1 rfl (fun _ => rfl) dJ19_add_4_200 rfl ?_
              refine sw_copyN (n := 204) F 0 (hA_ar (t0 := 0) (ty := .int) (f := fun j => .int (jI (rf j : Nat))) F (i := 1) rfl (fun _ => rfl)) rfl 0 1 N (by first | rfl | omega) (by first | rfl | omega) (by first | rfl | omega) (by omega) (by omega) (by omega) q1107 q530 q529 q133 (by decide) [aN (xg x) 0 q_8 (N + 1) (va_cpy rf (fun _ => 0) 0 1 N), aN (xg x) 0 q_7 N rf, pl (xg x) M] rfl dJ19_add_4_201 rfl ?_
              refine sw_aload (n := 206) F 0 (some q_8) rfl rfl dJ19_add_4_204 rfl ?_
              refine sw_iconst (n := 207) F (0) (by decide) dJ19_add_4_206 rfl ?_
              refine sw_iconst (n := 208) F (1) (by decide) dJ19_add_4_207 rfl ?_
              refine sw_iastoreW (n := 209) F 0 rfl (fun _ => rfl) 0 rfl (by omega) 1 (by first | omega | rfl) [aN (xg x) 0 q_8 (N + 1) (va_up (va_cpy rf (fun _ => 0) 0 1 N) 0 1), aN (xg x) 0 q_7 N rf, pl (xg x) M] (by rfl) dJ19_add_4_208 rfl ?_
              refine sw_aload (n := 211) F 0 (some q_8) rfl rfl dJ19_add_4_209 rfl ?_
              refine sw_drop [0, 2, 1] 2 rfl [aN (xg x) 0 q_8 (N + 1) (va_up (va_cpy rf (fun _ => 0) 0 1 N) 0 1), pl (xg x) M] rfl ?_
              exact sw_aret F (some q_8) _ rfl rfl (by first | exact Or.inl ⟨_, rfl⟩ | exact Or.inr ⟨_, rfl⟩) dJ19_add_4_211 (by rw [hPo]; exact ⟨q_8, N + 1, va_up (va_cpy rf (fun _ => 0) 0 1 N) 0 1, rfl, (by first | omega | assumption), (by first | exact carry_ok hrf | exact nocarry_ok hwX hrf (Y := wv yf K) (by have e := hri; rw [show m = N by omega, show c = 0 by omega, ← wv_sm, ← wv_sm] at e; omega)), (by rw [wv_carry, ← hsum]; have e := hri; rw [show m = N by omega, show c = 1 by omega, ← wv_sm, ← wv_sm] at e; omega), rfl⟩)
          ·
            refine sw_aload (n := 167) F 2 (some q_7) rfl rfl dJ19_add_4_165 rfl ?_
            refine sw_iinc (n := 170) F 1 (L2 := [(2, .int (jI (↑N - ↑m + (-1)))), (0, .ref a1), (4, .ref q_7), (7, .int (jI (↑c)))]) rfl rfl (by decide) dJ19_add_4_167 rfl ?_
            refine sw_iload_n (n := 171) F 0 rfl rfl dJ19_add_4_170 rfl ?_
            refine sw_aload_n (n := 172) F 1 (some a1) rfl rfl rfl dJ19_add_4_171 rfl ?_
            refine sw_iload_n (n := 173) F 0 rfl rfl dJ19_add_4_172 rfl ?_
            refine sw_ialoadK (n := 174) F (plA F 1 rfl hax) (N - m - 1) (by omega) (by omega) dJ19_add_4_173 rfl ?_
            show SW x _ _ _ _ _ [.int (jI (↑(xf (N - m - 1)))), .int (jI (↑N - ↑m + (-1))), .ref q_7]
            refine sw_iastoreW (n := 175) F 0 rfl (fun _ => rfl) (N - m - 1) (by omega) (by omega) (xf (N - m - 1)) (by first | omega | rfl) [aN (xg x) 0 q_7 N (va_up rf (N - m - 1) (xf (N - m - 1))), pl (xg x) M] (by rfl) dJ19_add_4_174 rfl ?_
            refine sw_goto F (n := 161) dJ19_add_4_175 (by decide) ?_
            refine sw_loc [1, 0, 2, 3] (L2 := [(0, .ref a1), (2, .int (jI (↑N - ↑m + (-1)))), (4, .ref q_7), (7, .int (jI (↑c)))]) rfl ?_
            rw [show (↑N - ↑m + (-1) : Int) = ↑N - ↑(m + 1) by omega]
            exact ih161 (m + 1) (va_up rf (N - m - 1) (xf (N - m - 1))) c (by first | omega | assumption) hc (by exact up_lt hrf (hwX.1 _ (by omega))) (by exact cpy_step hri (by omega) (by omega) (by omega)) (by first | omega | assumption) (by omega)
      have K126 : ∀ N126 : Nat, ∀ (m : Nat) (rf : Nat → Nat) (c : Nat), (m ≤ N) → (c ≤ 1) → (∀ k, k < N → rf k < 4294967296) → (sm rf N m + c * bw m = sm xf N m + (wv yf K)) → ((N - m) < N126) → SW x [aN (xg x) 0 q_7 N rf, pl (xg x) M] 1 7 126 [(0, .ref a1), (2, .int (jI (↑N - ↑m))), (4, .ref q_7), (7, .int (jI (↑c)))] [] := by
        intro N126; induction N126 with
        | zero => intro m rf c hm hc hrf hri hmu126; omega
        | succ N126 ih126 =>
          intro m rf c hm hc hrf hri hmu126
          refine sw_iload_n (n := 127) F 1 rfl rfl dJ19_add_4_126 rfl ?_
          refine sw_if_le (n := 130) F (by omega) (tgt := 161) dJ19_add_4_127 (by decide) rfl (fun c_127 => ?_) (fun c_127 => ?_)
          ·
            exact K161 _ m rf c hm hc (by first | assumption | (intro _ _; decide)) hri (by first | omega | assumption) (Nat.lt_succ_self _)
          ·
            refine sw_iload (n := 132) F 3 rfl dJ19_add_4_130 rfl ?_
            refine sw_if_eq (n := 135) F (by omega) (tgt := 161) dJ19_add_4_132 (by decide) rfl (fun c_132 => ?_) (fun c_132 => ?_)
            ·
              exact K161 _ m rf c hm hc (by first | assumption | (intro _ _; decide)) hri (by first | omega | assumption) (Nat.lt_succ_self _)
            ·
              refine sw_aload (n := 137) F 2 (some q_7) rfl rfl dJ19_add_4_135 rfl ?_
              refine sw_iinc (n := 140) F 1 (L2 := [(2, .int (jI (↑N - ↑m + (-1)))), (0, .ref a1), (4, .ref q_7), (7, .int (jI (↑c)))]) rfl rfl (by decide) dJ19_add_4_137 rfl ?_
              refine sw_iload_n (n := 141) F 0 rfl rfl dJ19_add_4_140 rfl ?_
              refine sw_aload_n (n := 142) F 1 (some a1) rfl rfl rfl dJ19_add_4_141 rfl ?_
              refine sw_iload_n (n := 143) F 0 rfl rfl dJ19_add_4_142 rfl ?_
              refine sw_ialoadK (n := 144) F (plA F 1 rfl hax) (N - m - 1) (by omega) (by omega) dJ19_add_4_143 rfl ?_
              show SW x _ _ _ _ _ [.int (jI (↑(xf (N - m - 1)))), .int (jI (↑N - ↑m + (-1))), .ref q_7]
              refine sw_iconst (n := 145) F (1) (by decide) dJ19_add_4_144 rfl ?_
              refine sw_iadd (n := 146) F dJ19_add_4_145 rfl ?_
              have hb_x : xf (N - m - 1) < 4294967296 := hwX.1 _ (by omega)
              refine sw_top (topIm (show ((↑(xf (N - m - 1))) + 1 : Int) % 4294967296 = (↑((xf (N - m - 1) + 1) % 4294967296)) % 4294967296 by omega)) ?_
              refine sw_dup_x2 (n := 147) F rfl rfl rfl dJ19_add_4_146 rfl ?_
              refine sw_iastoreW (n := 148) F 0 rfl (fun _ => rfl) (N - m - 1) (by omega) (by omega) ((xf (N - m - 1) + 1) % 4294967296) (by first | omega | rfl) [aN (xg x) 0 q_7 N (va_up rf (N - m - 1) ((xf (N - m - 1) + 1) % 4294967296)), pl (xg x) M] (by rfl) dJ19_add_4_147 rfl ?_
              refine sw_if_neU (n := 151) F (by omega) (tgt := 155) dJ19_add_4_148 (by decide) rfl (fun c_148 => ?_) (fun c_148 => ?_)
              ·
                refine sw_iconst (n := 156) F (0) (by decide) dJ19_add_4_155 rfl ?_
                refine sw_istore (n := 158) F (L2 := [(7, .int (jI 0)), (2, .int (jI (↑N - ↑m + (-1)))), (0, .ref a1), (4, .ref q_7)]) rfl (by decide) dJ19_add_4_156 rfl ?_
                refine sw_goto F (n := 126) dJ19_add_4_158 (by decide) ?_
                refine sw_loc [2, 1, 3, 0] (L2 := [(0, .ref a1), (2, .int (jI (↑N - ↑m + (-1)))), (4, .ref q_7), (7, .int (jI 0))]) rfl ?_
                rw [show (↑N - ↑m + (-1) : Int) = ↑N - ↑(m + 1) by omega]
                exact ih126 (m + 1) (va_up rf (N - m - 1) ((xf (N - m - 1) + 1) % 4294967296)) 0 (by first | omega | assumption) (by first | omega | assumption) (by exact up_lt hrf (by omega)) (by exact inc_step hri (by omega) (by omega) (by omega) (by omega)) (by omega)
              ·
                refine sw_iconst (n := 152) F (1) (by decide) dJ19_add_4_151 rfl ?_
                refine sw_goto F (n := 156) dJ19_add_4_152 (by decide) ?_
                refine sw_istore (n := 158) F (L2 := [(7, .int (jI 1)), (2, .int (jI (↑N - ↑m + (-1)))), (0, .ref a1), (4, .ref q_7)]) rfl (by decide) dJ19_add_4_156 rfl ?_
                refine sw_goto F (n := 126) dJ19_add_4_158 (by decide) ?_
                refine sw_loc [2, 1, 3, 0] (L2 := [(0, .ref a1), (2, .int (jI (↑N - ↑m + (-1)))), (4, .ref q_7), (7, .int (jI 1))]) rfl ?_
                rw [show (↑N - ↑m + (-1) : Int) = ↑N - ↑(m + 1) by omega]
                exact ih126 (m + 1) (va_up rf (N - m - 1) ((xf (N - m - 1) + 1) % 4294967296)) 1 (by first | omega | assumption) (by first | omega | assumption) (by exact up_lt hrf (by omega)) (by exact inc_step hri (by omega) (by omega) (by omega) (by omega)) (by omega)
      have K109 : ∀ (m : Nat) (rf : Nat → Nat) (p : Nat), (m ≤ N) → (p < 8589934592) → (∀ k, k < N → rf k < 4294967296) → (sm rf N m + p / 4294967296 * bw m = sm xf N m + wv yf K) → SW x [aN (xg x) 0 q_7 N rf, pl (xg x) M] 1 7 109 [(0, .ref a1), (2, .int (jI (↑N - ↑m))), (4, .ref q_7), (5, .long (jL (↑p)))] [] := by
        intro m rf p hm hp hrf hri
        refine sw_lload (n := 111) F 3 rfl dJ19_add_4_109 rfl ?_
        refine sw_bipush (n := 113) F (32) (by decide) dJ19_add_4_111 rfl ?_
        refine sw_lushr (n := 114) F _ (jL_ushr32 _) dJ19_add_4_113 rfl ?_
        refine sw_lconst (n := 115) F 0 (by decide) dJ19_add_4_114 rfl ?_
        refine sw_lcmp (n := 116) F (by omega) (by decide) dJ19_add_4_115 rfl ?_
        refine sw_if_eq (n := 119) F (by omega) (tgt := 123) dJ19_add_4_116 (by decide) rfl (fun c_116 => ?_) (fun c_116 => ?_)
        ·
          have c_116 : (↑p) % 18446744073709551616 / 4294967296 = 0 := by revert c_116; (repeat' split) <;> omega
          refine sw_iconst (n := 124) F (0) (by decide) dJ19_add_4_123 rfl ?_
          refine sw_istore (n := 126) F (L2 := [(7, .int (jI 0)), (0, .ref a1), (2, .int (jI (↑N - ↑m))), (4, .ref q_7), (5, .long (jL (↑p)))]) rfl (by decide) dJ19_add_4_124 rfl ?_
          refine sw_loc [1, 2, 3, 0] (L2 := [(0, .ref a1), (2, .int (jI (↑N - ↑m))), (4, .ref q_7), (7, .int (jI 0))]) rfl ?_
          exact K126 _ m rf 0 hm (by first | omega | assumption) (by first | assumption | (intro _ _; decide)) (by first | (rw [show p / 4294967296 = 1 by omega] at hri; exact hri) | (rw [show p / 4294967296 = 0 by omega] at hri; exact hri)) (Nat.lt_succ_self _)
        ·
          have c_116 : (↑p) % 18446744073709551616 / 4294967296 ≠ 0 := by revert c_116; (repeat' split) <;> omega
          refine sw_iconst (n := 120) F (1) (by decide) dJ19_add_4_119 rfl ?_
          refine sw_goto F (n := 124) dJ19_add_4_120 (by decide) ?_
          refine sw_istore (n := 126) F (L2 := [(7, .int (jI 1)), (0, .ref a1), (2, .int (jI (↑N - ↑m))), (4, .ref q_7), (5, .long (jL (↑p)))]) rfl (by decide) dJ19_add_4_124 rfl ?_
          refine sw_loc [1, 2, 3, 0] (L2 := [(0, .ref a1), (2, .int (jI (↑N - ↑m))), (4, .ref q_7), (7, .int (jI 1))]) rfl ?_
          exact K126 _ m rf 1 hm (by first | omega | assumption) (by first | assumption | (intro _ _; decide)) (by first | (rw [show p / 4294967296 = 1 by omega] at hri; exact hri) | (rw [show p / 4294967296 = 0 by omega] at hri; exact hri)) (Nat.lt_succ_self _)
      refine sw_iload_n (n := 28) F 2 rfl rfl dJ19_add_4_27 rfl ?_
      refine sw_iconst (n := 29) F (1) (by decide) dJ19_add_4_28 rfl ?_
      refine sw_icmp_ne (n := 32) F (by omega) (by decide) (tgt := 64) dJ19_add_4_29 (by decide) rfl (fun c_29 => ?_) (fun c_29 => ?_)
      ·
        have K64 : ∀ N64 : Nat, ∀ (m : Nat) (rf : Nat → Nat) (p : Nat), (m ≤ K) → (p < 8589934592) → (∀ k, k < N → rf k < 4294967296) → (sm rf N m + p / 4294967296 * bw m = sm xf N m + sm yf K m) → ((K - m) < N64) → SW x [aN (xg x) 0 q_7 N rf, pl (xg x) M] 1 7 64 [(0, .ref a1), (1, .ref b1), (2, .int (jI (↑N - ↑m))), (3, .int (jI (↑K - ↑m))), (4, .ref q_7), (5, .long (jL (↑p)))] [] := by
          intro N64; induction N64 with
          | zero => intro m rf p hm hp hrf hri hmu64; omega
          | succ N64 ih64 =>
            intro m rf p hm hp hrf hri hmu64
            refine sw_iload_n (n := 65) F 3 rfl rfl dJ19_add_4_64 rfl ?_
            refine sw_if_le (n := 68) F (by omega) (tgt := 109) dJ19_add_4_65 (by decide) rfl (fun c_65 => ?_) (fun c_65 => ?_)
            ·
              refine sw_loc [0, 2, 4, 5] (L2 := [(0, .ref a1), (2, .int (jI (↑N - ↑m))), (4, .ref q_7), (5, .long (jL (↑p)))]) rfl ?_
              exact K109 m rf p (by first | omega | assumption) hp (by first | assumption | (intro _ _; decide)) (by rw [show wv yf K = sm yf K m by rw [wv_sm, show m = K by omega]]; exact hri)
            ·
              refine sw_aload_n (n := 69) F 0 (some a1) rfl rfl rfl dJ19_add_4_68 rfl ?_
              refine sw_iinc (n := 72) F 2 (L2 := [(2, .int (jI (↑N - ↑m + (-1)))), (0, .ref a1), (1, .ref b1), (3, .int (jI (↑K - ↑m))), (4, .ref q_7), (5, .long (jL (↑p)))]) rfl rfl (by decide) dJ19_add_4_69 rfl ?_
              refine sw_iload_n (n := 73) F 0 rfl rfl dJ19_add_4_72 rfl ?_
              refine sw_ialoadK (n := 74) F (plA F 1 rfl hax) (N - m - 1) (by omega) (by omega) dJ19_add_4_73 rfl ?_
              show SW x _ _ _ _ _ [.int (jI (↑(xf (N - m - 1))))]
              have hb_9 : xf (N - m - 1) < 4294967296 := hwX.1 _ (by omega)
              refine sw_i2lr (n := 75) F dJ19_add_4_74 rfl ?_
              refine sw_ldc2 (n := 78) F (4294967295) q1106 (by decide) dJ19_add_4_75 rfl ?_
              refine sw_land (n := 79) F (jL (↑(xf (N - m - 1)))) (jI_wordE (by omega)) dJ19_add_4_78 rfl ?_
              refine sw_aload_n (n := 80) F 2 (some b1) rfl rfl rfl dJ19_add_4_79 rfl ?_
              refine sw_iinc (n := 83) F 3 (L2 := [(3, .int (jI (↑K - ↑m + (-1)))), (2, .int (jI (↑N - ↑m + (-1)))), (0, .ref a1), (1, .ref b1), (4, .ref q_7), (5, .long (jL (↑p)))]) rfl rfl (by decide) dJ19_add_4_80 rfl ?_
              refine sw_iload_n (n := 84) F 0 rfl rfl dJ19_add_4_83 rfl ?_
              refine sw_ialoadK (n := 85) F (plA F 1 rfl hay) (K - m - 1) (by omega) (by omega) dJ19_add_4_84 rfl ?_
              show SW x _ _ _ _ _ [.int (jI (↑(yf (K - m - 1)))), .long (jL (↑(xf (N - m - 1))))]
              have hb_10 : yf (K - m - 1) < 4294967296 := hwY.1 _ (by omega)
              refine sw_i2lr (n := 86) F dJ19_add_4_85 rfl ?_
              refine sw_ldc2 (n := 89) F (4294967295) q1106 (by decide) dJ19_add_4_86 rfl ?_
              refine sw_land (n := 90) F (jL (↑(yf (K - m - 1)))) (jI_wordE (by omega)) dJ19_add_4_89 rfl ?_
              refine sw_ladd (n := 91) F dJ19_add_4_90 rfl ?_
              refine sw_lload (n := 93) F 5 rfl dJ19_add_4_91 rfl ?_
              refine sw_bipush (n := 95) F (32) (by decide) dJ19_add_4_93 rfl ?_
              refine sw_lushr (n := 96) F _ (jL_ushr32 _) dJ19_add_4_95 rfl ?_
              refine sw_ladd (n := 97) F dJ19_add_4_96 rfl ?_
              obtain ⟨p2, hp2⟩ : ∃ z : Nat, z = xf (N - m - 1) + yf (K - m - 1) + p / 4294967296 := ⟨_, rfl⟩
              refine sw_top (topL (show (((↑(xf (N - m - 1))) + (↑(yf (K - m - 1)))) + ((↑p) % 18446744073709551616 / 4294967296) : Int) = ↑p2 by omega)) ?_
              refine sw_lstore (n := 99) F (L2 := [(5, .long (jL (↑p2))), (3, .int (jI (↑K - ↑m + (-1)))), (2, .int (jI (↑N - ↑m + (-1)))), (0, .ref a1), (1, .ref b1), (4, .ref q_7)]) rfl (by decide) dJ19_add_4_97 rfl ?_
              refine sw_aload (n := 101) F 5 (some q_7) rfl rfl dJ19_add_4_99 rfl ?_
              refine sw_iload_n (n := 102) F 2 rfl rfl dJ19_add_4_101 rfl ?_
              refine sw_lload (n := 104) F 0 rfl dJ19_add_4_102 rfl ?_
              refine sw_l2i (n := 105) F dJ19_add_4_104 rfl ?_
              refine sw_iastoreW (n := 106) F 0 rfl (fun _ => rfl) (N - m - 1) (by omega) (by omega) (p2 % 4294967296) (by first | omega | rfl) [aN (xg x) 0 q_7 N (va_up rf (N - m - 1) (p2 % 4294967296)), pl (xg x) M] (by rfl) dJ19_add_4_105 rfl ?_
              refine sw_goto F (n := 64) dJ19_add_4_106 (by decide) ?_
              refine sw_loc [3, 4, 2, 1, 5, 0] (L2 := [(0, .ref a1), (1, .ref b1), (2, .int (jI (↑N - ↑m + (-1)))), (3, .int (jI (↑K - ↑m + (-1)))), (4, .ref q_7), (5, .long (jL (↑p2)))]) rfl ?_
              rw [show (↑N - ↑m + (-1) : Int) = ↑N - ↑(m + 1) by omega]
              rw [show (↑K - ↑m + (-1) : Int) = ↑K - ↑(m + 1) by omega]
              exact ih64 (m + 1) (va_up rf (N - m - 1) (p2 % 4294967296)) p2 (by first | omega | assumption) (by first | omega | assumption) (by exact up_lt hrf (by omega)) (by exact add_step hri (by omega) (by omega) hp2 (by omega)) (by omega)
        refine sw_loc [4, 5, 3, 2, 1, 0] (L2 := [(0, .ref a1), (1, .ref b1), (2, .int (jI (↑N))), (3, .int (jI (↑K))), (4, .ref q_7), (5, .long (jL 0))]) rfl ?_
        rw [show (↑N : Int) = ↑N - 0 by omega]
        rw [show (↑K : Int) = ↑K - 0 by omega]
        exact K64 _ 0 (fun _ => 0) 0 (by first | omega | assumption) (by first | omega | assumption) (by first | assumption | (intro _ _; decide)) (by rw [sm_0, sm_0, sm_0]; omega) (Nat.lt_succ_self _)
      ·
        refine sw_aload_n (n := 33) F 4 (some a1) rfl rfl rfl dJ19_add_4_32 rfl ?_
        refine sw_iinc (n := 36) F 3 (L2 := [(2, .int (jI (↑N + (-1)))), (5, .long (jL 0)), (4, .ref q_7), (3, .int (jI (↑K))), (0, .ref a1), (1, .ref b1)]) rfl rfl (by decide) dJ19_add_4_33 rfl ?_
        refine sw_iload_n (n := 37) F 0 rfl rfl dJ19_add_4_36 rfl ?_
        refine sw_ialoadK (n := 38) F (plA F 1 rfl hax) (N - 1) (by omega) (by omega) dJ19_add_4_37 rfl ?_
        show SW x _ _ _ _ _ [.int (jI (↑(xf (N - 1))))]
        have hb_11 : xf (N - 1) < 4294967296 := hwX.1 _ (by omega)
        refine sw_i2lr (n := 39) F dJ19_add_4_38 rfl ?_
        refine sw_ldc2 (n := 42) F (4294967295) q1106 (by decide) dJ19_add_4_39 rfl ?_
        refine sw_land (n := 43) F (jL (↑(xf (N - 1)))) (jI_wordE (by omega)) dJ19_add_4_42 rfl ?_
        refine sw_aload_n (n := 44) F 5 (some b1) rfl rfl rfl dJ19_add_4_43 rfl ?_
        refine sw_iconst (n := 45) F (0) (by decide) dJ19_add_4_44 rfl ?_
        refine sw_ialoadK (n := 46) F (plA F 1 rfl hay) 0 rfl (by omega) dJ19_add_4_45 rfl ?_
        show SW x _ _ _ _ _ [.int (jI (↑(yf 0))), .long (jL (↑(xf (N - 1))))]
        have hb_12 : yf 0 < 4294967296 := hwY.1 _ (by omega)
        refine sw_i2lr (n := 47) F dJ19_add_4_46 rfl ?_
        refine sw_ldc2 (n := 50) F (4294967295) q1106 (by decide) dJ19_add_4_47 rfl ?_
        refine sw_land (n := 51) F (jL (↑(yf 0))) (jI_wordE (by omega)) dJ19_add_4_50 rfl ?_
        refine sw_ladd (n := 52) F dJ19_add_4_51 rfl ?_
        obtain ⟨p, hp⟩ : ∃ z : Nat, z = xf (N - 1) + yf 0 := ⟨_, rfl⟩
        refine sw_top (topL (show ((↑(xf (N - 1))) + (↑(yf 0)) : Int) = ↑p by omega)) ?_
        refine sw_lstore (n := 54) F (L2 := [(5, .long (jL (↑p))), (2, .int (jI (↑N + (-1)))), (4, .ref q_7), (3, .int (jI (↑K))), (0, .ref a1), (1, .ref b1)]) rfl (by decide) dJ19_add_4_52 rfl ?_
        refine SW.cast (L' := [(5, .long (jL (↑p))), (2, .int (jI (↑N - 1))), (4, .ref q_7), (3, .int (jI (↑K))), (0, .ref a1), (1, .ref b1)]) ?_ rfl (by rw [show Value.int (jI (↑N + (-1))) = Value.int (jI (↑N - 1)) from topI (by omega)]) rfl
        refine sw_aload (n := 56) F 2 (some q_7) rfl rfl dJ19_add_4_54 rfl ?_
        refine sw_iload_n (n := 57) F 1 rfl rfl dJ19_add_4_56 rfl ?_
        refine sw_lload (n := 59) F 0 rfl dJ19_add_4_57 rfl ?_
        refine sw_l2i (n := 60) F dJ19_add_4_59 rfl ?_
        refine sw_iastoreW (n := 61) F 0 rfl (fun _ => rfl) (N - 1) (by omega) (by omega) (p % 4294967296) (by first | omega | rfl) [aN (xg x) 0 q_7 N (va_up (fun _ => 0) (N - 1) (p % 4294967296)), pl (xg x) M] (by rfl) dJ19_add_4_60 rfl ?_
        refine sw_goto F (n := 109) dJ19_add_4_61 (by decide) ?_
        refine sw_loc [4, 1, 2, 0] (L2 := [(0, .ref a1), (2, .int (jI (↑N - 1))), (4, .ref q_7), (5, .long (jL (↑p)))]) rfl ?_
        exact K109 1 (va_up (fun _ => 0) (N - 1) (p % 4294967296)) p (by first | omega | assumption) (by first | omega | assumption) (by exact up_lt (fun _ _ => by decide) (by omega)) (by rw [wv_sm, show K = 1 by omega]; exact add_step (r := fun _ => 0) (f := xf) (h := yf) (n := N) (k := 1) (m := 0) (p := 0) (j := 0) (by rw [sm_0, sm_0, sm_0]; omega) (by omega) (by omega) (by omega) (by omega))
    refine sw_loc [1, 0] (L2 := [(0, .ref b), (1, .ref a)]) rfl ?_
    exact K13 b a k h n f hbb ha hwb hwa (by first | omega | assumption) (by first | omega | assumption)
theorem nd_J19_subtract_3 : yJ19_subtract_3.cls ≠ "java/lang/invoke/MethodHandle" ∧ yJ19_subtract_3.cls ≠ "java/lang/invoke/VarHandle" ∧ (parseMethodDescriptor yJ19_subtract_3.desc).map (fun d => d.parameters.length) = some 2 := by decide +kernel
set_option maxRecDepth 100000 in
set_option maxHeartbeats 16000000 in
theorem ct_J19_subtract_3 {g : GG} {l : Launch} (M : Nat → Option PV) (a : Nat) (n : Nat) (f : Nat → Nat) (b : Nat) (k : Nat) (h : Nat → Nat) (ha : at_ g M a (vA n f)) (hbb : at_ g M b (vA k h)) (hwa : wOK n f) (hwb : wOK k h) (hn : 0 < n ∧ n ≤ 6) (hk : 0 < k ∧ k ≤ 6) (hle : wv h k ≤ wv f n) : Ct g l yJ19_subtract_3 (ws_ yJ19_subtract_3 cJ19_subtract_3 8 (Option.some (Jvm.ClassFile.FieldType.array Jvm.ClassFile.FieldType.int))) 1 12 1 6 [.ref a, .ref b] [pl g M] (fun v9 Ws9 => ∃ r1 : Nat, ∃ f1 : Nat → Nat, v9 = some (.ref r1) ∧ (∀ k, k < n → f1 k < 4294967296) ∧ (wv f1 n = wv f n - wv h k) ∧ Ws9 = [aN g 0 r1 n f1, pl g M]) (nox) := by
  refine Ct.of (cc := cJ19_subtract_3) (nL := 8) (ret := (Option.some (Jvm.ClassFile.FieldType.array Jvm.ClassFile.FieldType.int))) (by decide) rfl (Nat.le_of_ble_eq_true rfl) ?_
  intro x hg hl hPo hPx hmc hms F
  subst hg; subst hl
  refine SW.cast (L' := [(0, .ref a), (1, .ref b)]) ?_ rfl rfl rfl
  have hwX := hwa
  have hkn : k ≤ n := by rcases Nat.lt_or_ge n k with q9 | q9; exact absurd (wv_lenlt hwa.1 hwb q9) (by omega); exact q9
  refine sw_aload_n (n := 1) F 0 (some a) rfl rfl rfl dJ19_subtract_3_0 rfl ?_
  refine sw_alenK (n := 2) F (plA F 0 rfl ha) dJ19_subtract_3_1 rfl ?_
  show SW x _ _ _ _ _ [.int (jI (↑n))]
  refine sw_istore_n (n := 3) F (L2 := [(2, .int (jI (↑n))), (0, .ref a), (1, .ref b)]) rfl (by decide) rfl dJ19_subtract_3_2 rfl ?_
  refine sw_iload_n (n := 4) F 0 rfl rfl dJ19_subtract_3_3 rfl ?_
  refine sw_newaN (n := 6) F (n) (by first | omega | rfl) (by omega) 0 0 ⟨by omega, by omega⟩ dJ19_subtract_3_4 rfl (fun q_1 => ?_)
  refine sw_astore_n (n := 7) F (some q_1) (L2 := [(3, .ref q_1), (2, .int (jI (↑n))), (0, .ref a), (1, .ref b)]) rfl rfl (by decide) rfl dJ19_subtract_3_6 rfl ?_
  refine sw_aload_n (n := 8) F 3 (some b) rfl rfl rfl dJ19_subtract_3_7 rfl ?_
  refine sw_alenK (n := 9) F (plA F 1 rfl hbb) dJ19_subtract_3_8 rfl ?_
  show SW x _ _ _ _ _ [.int (jI (↑k))]
  refine sw_istore (n := 11) F (L2 := [(4, .int (jI (↑k))), (3, .ref q_1), (2, .int (jI (↑n))), (0, .ref a), (1, .ref b)]) rfl (by decide) dJ19_subtract_3_9 rfl ?_
  refine sw_lconst (n := 12) F 0 (by decide) dJ19_subtract_3_11 rfl ?_
  refine sw_lstore (n := 14) F (L2 := [(5, .long (jL 0)), (4, .int (jI (↑k))), (3, .ref q_1), (2, .int (jI (↑n))), (0, .ref a), (1, .ref b)]) rfl (by decide) dJ19_subtract_3_12 rfl ?_
  have K112 : ∀ N112 : Nat, ∀ (m : Nat) (rf : Nat → Nat) (c : Nat), (m ≤ n) → (c ≤ 1) → (∀ k, k < n → rf k < 4294967296) → (sm rf n m + (wv h k) = sm f n m + c * bw m) → (c = 0 ∨ m = n) → ((n - m) < N112) → SW x [aN (xg x) 0 q_1 n rf, pl (xg x) M] 0 0 112 [(0, .ref a), (2, .int (jI (↑n - ↑m))), (3, .ref q_1), (7, .int (jI (↑c)))] [] := by
    intro N112; induction N112 with
    | zero => intro m rf c hm hc hrf hri hz hmu112; omega
    | succ N112 ih112 =>
      intro m rf c hm hc hrf hri hz hmu112
      refine sw_iload_n (n := 113) F 1 rfl rfl dJ19_subtract_3_112 rfl ?_
      refine sw_if_le (n := 116) F (by omega) (tgt := 128) dJ19_subtract_3_113 (by decide) rfl (fun c_113 => ?_) (fun c_113 => ?_)
      ·
        refine sw_aload_n (n := 129) F 2 (some q_1) rfl rfl rfl dJ19_subtract_3_128 rfl ?_
        exact sw_aret F (some q_1) _ rfl rfl (by first | exact Or.inl ⟨_, rfl⟩ | exact Or.inr ⟨_, rfl⟩) dJ19_subtract_3_129 (by rw [hPo]; exact ⟨q_1, rf, rfl, (by exact hrf), (by have e := hri; rw [show m = n by omega, ← wv_sm f n] at e; exact borrow_0 hrf e hc hle), rfl⟩)
      ·
        refine sw_aload_n (n := 117) F 2 (some q_1) rfl rfl rfl dJ19_subtract_3_116 rfl ?_
        refine sw_iinc (n := 120) F 1 (L2 := [(2, .int (jI (↑n - ↑m + (-1)))), (0, .ref a), (3, .ref q_1), (7, .int (jI (↑c)))]) rfl rfl (by decide) dJ19_subtract_3_117 rfl ?_
        refine sw_iload_n (n := 121) F 0 rfl rfl dJ19_subtract_3_120 rfl ?_
        refine sw_aload_n (n := 122) F 1 (some a) rfl rfl rfl dJ19_subtract_3_121 rfl ?_
        refine sw_iload_n (n := 123) F 0 rfl rfl dJ19_subtract_3_122 rfl ?_
        refine sw_ialoadK (n := 124) F (plA F 1 rfl ha) (n - m - 1) (by omega) (by omega) dJ19_subtract_3_123 rfl ?_
        show SW x _ _ _ _ _ [.int (jI (↑(f (n - m - 1)))), .int (jI (↑n - ↑m + (-1))), .ref q_1]
        refine sw_iastoreW (n := 125) F 0 rfl (fun _ => rfl) (n - m - 1) (by omega) (by omega) (f (n - m - 1)) (by first | omega | rfl) [aN (xg x) 0 q_1 n (va_up rf (n - m - 1) (f (n - m - 1))), pl (xg x) M] (by rfl) dJ19_subtract_3_124 rfl ?_
        refine sw_goto F (n := 112) dJ19_subtract_3_125 (by decide) ?_
        refine sw_loc [1, 0, 2, 3] (L2 := [(0, .ref a), (2, .int (jI (↑n - ↑m + (-1)))), (3, .ref q_1), (7, .int (jI (↑c)))]) rfl ?_
        rw [show (↑n - ↑m + (-1) : Int) = ↑n - ↑(m + 1) by omega]
        exact ih112 (m + 1) (va_up rf (n - m - 1) (f (n - m - 1))) c (by first | omega | assumption) hc (by exact up_lt hrf (hwX.1 _ (by omega))) (by exact cpz_step hri (by omega) (by omega) (by omega)) (by first | omega | assumption) (by omega)
  have K77 : ∀ N77 : Nat, ∀ (m : Nat) (rf : Nat → Nat) (c : Nat), (m ≤ n) → (c ≤ 1) → (∀ k, k < n → rf k < 4294967296) → (sm rf n m + (wv h k) = sm f n m + c * bw m) → ((n - m) < N77) → SW x [aN (xg x) 0 q_1 n rf, pl (xg x) M] 0 0 77 [(0, .ref a), (2, .int (jI (↑n - ↑m))), (3, .ref q_1), (7, .int (jI (↑c)))] [] := by
    intro N77; induction N77 with
    | zero => intro m rf c hm hc hrf hri hmu77; omega
    | succ N77 ih77 =>
      intro m rf c hm hc hrf hri hmu77
      refine sw_iload_n (n := 78) F 1 rfl rfl dJ19_subtract_3_77 rfl ?_
      refine sw_if_le (n := 81) F (by omega) (tgt := 112) dJ19_subtract_3_78 (by decide) rfl (fun c_78 => ?_) (fun c_78 => ?_)
      ·
        exact K112 _ m rf c hm hc (by first | assumption | (intro _ _; decide)) hri (by first | omega | assumption) (Nat.lt_succ_self _)
      ·
        refine sw_iload (n := 83) F 3 rfl dJ19_subtract_3_81 rfl ?_
        refine sw_if_eq (n := 86) F (by omega) (tgt := 112) dJ19_subtract_3_83 (by decide) rfl (fun c_83 => ?_) (fun c_83 => ?_)
        ·
          exact K112 _ m rf c hm hc (by first | assumption | (intro _ _; decide)) hri (by first | omega | assumption) (Nat.lt_succ_self _)
        ·
          refine sw_aload_n (n := 87) F 2 (some q_1) rfl rfl rfl dJ19_subtract_3_86 rfl ?_
          refine sw_iinc (n := 90) F 1 (L2 := [(2, .int (jI (↑n - ↑m + (-1)))), (0, .ref a), (3, .ref q_1), (7, .int (jI (↑c)))]) rfl rfl (by decide) dJ19_subtract_3_87 rfl ?_
          refine sw_iload_n (n := 91) F 0 rfl rfl dJ19_subtract_3_90 rfl ?_
          refine sw_aload_n (n := 92) F 1 (some a) rfl rfl rfl dJ19_subtract_3_91 rfl ?_
          refine sw_iload_n (n := 93) F 0 rfl rfl dJ19_subtract_3_92 rfl ?_
          refine sw_ialoadK (n := 94) F (plA F 1 rfl ha) (n - m - 1) (by omega) (by omega) dJ19_subtract_3_93 rfl ?_
          show SW x _ _ _ _ _ [.int (jI (↑(f (n - m - 1)))), .int (jI (↑n - ↑m + (-1))), .ref q_1]
          refine sw_iconst (n := 95) F (1) (by decide) dJ19_subtract_3_94 rfl ?_
          refine sw_isub (n := 96) F dJ19_subtract_3_95 rfl ?_
          have hb_x : f (n - m - 1) < 4294967296 := hwX.1 _ (by omega)
          refine sw_top (topIm (show ((↑(f (n - m - 1))) - 1 : Int) % 4294967296 = (↑((f (n - m - 1) + 4294967295) % 4294967296)) % 4294967296 by omega)) ?_
          refine sw_dup_x2 (n := 97) F rfl rfl rfl dJ19_subtract_3_96 rfl ?_
          refine sw_iastoreW (n := 98) F 0 rfl (fun _ => rfl) (n - m - 1) (by omega) (by omega) ((f (n - m - 1) + 4294967295) % 4294967296) (by first | omega | rfl) [aN (xg x) 0 q_1 n (va_up rf (n - m - 1) ((f (n - m - 1) + 4294967295) % 4294967296)), pl (xg x) M] (by rfl) dJ19_subtract_3_97 rfl ?_
          refine sw_iconst (n := 99) F (-1) (by decide) dJ19_subtract_3_98 rfl ?_
          refine sw_top (topIm (show (-1 : Int) % 4294967296 = (4294967295) % 4294967296 by decide)) ?_
          refine sw_icmp_neU (n := 102) F (by omega) (by omega) (tgt := 106) dJ19_subtract_3_99 (by decide) rfl (fun c_99 => ?_) (fun c_99 => ?_)
          ·
            refine sw_iconst (n := 107) F (0) (by decide) dJ19_subtract_3_106 rfl ?_
            refine sw_istore (n := 109) F (L2 := [(7, .int (jI 0)), (2, .int (jI (↑n - ↑m + (-1)))), (0, .ref a), (3, .ref q_1)]) rfl (by decide) dJ19_subtract_3_107 rfl ?_
            refine sw_goto F (n := 77) dJ19_subtract_3_109 (by decide) ?_
            refine sw_loc [2, 1, 3, 0] (L2 := [(0, .ref a), (2, .int (jI (↑n - ↑m + (-1)))), (3, .ref q_1), (7, .int (jI 0))]) rfl ?_
            rw [show (↑n - ↑m + (-1) : Int) = ↑n - ↑(m + 1) by omega]
            exact ih77 (m + 1) (va_up rf (n - m - 1) ((f (n - m - 1) + 4294967295) % 4294967296)) 0 (by first | omega | assumption) (by first | omega | assumption) (by exact up_lt hrf (by omega)) (by exact dec_step hri (by omega) (by omega) (by omega) hb_x (by split <;> omega)) (by omega)
          ·
            refine sw_iconst (n := 103) F (1) (by decide) dJ19_subtract_3_102 rfl ?_
            refine sw_goto F (n := 107) dJ19_subtract_3_103 (by decide) ?_
            refine sw_istore (n := 109) F (L2 := [(7, .int (jI 1)), (2, .int (jI (↑n - ↑m + (-1)))), (0, .ref a), (3, .ref q_1)]) rfl (by decide) dJ19_subtract_3_107 rfl ?_
            refine sw_goto F (n := 77) dJ19_subtract_3_109 (by decide) ?_
            refine sw_loc [2, 1, 3, 0] (L2 := [(0, .ref a), (2, .int (jI (↑n - ↑m + (-1)))), (3, .ref q_1), (7, .int (jI 1))]) rfl ?_
            rw [show (↑n - ↑m + (-1) : Int) = ↑n - ↑(m + 1) by omega]
            exact ih77 (m + 1) (va_up rf (n - m - 1) ((f (n - m - 1) + 4294967295) % 4294967296)) 1 (by first | omega | assumption) (by first | omega | assumption) (by exact up_lt hrf (by omega)) (by exact dec_step hri (by omega) (by omega) (by omega) hb_x (by split <;> omega)) (by omega)
  have K14 : ∀ N14 : Nat, ∀ (m : Nat) (rf : Nat → Nat) (p : Int) (c : Nat), (m ≤ k) → (c ≤ 1) → (p / 4294967296 = -(c : Int)) → (-4294967296 ≤ p ∧ p < 4294967296) → (∀ k, k < n → rf k < 4294967296) → (sm rf n m + sm h k m = sm f n m + c * bw m) → ((k - m) < N14) → SW x [aN (xg x) 0 q_1 n rf, pl (xg x) M] 0 0 14 [(0, .ref a), (1, .ref b), (2, .int (jI (↑n - ↑m))), (3, .ref q_1), (4, .int (jI (↑k - ↑m))), (5, .long (jL p))] [] := by
    intro N14; induction N14 with
    | zero => intro m rf p c hm hc hp hpr hrf hri hmu14; omega
    | succ N14 ih14 =>
      intro m rf p c hm hc hp hpr hrf hri hmu14
      refine sw_iload (n := 16) F 4 rfl dJ19_subtract_3_14 rfl ?_
      refine sw_if_le (n := 19) F (by omega) (tgt := 60) dJ19_subtract_3_16 (by decide) rfl (fun c_16 => ?_) (fun c_16 => ?_)
      ·
        have hex : sm rf n m + wv h k = sm f n m + c * bw m := by have e := hri; rw [show sm h k m = wv h k by rw [wv_sm, show m = k by omega]] at e; exact e
        refine sw_lload (n := 62) F 5 rfl dJ19_subtract_3_60 rfl ?_
        refine sw_bipush (n := 64) F (32) (by decide) dJ19_subtract_3_62 rfl ?_
        refine sw_lshr (n := 65) F (jL (p / 4294967296)) (by have h7s := jL_shrQ (z := p) (c := 32) (P := 4294967296) (k := 32) (by omega) (by decide) (by decide) (by decide); exact h7s) dJ19_subtract_3_64 rfl ?_
        refine sw_lconst (n := 66) F 0 (by decide) dJ19_subtract_3_65 rfl ?_
        refine sw_lcmp (n := 67) F (by omega) (by decide) dJ19_subtract_3_66 rfl ?_
        refine sw_if_eq (n := 70) F (by omega) (tgt := 74) dJ19_subtract_3_67 (by decide) rfl (fun c_67 => ?_) (fun c_67 => ?_)
        ·
          have c_67 : p / 4294967296 = 0 := by revert c_67; (repeat' split) <;> omega
          refine sw_iconst (n := 75) F (0) (by decide) dJ19_subtract_3_74 rfl ?_
          refine sw_istore (n := 77) F (L2 := [(7, .int (jI 0)), (0, .ref a), (1, .ref b), (2, .int (jI (↑n - ↑m))), (3, .ref q_1), (4, .int (jI (↑k - ↑m))), (5, .long (jL p))]) rfl (by decide) dJ19_subtract_3_75 rfl ?_
          refine sw_loc [1, 3, 4, 0] (L2 := [(0, .ref a), (2, .int (jI (↑n - ↑m))), (3, .ref q_1), (7, .int (jI 0))]) rfl ?_
          exact K77 _ m rf 0 (by first | omega | assumption) (by first | omega | assumption) (by first | assumption | (intro _ _; decide)) (by first | (rw [show c = 1 by omega] at hex; exact hex) | (rw [show c = 0 by omega] at hex; exact hex)) (Nat.lt_succ_self _)
        ·
          have c_67 : p / 4294967296 ≠ 0 := by revert c_67; (repeat' split) <;> omega
          refine sw_iconst (n := 71) F (1) (by decide) dJ19_subtract_3_70 rfl ?_
          refine sw_goto F (n := 75) dJ19_subtract_3_71 (by decide) ?_
          refine sw_istore (n := 77) F (L2 := [(7, .int (jI 1)), (0, .ref a), (1, .ref b), (2, .int (jI (↑n - ↑m))), (3, .ref q_1), (4, .int (jI (↑k - ↑m))), (5, .long (jL p))]) rfl (by decide) dJ19_subtract_3_75 rfl ?_
          refine sw_loc [1, 3, 4, 0] (L2 := [(0, .ref a), (2, .int (jI (↑n - ↑m))), (3, .ref q_1), (7, .int (jI 1))]) rfl ?_
          exact K77 _ m rf 1 (by first | omega | assumption) (by first | omega | assumption) (by first | assumption | (intro _ _; decide)) (by first | (rw [show c = 1 by omega] at hex; exact hex) | (rw [show c = 0 by omega] at hex; exact hex)) (Nat.lt_succ_self _)
      ·
        refine sw_aload_n (n := 20) F 0 (some a) rfl rfl rfl dJ19_subtract_3_19 rfl ?_
        refine sw_iinc (n := 23) F 2 (L2 := [(2, .int (jI (↑n - ↑m + (-1)))), (0, .ref a), (1, .ref b), (3, .ref q_1), (4, .int (jI (↑k - ↑m))), (5, .long (jL p))]) rfl rfl (by decide) dJ19_subtract_3_20 rfl ?_
        refine sw_iload_n (n := 24) F 0 rfl rfl dJ19_subtract_3_23 rfl ?_
        refine sw_ialoadK (n := 25) F (plA F 1 rfl ha) (n - m - 1) (by omega) (by omega) dJ19_subtract_3_24 rfl ?_
        show SW x _ _ _ _ _ [.int (jI (↑(f (n - m - 1))))]
        have hb_2 : f (n - m - 1) < 4294967296 := hwa.1 _ (by omega)
        refine sw_i2lr (n := 26) F dJ19_subtract_3_25 rfl ?_
        refine sw_ldc2 (n := 29) F (4294967295) q1106 (by decide) dJ19_subtract_3_26 rfl ?_
        refine sw_land (n := 30) F (jL (↑(f (n - m - 1)))) (jI_wordE (by omega)) dJ19_subtract_3_29 rfl ?_
        refine sw_aload_n (n := 31) F 2 (some b) rfl rfl rfl dJ19_subtract_3_30 rfl ?_
        refine sw_iinc (n := 34) F 4 (L2 := [(4, .int (jI (↑k - ↑m + (-1)))), (2, .int (jI (↑n - ↑m + (-1)))), (0, .ref a), (1, .ref b), (3, .ref q_1), (5, .long (jL p))]) rfl rfl (by decide) dJ19_subtract_3_31 rfl ?_
        refine sw_iload (n := 36) F 0 rfl dJ19_subtract_3_34 rfl ?_
        refine sw_ialoadK (n := 37) F (plA F 1 rfl hbb) (k - m - 1) (by omega) (by omega) dJ19_subtract_3_36 rfl ?_
        show SW x _ _ _ _ _ [.int (jI (↑(h (k - m - 1)))), .long (jL (↑(f (n - m - 1))))]
        have hb_3 : h (k - m - 1) < 4294967296 := hwb.1 _ (by omega)
        refine sw_i2lr (n := 38) F dJ19_subtract_3_37 rfl ?_
        refine sw_ldc2 (n := 41) F (4294967295) q1106 (by decide) dJ19_subtract_3_38 rfl ?_
        refine sw_land (n := 42) F (jL (↑(h (k - m - 1)))) (jI_wordE (by omega)) dJ19_subtract_3_41 rfl ?_
        refine sw_lsub (n := 43) F dJ19_subtract_3_42 rfl ?_
        refine sw_lload (n := 45) F 5 rfl dJ19_subtract_3_43 rfl ?_
        refine sw_bipush (n := 47) F (32) (by decide) dJ19_subtract_3_45 rfl ?_
        refine sw_lshr (n := 48) F (jL (p / 4294967296)) (by have h7s := jL_shrQ (z := p) (c := 32) (P := 4294967296) (k := 32) (by omega) (by decide) (by decide) (by decide); exact h7s) dJ19_subtract_3_47 rfl ?_
        refine sw_ladd (n := 49) F dJ19_subtract_3_48 rfl ?_
        obtain ⟨p2, hp2⟩ : ∃ z : Int, z = ↑(f (n - m - 1)) - ↑(h (k - m - 1)) + p / 4294967296 := ⟨_, rfl⟩
        refine sw_top (topL (show (((↑(f (n - m - 1))) - (↑(h (k - m - 1)))) + (p / 4294967296) : Int) = p2 by omega)) ?_
        refine sw_lstore (n := 51) F (L2 := [(5, .long (jL p2)), (4, .int (jI (↑k - ↑m + (-1)))), (2, .int (jI (↑n - ↑m + (-1)))), (0, .ref a), (1, .ref b), (3, .ref q_1)]) rfl (by decide) dJ19_subtract_3_49 rfl ?_
        refine sw_aload_n (n := 52) F 5 (some q_1) rfl rfl rfl dJ19_subtract_3_51 rfl ?_
        refine sw_iload_n (n := 53) F 2 rfl rfl dJ19_subtract_3_52 rfl ?_
        refine sw_lload (n := 55) F 0 rfl dJ19_subtract_3_53 rfl ?_
        refine sw_l2i (n := 56) F dJ19_subtract_3_55 rfl ?_
        refine sw_iastoreW (n := 57) F 0 rfl (fun _ => rfl) (n - m - 1) (by omega) (by omega) ((p2 % 4294967296).toNat) (by first | omega | rfl) [aN (xg x) 0 q_1 n (va_up rf (n - m - 1) ((p2 % 4294967296).toNat)), pl (xg x) M] (by simp [List.set]) dJ19_subtract_3_56 rfl ?_
        refine sw_goto F (n := 14) dJ19_subtract_3_57 (by decide) ?_
        refine sw_loc [3, 4, 2, 5, 1, 0] (L2 := [(0, .ref a), (1, .ref b), (2, .int (jI (↑n - ↑m + (-1)))), (3, .ref q_1), (4, .int (jI (↑k - ↑m + (-1)))), (5, .long (jL p2))]) rfl ?_
        rw [show (↑n - ↑m + (-1) : Int) = ↑n - ↑(m + 1) by omega]
        rw [show (↑k - ↑m + (-1) : Int) = ↑k - ↑(m + 1) by omega]
        exact ih14 (m + 1) (va_up rf (n - m - 1) ((p2 % 4294967296).toNat)) p2 ((-(p2 / 4294967296)).toNat) (by first | omega | assumption) (by first | omega | assumption) (by first | omega | assumption) (by first | omega | assumption) (by exact up_lt hrf (by omega)) (by exact sub_step (j := k - m - 1) hri (by omega) (by omega) (by omega) (by omega) (by omega)) (by omega)
  refine sw_loc [4, 5, 3, 2, 1, 0] (L2 := [(0, .ref a), (1, .ref b), (2, .int (jI (↑n))), (3, .ref q_1), (4, .int (jI (↑k))), (5, .long (jL 0))]) rfl ?_
  rw [show (↑n : Int) = ↑n - 0 by omega]
  rw [show (↑k : Int) = ↑k - 0 by omega]
  exact K14 _ 0 (fun _ => 0) 0 0 (by first | omega | assumption) (by first | omega | assumption) (by first | omega | assumption) (by first | omega | assumption) (by first | assumption | (intro _ _; decide)) (by rw [sm_0, sm_0, sm_0]; omega) (Nat.lt_succ_self _)
theorem add_d1 {f : Nat → Nat} {n d p : Nat} (hn : 0 < n) (hp : p = f (n - 1) + d) : sm (va_up (fun _ => 0) (n - 1) (p % 4294967296)) n 1 + p / 4294967296 * bw 1 = sm f n 1 + d := by
  rw [sm_lay (m := 0) hn (by omega), sm_s f, sm_0, sm_0, bw_0, bw_1, show n - 1 - 0 = n - 1 by omega]; omega
theorem add_d2 {f r : Nat → Nat} {n d dl dh p p2 i j : Nat} (hn : 2 ≤ n) (hr : r = va_up (fun _ => 0) j (p % 4294967296)) (hj : j = n - 1) (hi : i = n - 1 - 1) (hd : d = dh * 4294967296 + dl) (hp : p = f j + dl) (hp2 : p2 = f i + dh + p / 4294967296) : sm (va_up r i (p2 % 4294967296)) n 2 + p2 / 4294967296 * bw 2 = sm f n 2 + d := by
  rw [sm_lay (m := 1) (by omega) hi, hr, sm_lay (m := 0) (by omega) (by omega), sm_s f n 1, sm_s f n 0, sm_0, sm_0, bw_0, bw_1, bw_2, show n - 1 - 0 = j by omega, show n - 1 - 1 = i by omega]; omega
theorem two_w {p : Nat} : wv (va_up (va_up (fun _ => 0) 1 (p % 4294967296)) 0 (p / 4294967296)) 2 = p := by
  show (0 * 4294967296 + va_up (va_up (fun _ => 0) 1 (p % 4294967296)) 0 (p / 4294967296) 0) * 4294967296 + va_up (va_up (fun _ => 0) 1 (p % 4294967296)) 0 (p / 4294967296) 1 = p
  rw [vu_eq rfl, vu_ne (by decide), vu_eq rfl]; omega
theorem two_ok {w0 w1 : Nat} (h0 : w0 < 4294967296) (h1 : w1 < 4294967296) : ∀ k, k < 2 → va_up (va_up (fun _ => 0) 1 w1) 0 w0 k < 4294967296 := by
  intro k hk
  match k, hk with
  | 0, _ => rw [vu_eq rfl]; exact h0
  | 1, _ => rw [vu_ne (by decide), vu_eq rfl]; exact h1
  | k + 2, h => omega
theorem two_v {w0 w1 : Nat} : wv (va_up (va_up (fun _ => 0) 1 w1) 0 w0) 2 = w0 * 4294967296 + w1 := by
  show (0 * 4294967296 + va_up (va_up (fun _ => 0) 1 w1) 0 w0 0) * 4294967296 + va_up (va_up (fun _ => 0) 1 w1) 0 w0 1 = _
  rw [vu_eq rfl, vu_ne (by decide), vu_eq rfl]; omega
theorem one_v {w : Nat} : wv (va_up (fun _ => 0) 0 w) 1 = w := by
  show 0 * 4294967296 + va_up (fun _ => 0) 0 w 0 = w
  rw [vu_eq rfl]; omega
theorem wv_1 (f : Nat → Nat) : wv f 1 = f 0 := by show 0 * 4294967296 + f 0 = f 0; omega
theorem wv_2 (f : Nat → Nat) : wv f 2 = f 0 * 4294967296 + f 1 := by show (0 * 4294967296 + f 0) * 4294967296 + f 1 = _; omega
theorem nd_J19_add_2 : yJ19_add_2.cls ≠ "java/lang/invoke/MethodHandle" ∧ yJ19_add_2.cls ≠ "java/lang/invoke/VarHandle" ∧ (parseMethodDescriptor yJ19_add_2.desc).map (fun d => d.parameters.length) = some 2 := by decide +kernel
set_option maxRecDepth 100000 in
set_option maxHeartbeats 16000000 in
theorem ct_J19_add_2 {g : GG} {l : Launch} (M : Nat → Option PV) (a : Nat) (n : Nat) (f : Nat → Nat) (d : Nat) (ha : at_ g M a (vA n f)) (hwX : wOK n f) (hn : 0 < n ∧ n ≤ 6) (hd : d < 9223372036854775808) : Ct g l yJ19_add_2 (ws_ yJ19_add_2 cJ19_add_2 11 (Option.some (Jvm.ClassFile.FieldType.array Jvm.ClassFile.FieldType.int))) 1 30 2 13 [.ref a, .long (jL (↑d))] [pl g M] (fun v9 Ws9 => ∃ r1 : Nat, ∃ n1 : Nat, ∃ f1 : Nat → Nat, v9 = some (.ref r1) ∧ (n1 ≤ 7) ∧ (wOK n1 f1) ∧ (wv f1 n1 = wv f n + d) ∧ Ws9 = [aN g 0 r1 n1 f1, pl g M]) (nox) := by
  refine Ct.of (cc := cJ19_add_2) (nL := 11) (ret := (Option.some (Jvm.ClassFile.FieldType.array Jvm.ClassFile.FieldType.int))) (by decide) rfl (Nat.le_of_ble_eq_true rfl) ?_
  intro x hg hl hPo hPx hmc hms F
  subst hg; subst hl
  refine SW.cast (L' := [(0, .ref a), (1, .long (jL (↑d)))]) ?_ rfl rfl rfl
  obtain ⟨dh, hdh⟩ : ∃ z : Nat, z = d / 4294967296 := ⟨_, rfl⟩
  obtain ⟨dl, hdl⟩ : ∃ z : Nat, z = d % 4294967296 := ⟨_, rfl⟩
  refine sw_lconst (n := 1) F 0 (by decide) dJ19_add_2_0 rfl ?_
  refine sw_lstore (n := 3) F (L2 := [(4, .long (jL 0)), (0, .ref a), (1, .long (jL (↑d)))]) rfl (by decide) dJ19_add_2_1 rfl ?_
  refine sw_aload_n (n := 4) F 1 (some a) rfl rfl rfl dJ19_add_2_3 rfl ?_
  refine sw_alenK (n := 5) F (plA F 0 rfl ha) dJ19_add_2_4 rfl ?_
  show SW x _ _ _ _ _ [.int (jI (↑n))]
  refine sw_istore (n := 7) F (L2 := [(6, .int (jI (↑n))), (4, .long (jL 0)), (0, .ref a), (1, .long (jL (↑d)))]) rfl (by decide) dJ19_add_2_5 rfl ?_
  refine sw_lload_n (n := 8) F 3 rfl rfl dJ19_add_2_7 rfl ?_
  refine sw_bipush (n := 10) F (32) (by decide) dJ19_add_2_8 rfl ?_
  refine sw_lushr (n := 11) F _ (jL_ushr32 _) dJ19_add_2_10 rfl ?_
  refine sw_l2i (n := 12) F dJ19_add_2_11 rfl ?_
  refine sw_top (topI (show ((↑d) % 18446744073709551616 / 4294967296 : Int) = ↑dh by omega)) ?_
  refine sw_istore (n := 14) F (L2 := [(8, .int (jI (↑dh))), (6, .int (jI (↑n))), (4, .long (jL 0)), (0, .ref a), (1, .long (jL (↑d)))]) rfl (by decide) dJ19_add_2_12 rfl ?_
  refine sw_iload (n := 16) F 0 rfl dJ19_add_2_14 rfl ?_
  refine sw_if_ne (n := 19) F (by omega) (tgt := 52) dJ19_add_2_16 (by decide) rfl (fun c_16 => ?_) (fun c_16 => ?_)
  ·
    refine sw_iload (n := 54) F 1 rfl dJ19_add_2_52 rfl ?_
    refine sw_iconst (n := 55) F (1) (by decide) dJ19_add_2_54 rfl ?_
    refine sw_icmp_ne (n := 58) F (by omega) (by decide) (tgt := 95) dJ19_add_2_55 (by decide) rfl (fun c_55 => ?_) (fun c_55 => ?_)
    ·
      refine sw_iload (n := 97) F 1 rfl dJ19_add_2_95 rfl ?_
      refine sw_newaN (n := 99) F (n) (by first | omega | rfl) (by omega) 1 7 ⟨by omega, by omega⟩ dJ19_add_2_97 rfl (fun q_1 => ?_)
      refine sw_astore (n := 101) F (some q_1) (L2 := [(7, .ref q_1), (8, .int (jI (↑dh))), (6, .int (jI (↑n))), (4, .long (jL 0)), (0, .ref a), (1, .long (jL (↑d)))]) rfl rfl (by decide) dJ19_add_2_99 rfl ?_
      refine sw_aload_n (n := 102) F 4 (some a) rfl rfl rfl dJ19_add_2_101 rfl ?_
      refine sw_iinc (n := 105) F 2 (L2 := [(6, .int (jI (↑n + (-1)))), (7, .ref q_1), (8, .int (jI (↑dh))), (4, .long (jL 0)), (0, .ref a), (1, .long (jL (↑d)))]) rfl rfl (by decide) dJ19_add_2_102 rfl ?_
      refine sw_iload (n := 107) F 0 rfl dJ19_add_2_105 rfl ?_
      refine sw_ialoadK (n := 108) F (plA F 1 rfl ha) (n - 1) (by omega) (by omega) dJ19_add_2_107 rfl ?_
      show SW x _ _ _ _ _ [.int (jI (↑(f (n - 1))))]
      have hb_2 : f (n - 1) < 4294967296 := hwX.1 _ (by omega)
      refine sw_i2lr (n := 109) F dJ19_add_2_108 rfl ?_
      refine sw_ldc2 (n := 112) F (4294967295) q1106 (by decide) dJ19_add_2_109 rfl ?_
      refine sw_land (n := 113) F (jL (↑(f (n - 1)))) (jI_wordE (by omega)) dJ19_add_2_112 rfl ?_
      refine sw_lload_n (n := 114) F 5 rfl rfl dJ19_add_2_113 rfl ?_
      refine sw_ldc2 (n := 117) F (4294967295) q1106 (by decide) dJ19_add_2_114 rfl ?_
      refine sw_land (n := 118) F (jL ((↑d) % 4294967296)) (jL_and 32 (by decide) (by rfl)) dJ19_add_2_117 rfl ?_
      refine sw_top (topL (show ((↑d) % 4294967296 : Int) = ↑dl by omega)) ?_
      refine sw_ladd (n := 119) F dJ19_add_2_118 rfl ?_
      obtain ⟨p, hp⟩ : ∃ z : Nat, z = f (n - 1) + dl := ⟨_, rfl⟩
      refine sw_top (topL (show ((↑(f (n - 1))) + (↑dl) : Int) = ↑p by omega)) ?_
      refine sw_lstore (n := 121) F (L2 := [(4, .long (jL (↑p))), (6, .int (jI (↑n + (-1)))), (7, .ref q_1), (8, .int (jI (↑dh))), (0, .ref a), (1, .long (jL (↑d)))]) rfl (by decide) dJ19_add_2_119 rfl ?_
      refine sw_aload (n := 123) F 2 (some q_1) rfl rfl dJ19_add_2_121 rfl ?_
      refine sw_iload (n := 125) F 1 rfl dJ19_add_2_123 rfl ?_
      refine sw_lload (n := 127) F 0 rfl dJ19_add_2_125 rfl ?_
      refine sw_l2i (n := 128) F dJ19_add_2_127 rfl ?_
      refine sw_iastoreW (n := 129) F 0 rfl (fun _ => rfl) (n - 1) (by omega) (by omega) (p % 4294967296) (by first | omega | rfl) [aN (xg x) 0 q_1 n (va_up (fun _ => 0) (n - 1) (p % 4294967296)), pl (xg x) M] (by rfl) dJ19_add_2_128 rfl ?_
      refine sw_aload_n (n := 130) F 4 (some a) rfl rfl rfl dJ19_add_2_129 rfl ?_
      refine sw_iinc (n := 133) F 1 (L2 := [(6, .int (jI (↑n + (-1) + (-1)))), (4, .long (jL (↑p))), (7, .ref q_1), (8, .int (jI (↑dh))), (0, .ref a), (1, .long (jL (↑d)))]) rfl rfl (by decide) dJ19_add_2_130 rfl ?_
      refine sw_iload (n := 135) F 0 rfl dJ19_add_2_133 rfl ?_
      refine sw_ialoadK (n := 136) F (plA F 1 rfl ha) (n - 1 - 1) (by omega) (by omega) dJ19_add_2_135 rfl ?_
      show SW x _ _ _ _ _ [.int (jI (↑(f (n - 1 - 1))))]
      have hb_3 : f (n - 1 - 1) < 4294967296 := hwX.1 _ (by omega)
      refine sw_i2lr (n := 137) F dJ19_add_2_136 rfl ?_
      refine sw_ldc2 (n := 140) F (4294967295) q1106 (by decide) dJ19_add_2_137 rfl ?_
      refine sw_land (n := 141) F (jL (↑(f (n - 1 - 1)))) (jI_wordE (by omega)) dJ19_add_2_140 rfl ?_
      refine sw_iload (n := 143) F 3 rfl dJ19_add_2_141 rfl ?_
      refine sw_i2lr (n := 144) F dJ19_add_2_143 rfl ?_
      refine sw_ldc2 (n := 147) F (4294967295) q1106 (by decide) dJ19_add_2_144 rfl ?_
      refine sw_land (n := 148) F (jL (↑dh)) (jI_wordE (by omega)) dJ19_add_2_147 rfl ?_
      refine sw_ladd (n := 149) F dJ19_add_2_148 rfl ?_
      refine sw_lload (n := 151) F 1 rfl dJ19_add_2_149 rfl ?_
      refine sw_bipush (n := 153) F (32) (by decide) dJ19_add_2_151 rfl ?_
      refine sw_lushr (n := 154) F _ (jL_ushr32 _) dJ19_add_2_153 rfl ?_
      refine sw_ladd (n := 155) F dJ19_add_2_154 rfl ?_
      obtain ⟨p2, hp2⟩ : ∃ z : Nat, z = f (n - 1 - 1) + dh + p / 4294967296 := ⟨_, rfl⟩
      refine sw_top (topL (show (((↑(f (n - 1 - 1))) + (↑dh)) + ((↑p) % 18446744073709551616 / 4294967296) : Int) = ↑p2 by omega)) ?_
      refine sw_lstore (n := 157) F (L2 := [(4, .long (jL (↑p2))), (6, .int (jI (↑n + (-1) + (-1)))), (7, .ref q_1), (8, .int (jI (↑dh))), (0, .ref a), (1, .long (jL (↑d)))]) rfl (by decide) dJ19_add_2_155 rfl ?_
      refine sw_aload (n := 159) F 2 (some q_1) rfl rfl dJ19_add_2_157 rfl ?_
      refine sw_iload (n := 161) F 1 rfl dJ19_add_2_159 rfl ?_
      refine sw_lload (n := 163) F 0 rfl dJ19_add_2_161 rfl ?_
      refine sw_l2i (n := 164) F dJ19_add_2_163 rfl ?_
      refine SW.cast (L' := [(4, .long (jL (↑p2))), (6, .int (jI (↑n - 2))), (7, .ref q_1), (8, .int (jI (↑dh))), (0, .ref a), (1, .long (jL (↑d)))]) ?_ rfl (by rw [show Value.int (jI (↑n + (-1) + (-1))) = Value.int (jI (↑n - 2)) from topI (by omega)]) rfl
      refine sw_iastoreW (n := 165) F 0 rfl (fun _ => rfl) (n - 1 - 1) (by omega) (by omega) (p2 % 4294967296) (by first | omega | rfl) [aN (xg x) 0 q_1 n (va_up (va_up (fun _ => 0) (n - 1) (p % 4294967296)) (n - 1 - 1) (p2 % 4294967296)), pl (xg x) M] (by rfl) dJ19_add_2_164 rfl ?_
      have K165 : ∀ (m : Nat) (rf : Nat → Nat) (p : Nat) (rr : Nat), (m ≤ n) → (p < 8589934592) → (∀ k, k < n → rf k < 4294967296) → (sm rf n m + p / 4294967296 * bw m = sm f n m + d) → SW x [aN (xg x) 0 rr n rf, pl (xg x) M] 1 7 165 [(0, .ref a), (6, .int (jI (↑n - ↑m))), (7, .ref rr), (4, .long (jL (↑p)))] [] := by
        intro m rf p rr hm hp hrf hri
        refine sw_lload (n := 167) F 3 rfl dJ19_add_2_165 rfl ?_
        refine sw_bipush (n := 169) F (32) (by decide) dJ19_add_2_167 rfl ?_
        refine sw_lushr (n := 170) F _ (jL_ushr32 _) dJ19_add_2_169 rfl ?_
        refine sw_lconst (n := 171) F 0 (by decide) dJ19_add_2_170 rfl ?_
        refine sw_lcmp (n := 172) F (by omega) (by decide) dJ19_add_2_171 rfl ?_
        refine sw_if_eq (n := 175) F (by omega) (tgt := 179) dJ19_add_2_172 (by decide) rfl (fun c_172 => ?_) (fun c_172 => ?_)
        ·
          have c_172 : (↑p) % 18446744073709551616 / 4294967296 = 0 := by revert c_172; (repeat' split) <;> omega
          refine sw_iconst (n := 180) F (0) (by decide) dJ19_add_2_179 rfl ?_
          refine sw_istore (n := 182) F (L2 := [(9, .int (jI 0)), (0, .ref a), (6, .int (jI (↑n - ↑m))), (7, .ref rr), (4, .long (jL (↑p)))]) rfl (by decide) dJ19_add_2_180 rfl ?_
          have K182 : ∀ N182 : Nat, ∀ (m : Nat) (rf : Nat → Nat) (c : Nat), (m ≤ n) → (c ≤ 1) → (∀ k, k < n → rf k < 4294967296) → (sm rf n m + c * bw m = sm f n m + d) → ((n - m) < N182) → SW x [aN (xg x) 0 rr n rf, pl (xg x) M] 1 7 182 [(0, .ref a), (6, .int (jI (↑n - ↑m))), (7, .ref rr), (9, .int (jI (↑c)))] [] := by
            intro N182; induction N182 with
            | zero => intro m rf c hm hc hrf hri hmu182; omega
            | succ N182 ih182 =>
              intro m rf c hm hc hrf hri hmu182
              refine sw_iload (n := 184) F 1 rfl dJ19_add_2_182 rfl ?_
              refine sw_if_le (n := 187) F (by omega) (tgt := 220) dJ19_add_2_184 (by decide) rfl (fun c_184 => ?_) (fun c_184 => ?_)
              ·
                have K220 : ∀ N220 : Nat, ∀ (m : Nat) (rf : Nat → Nat) (c : Nat), (m ≤ n) → (c ≤ 1) → (∀ k, k < n → rf k < 4294967296) → (sm rf n m + c * bw m = sm f n m + d) → (c = 0 ∨ m = n) → ((n - m) < N220) → SW x [aN (xg x) 0 rr n rf, pl (xg x) M] 1 7 220 [(0, .ref a), (6, .int (jI (↑n - ↑m))), (7, .ref rr), (9, .int (jI (↑c)))] [] := by
                  intro N220; induction N220 with
                  | zero => intro m rf c hm hc hrf hri hz hmu220; omega
                  | succ N220 ih220 =>
                    intro m rf c hm hc hrf hri hz hmu220
                    refine sw_iload (n := 222) F 1 rfl dJ19_add_2_220 rfl ?_
                    refine sw_if_le (n := 225) F (by omega) (tgt := 240) dJ19_add_2_222 (by decide) rfl (fun c_222 => ?_) (fun c_222 => ?_)
                    ·
                      refine sw_iload (n := 242) F 3 rfl dJ19_add_2_240 rfl ?_
                      refine sw_if_eq (n := 245) F (by omega) (tgt := 274) dJ19_add_2_242 (by decide) rfl (fun c_242 => ?_) (fun c_242 => ?_)
                      ·
                        refine sw_aload (n := 276) F 2 (some rr) rfl rfl dJ19_add_2_274 rfl ?_
                        exact sw_aret F (some rr) _ rfl rfl (by first | exact Or.inl ⟨_, rfl⟩ | exact Or.inr ⟨_, rfl⟩) dJ19_add_2_276 (by rw [hPo]; exact ⟨rr, n, rf, rfl, (by first | omega | assumption), (by first | exact carry_ok hrf | exact nocarry_ok hwX hrf (Y := d) (by have e := hri; rw [show m = n by omega, show c = 0 by omega, ← wv_sm, ← wv_sm] at e; omega) | exact wOK_nz (two_ok (by omega) (by omega)) (by rw [vu_eq rfl]; omega)), (by have e := hri; rw [show m = n by omega, show c = 0 by omega, ← wv_sm, ← wv_sm] at e; omega), rfl⟩)
                      ·
                        refine sw_aload (n := 247) F 2 (some rr) rfl rfl dJ19_add_2_245 rfl ?_
                        refine sw_alen (n := 248) F 0 rfl (fun _ => rfl) dJ19_add_2_247 rfl ?_
                        refine sw_iconst (n := 249) F (1) (by decide) dJ19_add_2_248 rfl ?_
                        refine sw_iadd (n := 250) F dJ19_add_2_249 rfl ?_
                        refine sw_newaN (n := 252) F (n + 1) (by first | omega | rfl) (by omega) 0 0 ⟨by omega, by omega⟩ dJ19_add_2_250 rfl (fun q_4 => ?_)
                        refine sw_astore (n := 254) F (some q_4) (L2 := [(10, .ref q_4), (0, .ref a), (6, .int (jI (↑n - ↑m))), (7, .ref rr), (9, .int (jI (↑c)))]) rfl rfl (by decide) dJ19_add_2_252 rfl ?_
                        refine sw_aload (n := 256) F 3 (some rr) rfl rfl dJ19_add_2_254 rfl ?_
                        refine sw_iconst (n := 257) F (0) (by decide) dJ19_add_2_256 rfl ?_
                        refine sw_aload (n := 259) F 0 (some q_4) rfl rfl dJ19_add_2_257 rfl ?_
                        refine sw_iconst (n := 260) F (1) (by decide) dJ19_add_2_259 rfl ?_
                        refine sw_aload (n := 262) F 3 (some rr) rfl rfl dJ19_add_2_260 rfl ?_
                        refine sw_alen (n := 263) F 1 rfl (fun _ => rfl) dJ19_add_2_262 rfl ?_
                        refine sw_copyN (n := 266) F 0 (hA_ar (t0 := 0) (ty := .int) (f := fun j => .int (jI (rf j : Nat))) F (i := 1) rfl (fun _ => rfl)) rfl 0 1 n (by first | rfl | omega) (by first | rfl | omega) (by first | rfl | omega) (by omega) (by omega) (by omega) q1107 q530 q529 q133 (by decide) [aN (xg x) 0 q_4 (n + 1) (va_cpy rf (fun _ => 0) 0 1 n), aN (xg x) 0 rr n rf, pl (xg x) M] rfl dJ19_add_2_263 rfl ?_
                        refine sw_aload (n := 268) F 0 (some q_4) rfl rfl dJ19_add_2_266 rfl ?_
                        refine sw_iconst (n := 269) F (0) (by decide) dJ19_add_2_268 rfl ?_
                        refine sw_iconst (n := 270) F (1) (by decide) dJ19_add_2_269 rfl ?_
                        refine sw_iastoreW (n := 271) F 0 rfl (fun _ => rfl) 0 rfl (by omega) 1 (by first | omega | rfl) [aN (xg x) 0 q_4 (n + 1) (va_up (va_cpy rf (fun _ => 0) 0 1 n) 0 1), aN (xg x) 0 rr n rf, pl (xg x) M] (by rfl) dJ19_add_2_270 rfl ?_
                        refine sw_aload (n := 273) F 0 (some q_4) rfl rfl dJ19_add_2_271 rfl ?_
                        refine sw_drop [0, 2, 1] 2 rfl [aN (xg x) 0 q_4 (n + 1) (va_up (va_cpy rf (fun _ => 0) 0 1 n) 0 1), pl (xg x) M] rfl ?_
                        exact sw_aret F (some q_4) _ rfl rfl (by first | exact Or.inl ⟨_, rfl⟩ | exact Or.inr ⟨_, rfl⟩) dJ19_add_2_273 (by rw [hPo]; exact ⟨q_4, n + 1, va_up (va_cpy rf (fun _ => 0) 0 1 n) 0 1, rfl, (by first | omega | assumption), (by first | exact carry_ok hrf | exact nocarry_ok hwX hrf (Y := d) (by have e := hri; rw [show m = n by omega, show c = 0 by omega, ← wv_sm, ← wv_sm] at e; omega) | exact wOK_nz (two_ok (by omega) (by omega)) (by rw [vu_eq rfl]; omega)), (by rw [wv_carry]; have e := hri; rw [show m = n by omega, show c = 1 by omega, ← wv_sm, ← wv_sm] at e; omega), rfl⟩)
                    ·
                      refine sw_aload (n := 227) F 2 (some rr) rfl rfl dJ19_add_2_225 rfl ?_
                      refine sw_iinc (n := 230) F 1 (L2 := [(6, .int (jI (↑n - ↑m + (-1)))), (0, .ref a), (7, .ref rr), (9, .int (jI (↑c)))]) rfl rfl (by decide) dJ19_add_2_227 rfl ?_
                      refine sw_iload (n := 232) F 0 rfl dJ19_add_2_230 rfl ?_
                      refine sw_aload_n (n := 233) F 1 (some a) rfl rfl rfl dJ19_add_2_232 rfl ?_
                      refine sw_iload (n := 235) F 0 rfl dJ19_add_2_233 rfl ?_
                      refine sw_ialoadK (n := 236) F (plA F 1 rfl ha) (n - m - 1) (by omega) (by omega) dJ19_add_2_235 rfl ?_
                      show SW x _ _ _ _ _ [.int (jI (↑(f (n - m - 1)))), .int (jI (↑n - ↑m + (-1))), .ref rr]
                      refine sw_iastoreW (n := 237) F 0 rfl (fun _ => rfl) (n - m - 1) (by omega) (by omega) (f (n - m - 1)) (by first | omega | rfl) [aN (xg x) 0 rr n (va_up rf (n - m - 1) (f (n - m - 1))), pl (xg x) M] (by rfl) dJ19_add_2_236 rfl ?_
                      refine sw_goto F (n := 220) dJ19_add_2_237 (by decide) ?_
                      refine sw_loc [1, 0, 2, 3] (L2 := [(0, .ref a), (6, .int (jI (↑n - ↑m + (-1)))), (7, .ref rr), (9, .int (jI (↑c)))]) rfl ?_
                      rw [show (↑n - ↑m + (-1) : Int) = ↑n - ↑(m + 1) by omega]
                      exact ih220 (m + 1) (va_up rf (n - m - 1) (f (n - m - 1))) c (by first | omega | assumption) hc (by exact up_lt hrf (hwX.1 _ (by omega))) (by exact cpy_step hri (by omega) (by omega) (by omega)) (by first | omega | assumption) (by omega)
                exact K220 _ m rf c hm hc (by first | assumption | exact up_lt (fun _ _ => by decide) (by omega) | exact up_lt (up_lt (fun _ _ => by decide) (by omega)) (by omega)) hri (by first | omega | assumption) (Nat.lt_succ_self _)
              ·
                refine sw_iload (n := 189) F 3 rfl dJ19_add_2_187 rfl ?_
                refine sw_if_eq (n := 192) F (by omega) (tgt := 220) dJ19_add_2_189 (by decide) rfl (fun c_189 => ?_) (fun c_189 => ?_)
                ·
                  have K220 : ∀ N220 : Nat, ∀ (m : Nat) (rf : Nat → Nat) (c : Nat), (m ≤ n) → (c ≤ 1) → (∀ k, k < n → rf k < 4294967296) → (sm rf n m + c * bw m = sm f n m + d) → (c = 0 ∨ m = n) → ((n - m) < N220) → SW x [aN (xg x) 0 rr n rf, pl (xg x) M] 1 7 220 [(0, .ref a), (6, .int (jI (↑n - ↑m))), (7, .ref rr), (9, .int (jI (↑c)))] [] := by
                    intro N220; induction N220 with
                    | zero => intro m rf c hm hc hrf hri hz hmu220; omega
                    | succ N220 ih220 =>
                      intro m rf c hm hc hrf hri hz hmu220
                      refine sw_iload (n := 222) F 1 rfl dJ19_add_2_220 rfl ?_
                      refine sw_if_le (n := 225) F (by omega) (tgt := 240) dJ19_add_2_222 (by decide) rfl (fun c_222 => ?_) (fun c_222 => ?_)
                      ·
                        refine sw_iload (n := 242) F 3 rfl dJ19_add_2_240 rfl ?_
                        refine sw_if_eq (n := 245) F (by omega) (tgt := 274) dJ19_add_2_242 (by decide) rfl (fun c_242 => ?_) (fun c_242 => ?_)
                        ·
                          refine sw_aload (n := 276) F 2 (some rr) rfl rfl dJ19_add_2_274 rfl ?_
                          exact sw_aret F (some rr) _ rfl rfl (by first | exact Or.inl ⟨_, rfl⟩ | exact Or.inr ⟨_, rfl⟩) dJ19_add_2_276 (by rw [hPo]; exact ⟨rr, n, rf, rfl, (by first | omega | assumption), (by first | exact carry_ok hrf | exact nocarry_ok hwX hrf (Y := d) (by have e := hri; rw [show m = n by omega, show c = 0 by omega, ← wv_sm, ← wv_sm] at e; omega) | exact wOK_nz (two_ok (by omega) (by omega)) (by rw [vu_eq rfl]; omega)), (by have e := hri; rw [show m = n by omega, show c = 0 by omega, ← wv_sm, ← wv_sm] at e; omega), rfl⟩)
                        ·
                          refine sw_aload (n := 247) F 2 (some rr) rfl rfl dJ19_add_2_245 rfl ?_
                          refine sw_alen (n := 248) F 0 rfl (fun _ => rfl) dJ19_add_2_247 rfl ?_
                          refine sw_iconst (n := 249) F (1) (by decide) dJ19_add_2_248 rfl ?_
                          refine sw_iadd (n := 250) F dJ19_add_2_249 rfl ?_
                          refine sw_newaN (n := 252) F (n + 1) (by first | omega | rfl) (by omega) 0 0 ⟨by omega, by omega⟩ dJ19_add_2_250 rfl (fun q_5 => ?_)
                          refine sw_astore (n := 254) F (some q_5) (L2 := [(10, .ref q_5), (0, .ref a), (6, .int (jI (↑n - ↑m))), (7, .ref rr), (9, .int (jI (↑c)))]) rfl rfl (by decide) dJ19_add_2_252 rfl ?_
                          refine sw_aload (n := 256) F 3 (some rr) rfl rfl dJ19_add_2_254 rfl ?_
                          refine sw_iconst (n := 257) F (0) (by decide) dJ19_add_2_256 rfl ?_
                          refine sw_aload (n := 259) F 0 (some q_5) rfl rfl dJ19_add_2_257 rfl ?_
                          refine sw_iconst (n := 260) F (1) (by decide) dJ19_add_2_259 rfl ?_
                          refine sw_aload (n := 262) F 3 (some rr) rfl rfl dJ19_add_2_260 rfl ?_
                          refine sw_alen (n := 263) F 1 rfl (fun _ => rfl) dJ19_add_2_262 rfl ?_
                          refine sw_copyN (n := 266) F 0 (hA_ar (t0 := 0) (ty := .int) (f := fun j => .int (jI (rf j : Nat))) F (i := 1) rfl (fun _ => rfl)) rfl 0 1 n (by first | rfl | omega) (by first | rfl | omega) (by first | rfl | omega) (by omega) (by omega) (by omega) q1107 q530 q529 q133 (by decide) [aN (xg x) 0 q_5 (n + 1) (va_cpy rf (fun _ => 0) 0 1 n), aN (xg x) 0 rr n rf, pl (xg x) M] rfl dJ19_add_2_263 rfl ?_
                          refine sw_aload (n := 268) F 0 (some q_5) rfl rfl dJ19_add_2_266 rfl ?_
                          refine sw_iconst (n := 269) F (0) (by decide) dJ19_add_2_268 rfl ?_
                          refine sw_iconst (n := 270) F (1) (by decide) dJ19_add_2_269 rfl ?_
                          refine sw_iastoreW (n := 271) F 0 rfl (fun _ => rfl) 0 rfl (by omega) 1 (by first | omega | rfl) [aN (xg x) 0 q_5 (n + 1) (va_up (va_cpy rf (fun _ => 0) 0 1 n) 0 1), aN (xg x) 0 rr n rf, pl (xg x) M] (by rfl) dJ19_add_2_270 rfl ?_
                          refine sw_aload (n := 273) F 0 (some q_5) rfl rfl dJ19_add_2_271 rfl ?_
                          refine sw_drop [0, 2, 1] 2 rfl [aN (xg x) 0 q_5 (n + 1) (va_up (va_cpy rf (fun _ => 0) 0 1 n) 0 1), pl (xg x) M] rfl ?_
                          exact sw_aret F (some q_5) _ rfl rfl (by first | exact Or.inl ⟨_, rfl⟩ | exact Or.inr ⟨_, rfl⟩) dJ19_add_2_273 (by rw [hPo]; exact ⟨q_5, n + 1, va_up (va_cpy rf (fun _ => 0) 0 1 n) 0 1, rfl, (by first | omega | assumption), (by first | exact carry_ok hrf | exact nocarry_ok hwX hrf (Y := d) (by have e := hri; rw [show m = n by omega, show c = 0 by omega, ← wv_sm, ← wv_sm] at e; omega) | exact wOK_nz (two_ok (by omega) (by omega)) (by rw [vu_eq rfl]; omega)), (by rw [wv_carry]; have e := hri; rw [show m = n by omega, show c = 1 by omega, ← wv_sm, ← wv_sm] at e; omega), rfl⟩)
                      ·
                        refine sw_aload (n := 227) F 2 (some rr) rfl rfl dJ19_add_2_225 rfl ?_
                        refine sw_iinc (n := 230) F 1 (L2 := [(6, .int (jI (↑n - ↑m + (-1)))), (0, .ref a), (7, .ref rr), (9, .int (jI (↑c)))]) rfl rfl (by decide) dJ19_add_2_227 rfl ?_
                        refine sw_iload (n := 232) F 0 rfl dJ19_add_2_230 rfl ?_
                        refine sw_aload_n (n := 233) F 1 (some a) rfl rfl rfl dJ19_add_2_232 rfl ?_
                        refine sw_iload (n := 235) F 0 rfl dJ19_add_2_233 rfl ?_
                        refine sw_ialoadK (n := 236) F (plA F 1 rfl ha) (n - m - 1) (by omega) (by omega) dJ19_add_2_235 rfl ?_
                        show SW x _ _ _ _ _ [.int (jI (↑(f (n - m - 1)))), .int (jI (↑n - ↑m + (-1))), .ref rr]
                        refine sw_iastoreW (n := 237) F 0 rfl (fun _ => rfl) (n - m - 1) (by omega) (by omega) (f (n - m - 1)) (by first | omega | rfl) [aN (xg x) 0 rr n (va_up rf (n - m - 1) (f (n - m - 1))), pl (xg x) M] (by rfl) dJ19_add_2_236 rfl ?_
                        refine sw_goto F (n := 220) dJ19_add_2_237 (by decide) ?_
                        refine sw_loc [1, 0, 2, 3] (L2 := [(0, .ref a), (6, .int (jI (↑n - ↑m + (-1)))), (7, .ref rr), (9, .int (jI (↑c)))]) rfl ?_
                        rw [show (↑n - ↑m + (-1) : Int) = ↑n - ↑(m + 1) by omega]
                        exact ih220 (m + 1) (va_up rf (n - m - 1) (f (n - m - 1))) c (by first | omega | assumption) hc (by exact up_lt hrf (hwX.1 _ (by omega))) (by exact cpy_step hri (by omega) (by omega) (by omega)) (by first | omega | assumption) (by omega)
                  exact K220 _ m rf c hm hc (by first | assumption | exact up_lt (fun _ _ => by decide) (by omega) | exact up_lt (up_lt (fun _ _ => by decide) (by omega)) (by omega)) hri (by first | omega | assumption) (Nat.lt_succ_self _)
                ·
                  refine sw_aload (n := 194) F 2 (some rr) rfl rfl dJ19_add_2_192 rfl ?_
                  refine sw_iinc (n := 197) F 1 (L2 := [(6, .int (jI (↑n - ↑m + (-1)))), (0, .ref a), (7, .ref rr), (9, .int (jI (↑c)))]) rfl rfl (by decide) dJ19_add_2_194 rfl ?_
                  refine sw_iload (n := 199) F 0 rfl dJ19_add_2_197 rfl ?_
                  refine sw_aload_n (n := 200) F 1 (some a) rfl rfl rfl dJ19_add_2_199 rfl ?_
                  refine sw_iload (n := 202) F 0 rfl dJ19_add_2_200 rfl ?_
                  refine sw_ialoadK (n := 203) F (plA F 1 rfl ha) (n - m - 1) (by omega) (by omega) dJ19_add_2_202 rfl ?_
                  show SW x _ _ _ _ _ [.int (jI (↑(f (n - m - 1)))), .int (jI (↑n - ↑m + (-1))), .ref rr]
                  refine sw_iconst (n := 204) F (1) (by decide) dJ19_add_2_203 rfl ?_
                  refine sw_iadd (n := 205) F dJ19_add_2_204 rfl ?_
                  have hb_x : f (n - m - 1) < 4294967296 := hwX.1 _ (by omega)
                  refine sw_top (topIm (show ((↑(f (n - m - 1))) + 1 : Int) % 4294967296 = (↑((f (n - m - 1) + 1) % 4294967296)) % 4294967296 by omega)) ?_
                  refine sw_dup_x2 (n := 206) F rfl rfl rfl dJ19_add_2_205 rfl ?_
                  refine sw_iastoreW (n := 207) F 0 rfl (fun _ => rfl) (n - m - 1) (by omega) (by omega) ((f (n - m - 1) + 1) % 4294967296) (by first | omega | rfl) [aN (xg x) 0 rr n (va_up rf (n - m - 1) ((f (n - m - 1) + 1) % 4294967296)), pl (xg x) M] (by rfl) dJ19_add_2_206 rfl ?_
                  refine sw_if_neU (n := 210) F (by omega) (tgt := 214) dJ19_add_2_207 (by decide) rfl (fun c_207 => ?_) (fun c_207 => ?_)
                  ·
                    refine sw_iconst (n := 215) F (0) (by decide) dJ19_add_2_214 rfl ?_
                    refine sw_istore (n := 217) F (L2 := [(9, .int (jI 0)), (6, .int (jI (↑n - ↑m + (-1)))), (0, .ref a), (7, .ref rr)]) rfl (by decide) dJ19_add_2_215 rfl ?_
                    refine sw_goto F (n := 182) dJ19_add_2_217 (by decide) ?_
                    refine sw_loc [2, 1, 3, 0] (L2 := [(0, .ref a), (6, .int (jI (↑n - ↑m + (-1)))), (7, .ref rr), (9, .int (jI 0))]) rfl ?_
                    rw [show (↑n - ↑m + (-1) : Int) = ↑n - ↑(m + 1) by omega]
                    exact ih182 (m + 1) (va_up rf (n - m - 1) ((f (n - m - 1) + 1) % 4294967296)) 0 (by first | omega | assumption) (by first | omega | assumption) (by exact up_lt hrf (by omega)) (by exact inc_step hri (by omega) (by omega) (by omega) (by omega)) (by omega)
                  ·
                    refine sw_iconst (n := 211) F (1) (by decide) dJ19_add_2_210 rfl ?_
                    refine sw_goto F (n := 215) dJ19_add_2_211 (by decide) ?_
                    refine sw_istore (n := 217) F (L2 := [(9, .int (jI 1)), (6, .int (jI (↑n - ↑m + (-1)))), (0, .ref a), (7, .ref rr)]) rfl (by decide) dJ19_add_2_215 rfl ?_
                    refine sw_goto F (n := 182) dJ19_add_2_217 (by decide) ?_
                    refine sw_loc [2, 1, 3, 0] (L2 := [(0, .ref a), (6, .int (jI (↑n - ↑m + (-1)))), (7, .ref rr), (9, .int (jI 1))]) rfl ?_
                    rw [show (↑n - ↑m + (-1) : Int) = ↑n - ↑(m + 1) by omega]
                    exact ih182 (m + 1) (va_up rf (n - m - 1) ((f (n - m - 1) + 1) % 4294967296)) 1 (by first | omega | assumption) (by first | omega | assumption) (by exact up_lt hrf (by omega)) (by exact inc_step hri (by omega) (by omega) (by omega) (by omega)) (by omega)
          refine sw_loc [1, 2, 3, 0] (L2 := [(0, .ref a), (6, .int (jI (↑n - ↑m))), (7, .ref rr), (9, .int (jI 0))]) rfl ?_
          exact K182 _ m rf 0 hm (by first | omega | assumption) (by first | assumption | exact up_lt (fun _ _ => by decide) (by omega) | exact up_lt (up_lt (fun _ _ => by decide) (by omega)) (by omega)) (by first | (rw [show p / 4294967296 = 1 by omega] at hri; exact hri) | (rw [show p / 4294967296 = 0 by omega] at hri; exact hri)) (Nat.lt_succ_self _)
        ·
          have c_172 : (↑p) % 18446744073709551616 / 4294967296 ≠ 0 := by revert c_172; (repeat' split) <;> omega
          refine sw_iconst (n := 176) F (1) (by decide) dJ19_add_2_175 rfl ?_
          refine sw_goto F (n := 180) dJ19_add_2_176 (by decide) ?_
          refine sw_istore (n := 182) F (L2 := [(9, .int (jI 1)), (0, .ref a), (6, .int (jI (↑n - ↑m))), (7, .ref rr), (4, .long (jL (↑p)))]) rfl (by decide) dJ19_add_2_180 rfl ?_
          have K182 : ∀ N182 : Nat, ∀ (m : Nat) (rf : Nat → Nat) (c : Nat), (m ≤ n) → (c ≤ 1) → (∀ k, k < n → rf k < 4294967296) → (sm rf n m + c * bw m = sm f n m + d) → ((n - m) < N182) → SW x [aN (xg x) 0 rr n rf, pl (xg x) M] 1 7 182 [(0, .ref a), (6, .int (jI (↑n - ↑m))), (7, .ref rr), (9, .int (jI (↑c)))] [] := by
            intro N182; induction N182 with
            | zero => intro m rf c hm hc hrf hri hmu182; omega
            | succ N182 ih182 =>
              intro m rf c hm hc hrf hri hmu182
              refine sw_iload (n := 184) F 1 rfl dJ19_add_2_182 rfl ?_
              refine sw_if_le (n := 187) F (by omega) (tgt := 220) dJ19_add_2_184 (by decide) rfl (fun c_184 => ?_) (fun c_184 => ?_)
              ·
                have K220 : ∀ N220 : Nat, ∀ (m : Nat) (rf : Nat → Nat) (c : Nat), (m ≤ n) → (c ≤ 1) → (∀ k, k < n → rf k < 4294967296) → (sm rf n m + c * bw m = sm f n m + d) → (c = 0 ∨ m = n) → ((n - m) < N220) → SW x [aN (xg x) 0 rr n rf, pl (xg x) M] 1 7 220 [(0, .ref a), (6, .int (jI (↑n - ↑m))), (7, .ref rr), (9, .int (jI (↑c)))] [] := by
                  intro N220; induction N220 with
                  | zero => intro m rf c hm hc hrf hri hz hmu220; omega
                  | succ N220 ih220 =>
                    intro m rf c hm hc hrf hri hz hmu220
                    refine sw_iload (n := 222) F 1 rfl dJ19_add_2_220 rfl ?_
                    refine sw_if_le (n := 225) F (by omega) (tgt := 240) dJ19_add_2_222 (by decide) rfl (fun c_222 => ?_) (fun c_222 => ?_)
                    ·
                      refine sw_iload (n := 242) F 3 rfl dJ19_add_2_240 rfl ?_
                      refine sw_if_eq (n := 245) F (by omega) (tgt := 274) dJ19_add_2_242 (by decide) rfl (fun c_242 => ?_) (fun c_242 => ?_)
                      ·
                        refine sw_aload (n := 276) F 2 (some rr) rfl rfl dJ19_add_2_274 rfl ?_
                        exact sw_aret F (some rr) _ rfl rfl (by first | exact Or.inl ⟨_, rfl⟩ | exact Or.inr ⟨_, rfl⟩) dJ19_add_2_276 (by rw [hPo]; exact ⟨rr, n, rf, rfl, (by first | omega | assumption), (by first | exact carry_ok hrf | exact nocarry_ok hwX hrf (Y := d) (by have e := hri; rw [show m = n by omega, show c = 0 by omega, ← wv_sm, ← wv_sm] at e; omega) | exact wOK_nz (two_ok (by omega) (by omega)) (by rw [vu_eq rfl]; omega)), (by have e := hri; rw [show m = n by omega, show c = 0 by omega, ← wv_sm, ← wv_sm] at e; omega), rfl⟩)
                      ·
                        refine sw_aload (n := 247) F 2 (some rr) rfl rfl dJ19_add_2_245 rfl ?_
                        refine sw_alen (n := 248) F 0 rfl (fun _ => rfl) dJ19_add_2_247 rfl ?_
                        refine sw_iconst (n := 249) F (1) (by decide) dJ19_add_2_248 rfl ?_
                        refine sw_iadd (n := 250) F dJ19_add_2_249 rfl ?_
                        refine sw_newaN (n := 252) F (n + 1) (by first | omega | rfl) (by omega) 0 0 ⟨by omega, by omega⟩ dJ19_add_2_250 rfl (fun q_6 => ?_)
                        refine sw_astore (n := 254) F (some q_6) (L2 := [(10, .ref q_6), (0, .ref a), (6, .int (jI (↑n - ↑m))), (7, .ref rr), (9, .int (jI (↑c)))]) rfl rfl (by decide) dJ19_add_2_252 rfl ?_
                        refine sw_aload (n := 256) F 3 (some rr) rfl rfl dJ19_add_2_254 rfl ?_
                        refine sw_iconst (n := 257) F (0) (by decide) dJ19_add_2_256 rfl ?_
                        refine sw_aload (n := 259) F 0 (some q_6) rfl rfl dJ19_add_2_257 rfl ?_
                        refine sw_iconst (n := 260) F (1) (by decide) dJ19_add_2_259 rfl ?_
                        refine sw_aload (n := 262) F 3 (some rr) rfl rfl dJ19_add_2_260 rfl ?_
                        refine sw_alen (n := 263) F 1 rfl (fun _ => rfl) dJ19_add_2_262 rfl ?_
                        refine sw_copyN (n := 266) F 0 (hA_ar (t0 := 0) (ty := .int) (f := fun j => .int (jI (rf j : Nat))) F (i := 1) rfl (fun _ => rfl)) rfl 0 1 n (by first | rfl | omega) (by first | rfl | omega) (by first | rfl | omega) (by omega) (by omega) (by omega) q1107 q530 q529 q133 (by decide) [aN (xg x) 0 q_6 (n + 1) (va_cpy rf (fun _ => 0) 0 1 n), aN (xg x) 0 rr n rf, pl (xg x) M] rfl dJ19_add_2_263 rfl ?_
                        refine sw_aload (n := 268) F 0 (some q_6) rfl rfl dJ19_add_2_266 rfl ?_
                        refine sw_iconst (n := 269) F (0) (by decide) dJ19_add_2_268 rfl ?_
                        refine sw_iconst (n := 270) F (1) (by decide) dJ19_add_2_269 rfl ?_
                        refine sw_iastoreW (n := 271) F 0 rfl (fun _ => rfl) 0 rfl (by omega) 1 (by first | omega | rfl) [aN (xg x) 0 q_6 (n + 1) (va_up (va_cpy rf (fun _ => 0) 0 1 n) 0 1), aN (xg x) 0 rr n rf, pl (xg x) M] (by rfl) dJ19_add_2_270 rfl ?_
                        refine sw_aload (n := 273) F 0 (some q_6) rfl rfl dJ19_add_2_271 rfl ?_
                        refine sw_drop [0, 2, 1] 2 rfl [aN (xg x) 0 q_6 (n + 1) (va_up (va_cpy rf (fun _ => 0) 0 1 n) 0 1), pl (xg x) M] rfl ?_
                        exact sw_aret F (some q_6) _ rfl rfl (by first | exact Or.inl ⟨_, rfl⟩ | exact Or.inr ⟨_, rfl⟩) dJ19_add_2_273 (by rw [hPo]; exact ⟨q_6, n + 1, va_up (va_cpy rf (fun _ => 0) 0 1 n) 0 1, rfl, (by first | omega | assumption), (by first | exact carry_ok hrf | exact nocarry_ok hwX hrf (Y := d) (by have e := hri; rw [show m = n by omega, show c = 0 by omega, ← wv_sm, ← wv_sm] at e; omega) | exact wOK_nz (two_ok (by omega) (by omega)) (by rw [vu_eq rfl]; omega)), (by rw [wv_carry]; have e := hri; rw [show m = n by omega, show c = 1 by omega, ← wv_sm, ← wv_sm] at e; omega), rfl⟩)
                    ·
                      refine sw_aload (n := 227) F 2 (some rr) rfl rfl dJ19_add_2_225 rfl ?_
                      refine sw_iinc (n := 230) F 1 (L2 := [(6, .int (jI (↑n - ↑m + (-1)))), (0, .ref a), (7, .ref rr), (9, .int (jI (↑c)))]) rfl rfl (by decide) dJ19_add_2_227 rfl ?_
                      refine sw_iload (n := 232) F 0 rfl dJ19_add_2_230 rfl ?_
                      refine sw_aload_n (n := 233) F 1 (some a) rfl rfl rfl dJ19_add_2_232 rfl ?_
                      refine sw_iload (n := 235) F 0 rfl dJ19_add_2_233 rfl ?_
                      refine sw_ialoadK (n := 236) F (plA F 1 rfl ha) (n - m - 1) (by omega) (by omega) dJ19_add_2_235 rfl ?_
                      show SW x _ _ _ _ _ [.int (jI (↑(f (n - m - 1)))), .int (jI (↑n - ↑m + (-1))), .ref rr]
                      refine sw_iastoreW (n := 237) F 0 rfl (fun _ => rfl) (n - m - 1) (by omega) (by omega) (f (n - m - 1)) (by first | omega | rfl) [aN (xg x) 0 rr n (va_up rf (n - m - 1) (f (n - m - 1))), pl (xg x) M] (by rfl) dJ19_add_2_236 rfl ?_
                      refine sw_goto F (n := 220) dJ19_add_2_237 (by decide) ?_
                      refine sw_loc [1, 0, 2, 3] (L2 := [(0, .ref a), (6, .int (jI (↑n - ↑m + (-1)))), (7, .ref rr), (9, .int (jI (↑c)))]) rfl ?_
                      rw [show (↑n - ↑m + (-1) : Int) = ↑n - ↑(m + 1) by omega]
                      exact ih220 (m + 1) (va_up rf (n - m - 1) (f (n - m - 1))) c (by first | omega | assumption) hc (by exact up_lt hrf (hwX.1 _ (by omega))) (by exact cpy_step hri (by omega) (by omega) (by omega)) (by first | omega | assumption) (by omega)
                exact K220 _ m rf c hm hc (by first | assumption | exact up_lt (fun _ _ => by decide) (by omega) | exact up_lt (up_lt (fun _ _ => by decide) (by omega)) (by omega)) hri (by first | omega | assumption) (Nat.lt_succ_self _)
              ·
                refine sw_iload (n := 189) F 3 rfl dJ19_add_2_187 rfl ?_
                refine sw_if_eq (n := 192) F (by omega) (tgt := 220) dJ19_add_2_189 (by decide) rfl (fun c_189 => ?_) (fun c_189 => ?_)
                ·
                  have K220 : ∀ N220 : Nat, ∀ (m : Nat) (rf : Nat → Nat) (c : Nat), (m ≤ n) → (c ≤ 1) → (∀ k, k < n → rf k < 4294967296) → (sm rf n m + c * bw m = sm f n m + d) → (c = 0 ∨ m = n) → ((n - m) < N220) → SW x [aN (xg x) 0 rr n rf, pl (xg x) M] 1 7 220 [(0, .ref a), (6, .int (jI (↑n - ↑m))), (7, .ref rr), (9, .int (jI (↑c)))] [] := by
                    intro N220; induction N220 with
                    | zero => intro m rf c hm hc hrf hri hz hmu220; omega
                    | succ N220 ih220 =>
                      intro m rf c hm hc hrf hri hz hmu220
                      refine sw_iload (n := 222) F 1 rfl dJ19_add_2_220 rfl ?_
                      refine sw_if_le (n := 225) F (by omega) (tgt := 240) dJ19_add_2_222 (by decide) rfl (fun c_222 => ?_) (fun c_222 => ?_)
                      ·
                        refine sw_iload (n := 242) F 3 rfl dJ19_add_2_240 rfl ?_
                        refine sw_if_eq (n := 245) F (by omega) (tgt := 274) dJ19_add_2_242 (by decide) rfl (fun c_242 => ?_) (fun c_242 => ?_)
                        ·
                          refine sw_aload (n := 276) F 2 (some rr) rfl rfl dJ19_add_2_274 rfl ?_
                          exact sw_aret F (some rr) _ rfl rfl (by first | exact Or.inl ⟨_, rfl⟩ | exact Or.inr ⟨_, rfl⟩) dJ19_add_2_276 (by rw [hPo]; exact ⟨rr, n, rf, rfl, (by first | omega | assumption), (by first | exact carry_ok hrf | exact nocarry_ok hwX hrf (Y := d) (by have e := hri; rw [show m = n by omega, show c = 0 by omega, ← wv_sm, ← wv_sm] at e; omega) | exact wOK_nz (two_ok (by omega) (by omega)) (by rw [vu_eq rfl]; omega)), (by have e := hri; rw [show m = n by omega, show c = 0 by omega, ← wv_sm, ← wv_sm] at e; omega), rfl⟩)
                        ·
                          refine sw_aload (n := 247) F 2 (some rr) rfl rfl dJ19_add_2_245 rfl ?_
                          refine sw_alen (n := 248) F 0 rfl (fun _ => rfl) dJ19_add_2_247 rfl ?_
                          refine sw_iconst (n := 249) F (1) (by decide) dJ19_add_2_248 rfl ?_
                          refine sw_iadd (n := 250) F dJ19_add_2_249 rfl ?_
                          refine sw_newaN (n := 252) F (n + 1) (by first | omega | rfl) (by omega) 0 0 ⟨by omega, by omega⟩ dJ19_add_2_250 rfl (fun q_7 => ?_)
                          refine sw_astore (n := 254) F (some q_7) (L2 := [(10, .ref q_7), (0, .ref a), (6, .int (jI (↑n - ↑m))), (7, .ref rr), (9, .int (jI (↑c)))]) rfl rfl (by decide) dJ19_add_2_252 rfl ?_
                          refine sw_aload (n := 256) F 3 (some rr) rfl rfl dJ19_add_2_254 rfl ?_
                          refine sw_iconst (n := 257) F (0) (by decide) dJ19_add_2_256 rfl ?_
                          refine sw_aload (n := 259) F 0 (some q_7) rfl rfl dJ19_add_2_257 rfl ?_
                          refine sw_iconst (n := 260) F (1) (by decide) dJ19_add_2_259 rfl ?_
                          refine sw_aload (n := 262) F 3 (some rr) rfl rfl dJ19_add_2_260 rfl ?_
                          refine sw_alen (n := 263) F 1 rfl (fun _ => rfl) dJ19_add_2_262 rfl ?_
                          refine sw_copyN (n := 266) F 0 (hA_ar (t0 := 0) (ty := .int) (f := fun j => .int (jI (rf j : Nat))) F (i := 1) rfl (fun _ => rfl)) rfl 0 1 n (by first | rfl | omega) (by first | rfl | omega) (by first | rfl | omega) (by omega) (by omega) (by omega) q1107 q530 q529 q133 (by decide) [aN (xg x) 0 q_7 (n + 1) (va_cpy rf (fun _ => 0) 0 1 n), aN (xg x) 0 rr n rf, pl (xg x) M] rfl dJ19_add_2_263 rfl ?_
                          refine sw_aload (n := 268) F 0 (some q_7) rfl rfl dJ19_add_2_266 rfl ?_
                          refine sw_iconst (n := 269) F (0) (by decide) dJ19_add_2_268 rfl ?_
                          refine sw_iconst (n := 270) F (1) (by decide) dJ19_add_2_269 rfl ?_
                          refine sw_iastoreW (n := 271) F 0 rfl (fun _ => rfl) 0 rfl (by omega) 1 (by first | omega | rfl) [aN (xg x) 0 q_7 (n + 1) (va_up (va_cpy rf (fun _ => 0) 0 1 n) 0 1), aN (xg x) 0 rr n rf, pl (xg x) M] (by rfl) dJ19_add_2_270 rfl ?_
                          refine sw_aload (n := 273) F 0 (some q_7) rfl rfl dJ19_add_2_271 rfl ?_
                          refine sw_drop [0, 2, 1] 2 rfl [aN (xg x) 0 q_7 (n + 1) (va_up (va_cpy rf (fun _ => 0) 0 1 n) 0 1), pl (xg x) M] rfl ?_
                          exact sw_aret F (some q_7) _ rfl rfl (by first | exact Or.inl ⟨_, rfl⟩ | exact Or.inr ⟨_, rfl⟩) dJ19_add_2_273 (by rw [hPo]; exact ⟨q_7, n + 1, va_up (va_cpy rf (fun _ => 0) 0 1 n) 0 1, rfl, (by first | omega | assumption), (by first | exact carry_ok hrf | exact nocarry_ok hwX hrf (Y := d) (by have e := hri; rw [show m = n by omega, show c = 0 by omega, ← wv_sm, ← wv_sm] at e; omega) | exact wOK_nz (two_ok (by omega) (by omega)) (by rw [vu_eq rfl]; omega)), (by rw [wv_carry]; have e := hri; rw [show m = n by omega, show c = 1 by omega, ← wv_sm, ← wv_sm] at e; omega), rfl⟩)
                      ·
                        refine sw_aload (n := 227) F 2 (some rr) rfl rfl dJ19_add_2_225 rfl ?_
                        refine sw_iinc (n := 230) F 1 (L2 := [(6, .int (jI (↑n - ↑m + (-1)))), (0, .ref a), (7, .ref rr), (9, .int (jI (↑c)))]) rfl rfl (by decide) dJ19_add_2_227 rfl ?_
                        refine sw_iload (n := 232) F 0 rfl dJ19_add_2_230 rfl ?_
                        refine sw_aload_n (n := 233) F 1 (some a) rfl rfl rfl dJ19_add_2_232 rfl ?_
                        refine sw_iload (n := 235) F 0 rfl dJ19_add_2_233 rfl ?_
                        refine sw_ialoadK (n := 236) F (plA F 1 rfl ha) (n - m - 1) (by omega) (by omega) dJ19_add_2_235 rfl ?_
                        show SW x _ _ _ _ _ [.int (jI (↑(f (n - m - 1)))), .int (jI (↑n - ↑m + (-1))), .ref rr]
                        refine sw_iastoreW (n := 237) F 0 rfl (fun _ => rfl) (n - m - 1) (by omega) (by omega) (f (n - m - 1)) (by first | omega | rfl) [aN (xg x) 0 rr n (va_up rf (n - m - 1) (f (n - m - 1))), pl (xg x) M] (by rfl) dJ19_add_2_236 rfl ?_
                        refine sw_goto F (n := 220) dJ19_add_2_237 (by decide) ?_
                        refine sw_loc [1, 0, 2, 3] (L2 := [(0, .ref a), (6, .int (jI (↑n - ↑m + (-1)))), (7, .ref rr), (9, .int (jI (↑c)))]) rfl ?_
                        rw [show (↑n - ↑m + (-1) : Int) = ↑n - ↑(m + 1) by omega]
                        exact ih220 (m + 1) (va_up rf (n - m - 1) (f (n - m - 1))) c (by first | omega | assumption) hc (by exact up_lt hrf (hwX.1 _ (by omega))) (by exact cpy_step hri (by omega) (by omega) (by omega)) (by first | omega | assumption) (by omega)
                  exact K220 _ m rf c hm hc (by first | assumption | exact up_lt (fun _ _ => by decide) (by omega) | exact up_lt (up_lt (fun _ _ => by decide) (by omega)) (by omega)) hri (by first | omega | assumption) (Nat.lt_succ_self _)
                ·
                  refine sw_aload (n := 194) F 2 (some rr) rfl rfl dJ19_add_2_192 rfl ?_
                  refine sw_iinc (n := 197) F 1 (L2 := [(6, .int (jI (↑n - ↑m + (-1)))), (0, .ref a), (7, .ref rr), (9, .int (jI (↑c)))]) rfl rfl (by decide) dJ19_add_2_194 rfl ?_
                  refine sw_iload (n := 199) F 0 rfl dJ19_add_2_197 rfl ?_
                  refine sw_aload_n (n := 200) F 1 (some a) rfl rfl rfl dJ19_add_2_199 rfl ?_
                  refine sw_iload (n := 202) F 0 rfl dJ19_add_2_200 rfl ?_
                  refine sw_ialoadK (n := 203) F (plA F 1 rfl ha) (n - m - 1) (by omega) (by omega) dJ19_add_2_202 rfl ?_
                  show SW x _ _ _ _ _ [.int (jI (↑(f (n - m - 1)))), .int (jI (↑n - ↑m + (-1))), .ref rr]
                  refine sw_iconst (n := 204) F (1) (by decide) dJ19_add_2_203 rfl ?_
                  refine sw_iadd (n := 205) F dJ19_add_2_204 rfl ?_
                  have hb_x : f (n - m - 1) < 4294967296 := hwX.1 _ (by omega)
                  refine sw_top (topIm (show ((↑(f (n - m - 1))) + 1 : Int) % 4294967296 = (↑((f (n - m - 1) + 1) % 4294967296)) % 4294967296 by omega)) ?_
                  refine sw_dup_x2 (n := 206) F rfl rfl rfl dJ19_add_2_205 rfl ?_
                  refine sw_iastoreW (n := 207) F 0 rfl (fun _ => rfl) (n - m - 1) (by omega) (by omega) ((f (n - m - 1) + 1) % 4294967296) (by first | omega | rfl) [aN (xg x) 0 rr n (va_up rf (n - m - 1) ((f (n - m - 1) + 1) % 4294967296)), pl (xg x) M] (by rfl) dJ19_add_2_206 rfl ?_
                  refine sw_if_neU (n := 210) F (by omega) (tgt := 214) dJ19_add_2_207 (by decide) rfl (fun c_207 => ?_) (fun c_207 => ?_)
                  ·
                    refine sw_iconst (n := 215) F (0) (by decide) dJ19_add_2_214 rfl ?_
                    refine sw_istore (n := 217) F (L2 := [(9, .int (jI 0)), (6, .int (jI (↑n - ↑m + (-1)))), (0, .ref a), (7, .ref rr)]) rfl (by decide) dJ19_add_2_215 rfl ?_
                    refine sw_goto F (n := 182) dJ19_add_2_217 (by decide) ?_
                    refine sw_loc [2, 1, 3, 0] (L2 := [(0, .ref a), (6, .int (jI (↑n - ↑m + (-1)))), (7, .ref rr), (9, .int (jI 0))]) rfl ?_
                    rw [show (↑n - ↑m + (-1) : Int) = ↑n - ↑(m + 1) by omega]
                    exact ih182 (m + 1) (va_up rf (n - m - 1) ((f (n - m - 1) + 1) % 4294967296)) 0 (by first | omega | assumption) (by first | omega | assumption) (by exact up_lt hrf (by omega)) (by exact inc_step hri (by omega) (by omega) (by omega) (by omega)) (by omega)
                  ·
                    refine sw_iconst (n := 211) F (1) (by decide) dJ19_add_2_210 rfl ?_
                    refine sw_goto F (n := 215) dJ19_add_2_211 (by decide) ?_
                    refine sw_istore (n := 217) F (L2 := [(9, .int (jI 1)), (6, .int (jI (↑n - ↑m + (-1)))), (0, .ref a), (7, .ref rr)]) rfl (by decide) dJ19_add_2_215 rfl ?_
                    refine sw_goto F (n := 182) dJ19_add_2_217 (by decide) ?_
                    refine sw_loc [2, 1, 3, 0] (L2 := [(0, .ref a), (6, .int (jI (↑n - ↑m + (-1)))), (7, .ref rr), (9, .int (jI 1))]) rfl ?_
                    rw [show (↑n - ↑m + (-1) : Int) = ↑n - ↑(m + 1) by omega]
                    exact ih182 (m + 1) (va_up rf (n - m - 1) ((f (n - m - 1) + 1) % 4294967296)) 1 (by first | omega | assumption) (by first | omega | assumption) (by exact up_lt hrf (by omega)) (by exact inc_step hri (by omega) (by omega) (by omega) (by omega)) (by omega)
          refine sw_loc [1, 2, 3, 0] (L2 := [(0, .ref a), (6, .int (jI (↑n - ↑m))), (7, .ref rr), (9, .int (jI 1))]) rfl ?_
          exact K182 _ m rf 1 hm (by first | omega | assumption) (by first | assumption | exact up_lt (fun _ _ => by decide) (by omega) | exact up_lt (up_lt (fun _ _ => by decide) (by omega)) (by omega)) (by first | (rw [show p / 4294967296 = 1 by omega] at hri; exact hri) | (rw [show p / 4294967296 = 0 by omega] at hri; exact hri)) (Nat.lt_succ_self _)
      refine sw_loc [4, 1, 2, 0] (L2 := [(0, .ref a), (6, .int (jI (↑n - 2))), (7, .ref q_1), (4, .long (jL (↑p2)))]) rfl ?_
      exact K165 2 (va_up (va_up (fun _ => 0) (n - 1) (p % 4294967296)) (n - 1 - 1) (p2 % 4294967296)) p2 q_1 (by first | omega | assumption) (by first | omega | assumption) (by first | assumption | exact up_lt (fun _ _ => by decide) (by omega) | exact up_lt (up_lt (fun _ _ => by decide) (by omega)) (by omega)) (by exact add_d2 (dl := dl) (dh := dh) (p := p) (by omega) rfl (by omega) (by omega) (by omega) hp hp2)
    ·
      refine sw_iconst (n := 59) F (2) (by decide) dJ19_add_2_58 rfl ?_
      refine sw_newaN (n := 61) F (2) (by first | omega | rfl) (by omega) 1 11 ⟨by omega, by omega⟩ dJ19_add_2_59 rfl (fun q_8 => ?_)
      refine sw_astore (n := 63) F (some q_8) (L2 := [(7, .ref q_8), (8, .int (jI (↑dh))), (6, .int (jI (↑n))), (4, .long (jL 0)), (0, .ref a), (1, .long (jL (↑d)))]) rfl rfl (by decide) dJ19_add_2_61 rfl ?_
      refine sw_lload_n (n := 64) F 5 rfl rfl dJ19_add_2_63 rfl ?_
      refine sw_aload_n (n := 65) F 4 (some a) rfl rfl rfl dJ19_add_2_64 rfl ?_
      refine sw_iconst (n := 66) F (0) (by decide) dJ19_add_2_65 rfl ?_
      refine sw_ialoadK (n := 67) F (plA F 1 rfl ha) 0 rfl (by omega) dJ19_add_2_66 rfl ?_
      show SW x _ _ _ _ _ [.int (jI (↑(f 0))), .long (jL (↑d))]
      have hb_9 : f 0 < 4294967296 := hwX.1 _ (by omega)
      refine sw_i2lr (n := 68) F dJ19_add_2_67 rfl ?_
      refine sw_ldc2 (n := 71) F (4294967295) q1106 (by decide) dJ19_add_2_68 rfl ?_
      refine sw_land (n := 72) F (jL (↑(f 0))) (jI_wordE (by omega)) dJ19_add_2_71 rfl ?_
      refine sw_ladd (n := 73) F dJ19_add_2_72 rfl ?_
      obtain ⟨p, hp⟩ : ∃ z : Nat, z = d + f 0 := ⟨_, rfl⟩
      refine sw_top (topL (show ((↑d) + (↑(f 0)) : Int) = ↑p by omega)) ?_
      refine sw_lstore (n := 75) F (L2 := [(4, .long (jL (↑p))), (7, .ref q_8), (8, .int (jI (↑dh))), (6, .int (jI (↑n))), (0, .ref a), (1, .long (jL (↑d)))]) rfl (by decide) dJ19_add_2_73 rfl ?_
      refine sw_aload (n := 77) F 1 (some q_8) rfl rfl dJ19_add_2_75 rfl ?_
      refine sw_iconst (n := 78) F (1) (by decide) dJ19_add_2_77 rfl ?_
      refine sw_lload (n := 80) F 0 rfl dJ19_add_2_78 rfl ?_
      refine sw_l2i (n := 81) F dJ19_add_2_80 rfl ?_
      refine sw_iastoreW (n := 82) F 0 rfl (fun _ => rfl) 1 rfl (by omega) (p % 4294967296) (by first | omega | rfl) [aN (xg x) 0 q_8 2 (va_up (fun _ => 0) 1 (p % 4294967296)), pl (xg x) M] (by rfl) dJ19_add_2_81 rfl ?_
      refine sw_aload (n := 84) F 1 (some q_8) rfl rfl dJ19_add_2_82 rfl ?_
      refine sw_iconst (n := 85) F (0) (by decide) dJ19_add_2_84 rfl ?_
      refine sw_lload (n := 87) F 0 rfl dJ19_add_2_85 rfl ?_
      refine sw_bipush (n := 89) F (32) (by decide) dJ19_add_2_87 rfl ?_
      refine sw_lushr (n := 90) F _ (jL_ushr32 _) dJ19_add_2_89 rfl ?_
      refine sw_top (topL (show ((↑p) % 18446744073709551616 / 4294967296 : Int) = ↑(p / 4294967296) by omega)) ?_
      refine sw_l2i (n := 91) F dJ19_add_2_90 rfl ?_
      refine sw_iastoreW (n := 92) F 0 rfl (fun _ => rfl) 0 rfl (by omega) (p / 4294967296) (by first | omega | rfl) [aN (xg x) 0 q_8 2 (va_up (va_up (fun _ => 0) 1 (p % 4294967296)) 0 (p / 4294967296)), pl (xg x) M] (by rfl) dJ19_add_2_91 rfl ?_
      refine sw_aload (n := 94) F 1 (some q_8) rfl rfl dJ19_add_2_92 rfl ?_
      exact sw_aret F (some q_8) _ rfl rfl (by first | exact Or.inl ⟨_, rfl⟩ | exact Or.inr ⟨_, rfl⟩) dJ19_add_2_94 (by rw [hPo]; exact ⟨q_8, 2, va_up (va_up (fun _ => 0) 1 (p % 4294967296)) 0 (p / 4294967296), rfl, (by first | omega | assumption), (by first | exact carry_ok hrf | exact nocarry_ok hwX hrf (Y := d) (by have e := hri; rw [show m = n by omega, show c = 0 by omega, ← wv_sm, ← wv_sm] at e; omega) | exact wOK_nz (two_ok (by omega) (by omega)) (by rw [vu_eq rfl]; omega)), (by rw [two_w, show n = 1 by omega, wv_1]; omega), rfl⟩)
  ·
    refine sw_iload (n := 21) F 1 rfl dJ19_add_2_19 rfl ?_
    refine sw_newaN (n := 23) F (n) (by first | omega | rfl) (by omega) 1 7 ⟨by omega, by omega⟩ dJ19_add_2_21 rfl (fun q_10 => ?_)
    refine sw_astore (n := 25) F (some q_10) (L2 := [(7, .ref q_10), (8, .int (jI (↑dh))), (6, .int (jI (↑n))), (4, .long (jL 0)), (0, .ref a), (1, .long (jL (↑d)))]) rfl rfl (by decide) dJ19_add_2_23 rfl ?_
    refine sw_aload_n (n := 26) F 4 (some a) rfl rfl rfl dJ19_add_2_25 rfl ?_
    refine sw_iinc (n := 29) F 2 (L2 := [(6, .int (jI (↑n + (-1)))), (7, .ref q_10), (8, .int (jI (↑dh))), (4, .long (jL 0)), (0, .ref a), (1, .long (jL (↑d)))]) rfl rfl (by decide) dJ19_add_2_26 rfl ?_
    refine sw_iload (n := 31) F 0 rfl dJ19_add_2_29 rfl ?_
    refine sw_ialoadK (n := 32) F (plA F 1 rfl ha) (n - 1) (by omega) (by omega) dJ19_add_2_31 rfl ?_
    show SW x _ _ _ _ _ [.int (jI (↑(f (n - 1))))]
    have hb_11 : f (n - 1) < 4294967296 := hwX.1 _ (by omega)
    refine sw_i2lr (n := 33) F dJ19_add_2_32 rfl ?_
    refine sw_ldc2 (n := 36) F (4294967295) q1106 (by decide) dJ19_add_2_33 rfl ?_
    refine sw_land (n := 37) F (jL (↑(f (n - 1)))) (jI_wordE (by omega)) dJ19_add_2_36 rfl ?_
    refine sw_lload_n (n := 38) F 5 rfl rfl dJ19_add_2_37 rfl ?_
    refine sw_ladd (n := 39) F dJ19_add_2_38 rfl ?_
    obtain ⟨p, hp⟩ : ∃ z : Nat, z = f (n - 1) + d := ⟨_, rfl⟩
    refine sw_top (topL (show ((↑(f (n - 1))) + (↑d) : Int) = ↑p by omega)) ?_
    refine sw_lstore (n := 41) F (L2 := [(4, .long (jL (↑p))), (6, .int (jI (↑n + (-1)))), (7, .ref q_10), (8, .int (jI (↑dh))), (0, .ref a), (1, .long (jL (↑d)))]) rfl (by decide) dJ19_add_2_39 rfl ?_
    refine sw_aload (n := 43) F 2 (some q_10) rfl rfl dJ19_add_2_41 rfl ?_
    refine sw_iload (n := 45) F 1 rfl dJ19_add_2_43 rfl ?_
    refine sw_lload (n := 47) F 0 rfl dJ19_add_2_45 rfl ?_
    refine sw_l2i (n := 48) F dJ19_add_2_47 rfl ?_
    refine sw_iastoreW (n := 49) F 0 rfl (fun _ => rfl) (n - 1) (by omega) (by omega) (p % 4294967296) (by first | omega | rfl) [aN (xg x) 0 q_10 n (va_up (fun _ => 0) (n - 1) (p % 4294967296)), pl (xg x) M] (by rfl) dJ19_add_2_48 rfl ?_
    refine SW.cast (L' := [(4, .long (jL (↑p))), (6, .int (jI (↑n - 1))), (7, .ref q_10), (8, .int (jI (↑dh))), (0, .ref a), (1, .long (jL (↑d)))]) ?_ rfl (by rw [show Value.int (jI (↑n + (-1))) = Value.int (jI (↑n - 1)) from topI (by omega)]) rfl
    refine sw_goto F (n := 165) dJ19_add_2_49 (by decide) ?_
    have K165 : ∀ (m : Nat) (rf : Nat → Nat) (p : Nat) (rr : Nat), (m ≤ n) → (p < 8589934592) → (∀ k, k < n → rf k < 4294967296) → (sm rf n m + p / 4294967296 * bw m = sm f n m + d) → SW x [aN (xg x) 0 rr n rf, pl (xg x) M] 1 7 165 [(0, .ref a), (6, .int (jI (↑n - ↑m))), (7, .ref rr), (4, .long (jL (↑p)))] [] := by
      intro m rf p rr hm hp hrf hri
      refine sw_lload (n := 167) F 3 rfl dJ19_add_2_165 rfl ?_
      refine sw_bipush (n := 169) F (32) (by decide) dJ19_add_2_167 rfl ?_
      refine sw_lushr (n := 170) F _ (jL_ushr32 _) dJ19_add_2_169 rfl ?_
      refine sw_lconst (n := 171) F 0 (by decide) dJ19_add_2_170 rfl ?_
      refine sw_lcmp (n := 172) F (by omega) (by decide) dJ19_add_2_171 rfl ?_
      refine sw_if_eq (n := 175) F (by omega) (tgt := 179) dJ19_add_2_172 (by decide) rfl (fun c_172 => ?_) (fun c_172 => ?_)
      ·
        have c_172 : (↑p) % 18446744073709551616 / 4294967296 = 0 := by revert c_172; (repeat' split) <;> omega
        refine sw_iconst (n := 180) F (0) (by decide) dJ19_add_2_179 rfl ?_
        refine sw_istore (n := 182) F (L2 := [(9, .int (jI 0)), (0, .ref a), (6, .int (jI (↑n - ↑m))), (7, .ref rr), (4, .long (jL (↑p)))]) rfl (by decide) dJ19_add_2_180 rfl ?_
        have K182 : ∀ N182 : Nat, ∀ (m : Nat) (rf : Nat → Nat) (c : Nat), (m ≤ n) → (c ≤ 1) → (∀ k, k < n → rf k < 4294967296) → (sm rf n m + c * bw m = sm f n m + d) → ((n - m) < N182) → SW x [aN (xg x) 0 rr n rf, pl (xg x) M] 1 7 182 [(0, .ref a), (6, .int (jI (↑n - ↑m))), (7, .ref rr), (9, .int (jI (↑c)))] [] := by
          intro N182; induction N182 with
          | zero => intro m rf c hm hc hrf hri hmu182; omega
          | succ N182 ih182 =>
            intro m rf c hm hc hrf hri hmu182
            refine sw_iload (n := 184) F 1 rfl dJ19_add_2_182 rfl ?_
            refine sw_if_le (n := 187) F (by omega) (tgt := 220) dJ19_add_2_184 (by decide) rfl (fun c_184 => ?_) (fun c_184 => ?_)
            ·
              have K220 : ∀ N220 : Nat, ∀ (m : Nat) (rf : Nat → Nat) (c : Nat), (m ≤ n) → (c ≤ 1) → (∀ k, k < n → rf k < 4294967296) → (sm rf n m + c * bw m = sm f n m + d) → (c = 0 ∨ m = n) → ((n - m) < N220) → SW x [aN (xg x) 0 rr n rf, pl (xg x) M] 1 7 220 [(0, .ref a), (6, .int (jI (↑n - ↑m))), (7, .ref rr), (9, .int (jI (↑c)))] [] := by
                intro N220; induction N220 with
                | zero => intro m rf c hm hc hrf hri hz hmu220; omega
                | succ N220 ih220 =>
                  intro m rf c hm hc hrf hri hz hmu220
                  refine sw_iload (n := 222) F 1 rfl dJ19_add_2_220 rfl ?_
                  refine sw_if_le (n := 225) F (by omega) (tgt := 240) dJ19_add_2_222 (by decide) rfl (fun c_222 => ?_) (fun c_222 => ?_)
                  ·
                    refine sw_iload (n := 242) F 3 rfl dJ19_add_2_240 rfl ?_
                    refine sw_if_eq (n := 245) F (by omega) (tgt := 274) dJ19_add_2_242 (by decide) rfl (fun c_242 => ?_) (fun c_242 => ?_)
                    ·
                      refine sw_aload (n := 276) F 2 (some rr) rfl rfl dJ19_add_2_274 rfl ?_
                      exact sw_aret F (some rr) _ rfl rfl (by first | exact Or.inl ⟨_, rfl⟩ | exact Or.inr ⟨_, rfl⟩) dJ19_add_2_276 (by rw [hPo]; exact ⟨rr, n, rf, rfl, (by first | omega | assumption), (by first | exact carry_ok hrf | exact nocarry_ok hwX hrf (Y := d) (by have e := hri; rw [show m = n by omega, show c = 0 by omega, ← wv_sm, ← wv_sm] at e; omega) | exact wOK_nz (two_ok (by omega) (by omega)) (by rw [vu_eq rfl]; omega)), (by have e := hri; rw [show m = n by omega, show c = 0 by omega, ← wv_sm, ← wv_sm] at e; omega), rfl⟩)
                    ·
                      refine sw_aload (n := 247) F 2 (some rr) rfl rfl dJ19_add_2_245 rfl ?_
                      refine sw_alen (n := 248) F 0 rfl (fun _ => rfl) dJ19_add_2_247 rfl ?_
                      refine sw_iconst (n := 249) F (1) (by decide) dJ19_add_2_248 rfl ?_
                      refine sw_iadd (n := 250) F dJ19_add_2_249 rfl ?_
                      refine sw_newaN (n := 252) F (n + 1) (by first | omega | rfl) (by omega) 0 0 ⟨by omega, by omega⟩ dJ19_add_2_250 rfl (fun q_12 => ?_)
                      refine sw_astore (n := 254) F (some q_12) (L2 := [(10, .ref q_12), (0, .ref a), (6, .int (jI (↑n - ↑m))), (7, .ref rr), (9, .int (jI (↑c)))]) rfl rfl (by decide) dJ19_add_2_252 rfl ?_
                      refine sw_aload (n := 256) F 3 (some rr) rfl rfl dJ19_add_2_254 rfl ?_
                      refine sw_iconst (n := 257) F (0) (by decide) dJ19_add_2_256 rfl ?_
                      refine sw_aload (n := 259) F 0 (some q_12) rfl rfl dJ19_add_2_257 rfl ?_
                      refine sw_iconst (n := 260) F (1) (by decide) dJ19_add_2_259 rfl ?_
                      refine sw_aload (n := 262) F 3 (some rr) rfl rfl dJ19_add_2_260 rfl ?_
                      refine sw_alen (n := 263) F 1 rfl (fun _ => rfl) dJ19_add_2_262 rfl ?_
                      refine sw_copyN (n := 266) F 0 (hA_ar (t0 := 0) (ty := .int) (f := fun j => .int (jI (rf j : Nat))) F (i := 1) rfl (fun _ => rfl)) rfl 0 1 n (by first | rfl | omega) (by first | rfl | omega) (by first | rfl | omega) (by omega) (by omega) (by omega) q1107 q530 q529 q133 (by decide) [aN (xg x) 0 q_12 (n + 1) (va_cpy rf (fun _ => 0) 0 1 n), aN (xg x) 0 rr n rf, pl (xg x) M] rfl dJ19_add_2_263 rfl ?_
                      refine sw_aload (n := 268) F 0 (some q_12) rfl rfl dJ19_add_2_266 rfl ?_
                      refine sw_iconst (n := 269) F (0) (by decide) dJ19_add_2_268 rfl ?_
                      refine sw_iconst (n := 270) F (1) (by decide) dJ19_add_2_269 rfl ?_
                      refine sw_iastoreW (n := 271) F 0 rfl (fun _ => rfl) 0 rfl (by omega) 1 (by first | omega | rfl) [aN (xg x) 0 q_12 (n + 1) (va_up (va_cpy rf (fun _ => 0) 0 1 n) 0 1), aN (xg x) 0 rr n rf, pl (xg x) M] (by rfl) dJ19_add_2_270 rfl ?_
                      refine sw_aload (n := 273) F 0 (some q_12) rfl rfl dJ19_add_2_271 rfl ?_
                      refine sw_drop [0, 2, 1] 2 rfl [aN (xg x) 0 q_12 (n + 1) (va_up (va_cpy rf (fun _ => 0) 0 1 n) 0 1), pl (xg x) M] rfl ?_
                      exact sw_aret F (some q_12) _ rfl rfl (by first | exact Or.inl ⟨_, rfl⟩ | exact Or.inr ⟨_, rfl⟩) dJ19_add_2_273 (by rw [hPo]; exact ⟨q_12, n + 1, va_up (va_cpy rf (fun _ => 0) 0 1 n) 0 1, rfl, (by first | omega | assumption), (by first | exact carry_ok hrf | exact nocarry_ok hwX hrf (Y := d) (by have e := hri; rw [show m = n by omega, show c = 0 by omega, ← wv_sm, ← wv_sm] at e; omega) | exact wOK_nz (two_ok (by omega) (by omega)) (by rw [vu_eq rfl]; omega)), (by rw [wv_carry]; have e := hri; rw [show m = n by omega, show c = 1 by omega, ← wv_sm, ← wv_sm] at e; omega), rfl⟩)
                  ·
                    refine sw_aload (n := 227) F 2 (some rr) rfl rfl dJ19_add_2_225 rfl ?_
                    refine sw_iinc (n := 230) F 1 (L2 := [(6, .int (jI (↑n - ↑m + (-1)))), (0, .ref a), (7, .ref rr), (9, .int (jI (↑c)))]) rfl rfl (by decide) dJ19_add_2_227 rfl ?_
                    refine sw_iload (n := 232) F 0 rfl dJ19_add_2_230 rfl ?_
                    refine sw_aload_n (n := 233) F 1 (some a) rfl rfl rfl dJ19_add_2_232 rfl ?_
                    refine sw_iload (n := 235) F 0 rfl dJ19_add_2_233 rfl ?_
                    refine sw_ialoadK (n := 236) F (plA F 1 rfl ha) (n - m - 1) (by omega) (by omega) dJ19_add_2_235 rfl ?_
                    show SW x _ _ _ _ _ [.int (jI (↑(f (n - m - 1)))), .int (jI (↑n - ↑m + (-1))), .ref rr]
                    refine sw_iastoreW (n := 237) F 0 rfl (fun _ => rfl) (n - m - 1) (by omega) (by omega) (f (n - m - 1)) (by first | omega | rfl) [aN (xg x) 0 rr n (va_up rf (n - m - 1) (f (n - m - 1))), pl (xg x) M] (by rfl) dJ19_add_2_236 rfl ?_
                    refine sw_goto F (n := 220) dJ19_add_2_237 (by decide) ?_
                    refine sw_loc [1, 0, 2, 3] (L2 := [(0, .ref a), (6, .int (jI (↑n - ↑m + (-1)))), (7, .ref rr), (9, .int (jI (↑c)))]) rfl ?_
                    rw [show (↑n - ↑m + (-1) : Int) = ↑n - ↑(m + 1) by omega]
                    exact ih220 (m + 1) (va_up rf (n - m - 1) (f (n - m - 1))) c (by first | omega | assumption) hc (by exact up_lt hrf (hwX.1 _ (by omega))) (by exact cpy_step hri (by omega) (by omega) (by omega)) (by first | omega | assumption) (by omega)
              exact K220 _ m rf c hm hc (by first | assumption | exact up_lt (fun _ _ => by decide) (by omega) | exact up_lt (up_lt (fun _ _ => by decide) (by omega)) (by omega)) hri (by first | omega | assumption) (Nat.lt_succ_self _)
            ·
              refine sw_iload (n := 189) F 3 rfl dJ19_add_2_187 rfl ?_
              refine sw_if_eq (n := 192) F (by omega) (tgt := 220) dJ19_add_2_189 (by decide) rfl (fun c_189 => ?_) (fun c_189 => ?_)
              ·
                have K220 : ∀ N220 : Nat, ∀ (m : Nat) (rf : Nat → Nat) (c : Nat), (m ≤ n) → (c ≤ 1) → (∀ k, k < n → rf k < 4294967296) → (sm rf n m + c * bw m = sm f n m + d) → (c = 0 ∨ m = n) → ((n - m) < N220) → SW x [aN (xg x) 0 rr n rf, pl (xg x) M] 1 7 220 [(0, .ref a), (6, .int (jI (↑n - ↑m))), (7, .ref rr), (9, .int (jI (↑c)))] [] := by
                  intro N220; induction N220 with
                  | zero => intro m rf c hm hc hrf hri hz hmu220; omega
                  | succ N220 ih220 =>
                    intro m rf c hm hc hrf hri hz hmu220
                    refine sw_iload (n := 222) F 1 rfl dJ19_add_2_220 rfl ?_
                    refine sw_if_le (n := 225) F (by omega) (tgt := 240) dJ19_add_2_222 (by decide) rfl (fun c_222 => ?_) (fun c_222 => ?_)
                    ·
                      refine sw_iload (n := 242) F 3 rfl dJ19_add_2_240 rfl ?_
                      refine sw_if_eq (n := 245) F (by omega) (tgt := 274) dJ19_add_2_242 (by decide) rfl (fun c_242 => ?_) (fun c_242 => ?_)
                      ·
                        refine sw_aload (n := 276) F 2 (some rr) rfl rfl dJ19_add_2_274 rfl ?_
                        exact sw_aret F (some rr) _ rfl rfl (by first | exact Or.inl ⟨_, rfl⟩ | exact Or.inr ⟨_, rfl⟩) dJ19_add_2_276 (by rw [hPo]; exact ⟨rr, n, rf, rfl, (by first | omega | assumption), (by first | exact carry_ok hrf | exact nocarry_ok hwX hrf (Y := d) (by have e := hri; rw [show m = n by omega, show c = 0 by omega, ← wv_sm, ← wv_sm] at e; omega) | exact wOK_nz (two_ok (by omega) (by omega)) (by rw [vu_eq rfl]; omega)), (by have e := hri; rw [show m = n by omega, show c = 0 by omega, ← wv_sm, ← wv_sm] at e; omega), rfl⟩)
                      ·
                        refine sw_aload (n := 247) F 2 (some rr) rfl rfl dJ19_add_2_245 rfl ?_
                        refine sw_alen (n := 248) F 0 rfl (fun _ => rfl) dJ19_add_2_247 rfl ?_
                        refine sw_iconst (n := 249) F (1) (by decide) dJ19_add_2_248 rfl ?_
                        refine sw_iadd (n := 250) F dJ19_add_2_249 rfl ?_
                        refine sw_newaN (n := 252) F (n + 1) (by first | omega | rfl) (by omega) 0 0 ⟨by omega, by omega⟩ dJ19_add_2_250 rfl (fun q_13 => ?_)
                        refine sw_astore (n := 254) F (some q_13) (L2 := [(10, .ref q_13), (0, .ref a), (6, .int (jI (↑n - ↑m))), (7, .ref rr), (9, .int (jI (↑c)))]) rfl rfl (by decide) dJ19_add_2_252 rfl ?_
                        refine sw_aload (n := 256) F 3 (some rr) rfl rfl dJ19_add_2_254 rfl ?_
                        refine sw_iconst (n := 257) F (0) (by decide) dJ19_add_2_256 rfl ?_
                        refine sw_aload (n := 259) F 0 (some q_13) rfl rfl dJ19_add_2_257 rfl ?_
                        refine sw_iconst (n := 260) F (1) (by decide) dJ19_add_2_259 rfl ?_
                        refine sw_aload (n := 262) F 3 (some rr) rfl rfl dJ19_add_2_260 rfl ?_
                        refine sw_alen (n := 263) F 1 rfl (fun _ => rfl) dJ19_add_2_262 rfl ?_
                        refine sw_copyN (n := 266) F 0 (hA_ar (t0 := 0) (ty := .int) (f := fun j => .int (jI (rf j : Nat))) F (i := 1) rfl (fun _ => rfl)) rfl 0 1 n (by first | rfl | omega) (by first | rfl | omega) (by first | rfl | omega) (by omega) (by omega) (by omega) q1107 q530 q529 q133 (by decide) [aN (xg x) 0 q_13 (n + 1) (va_cpy rf (fun _ => 0) 0 1 n), aN (xg x) 0 rr n rf, pl (xg x) M] rfl dJ19_add_2_263 rfl ?_
                        refine sw_aload (n := 268) F 0 (some q_13) rfl rfl dJ19_add_2_266 rfl ?_
                        refine sw_iconst (n := 269) F (0) (by decide) dJ19_add_2_268 rfl ?_
                        refine sw_iconst (n := 270) F (1) (by decide) dJ19_add_2_269 rfl ?_
                        refine sw_iastoreW (n := 271) F 0 rfl (fun _ => rfl) 0 rfl (by omega) 1 (by first | omega | rfl) [aN (xg x) 0 q_13 (n + 1) (va_up (va_cpy rf (fun _ => 0) 0 1 n) 0 1), aN (xg x) 0 rr n rf, pl (xg x) M] (by rfl) dJ19_add_2_270 rfl ?_
                        refine sw_aload (n := 273) F 0 (some q_13) rfl rfl dJ19_add_2_271 rfl ?_
                        refine sw_drop [0, 2, 1] 2 rfl [aN (xg x) 0 q_13 (n + 1) (va_up (va_cpy rf (fun _ => 0) 0 1 n) 0 1), pl (xg x) M] rfl ?_
                        exact sw_aret F (some q_13) _ rfl rfl (by first | exact Or.inl ⟨_, rfl⟩ | exact Or.inr ⟨_, rfl⟩) dJ19_add_2_273 (by rw [hPo]; exact ⟨q_13, n + 1, va_up (va_cpy rf (fun _ => 0) 0 1 n) 0 1, rfl, (by first | omega | assumption), (by first | exact carry_ok hrf | exact nocarry_ok hwX hrf (Y := d) (by have e := hri; rw [show m = n by omega, show c = 0 by omega, ← wv_sm, ← wv_sm] at e; omega) | exact wOK_nz (two_ok (by omega) (by omega)) (by rw [vu_eq rfl]; omega)), (by rw [wv_carry]; have e := hri; rw [show m = n by omega, show c = 1 by omega, ← wv_sm, ← wv_sm] at e; omega), rfl⟩)
                    ·
                      refine sw_aload (n := 227) F 2 (some rr) rfl rfl dJ19_add_2_225 rfl ?_
                      refine sw_iinc (n := 230) F 1 (L2 := [(6, .int (jI (↑n - ↑m + (-1)))), (0, .ref a), (7, .ref rr), (9, .int (jI (↑c)))]) rfl rfl (by decide) dJ19_add_2_227 rfl ?_
                      refine sw_iload (n := 232) F 0 rfl dJ19_add_2_230 rfl ?_
                      refine sw_aload_n (n := 233) F 1 (some a) rfl rfl rfl dJ19_add_2_232 rfl ?_
                      refine sw_iload (n := 235) F 0 rfl dJ19_add_2_233 rfl ?_
                      refine sw_ialoadK (n := 236) F (plA F 1 rfl ha) (n - m - 1) (by omega) (by omega) dJ19_add_2_235 rfl ?_
                      show SW x _ _ _ _ _ [.int (jI (↑(f (n - m - 1)))), .int (jI (↑n - ↑m + (-1))), .ref rr]
                      refine sw_iastoreW (n := 237) F 0 rfl (fun _ => rfl) (n - m - 1) (by omega) (by omega) (f (n - m - 1)) (by first | omega | rfl) [aN (xg x) 0 rr n (va_up rf (n - m - 1) (f (n - m - 1))), pl (xg x) M] (by rfl) dJ19_add_2_236 rfl ?_
                      refine sw_goto F (n := 220) dJ19_add_2_237 (by decide) ?_
                      refine sw_loc [1, 0, 2, 3] (L2 := [(0, .ref a), (6, .int (jI (↑n - ↑m + (-1)))), (7, .ref rr), (9, .int (jI (↑c)))]) rfl ?_
                      rw [show (↑n - ↑m + (-1) : Int) = ↑n - ↑(m + 1) by omega]
                      exact ih220 (m + 1) (va_up rf (n - m - 1) (f (n - m - 1))) c (by first | omega | assumption) hc (by exact up_lt hrf (hwX.1 _ (by omega))) (by exact cpy_step hri (by omega) (by omega) (by omega)) (by first | omega | assumption) (by omega)
                exact K220 _ m rf c hm hc (by first | assumption | exact up_lt (fun _ _ => by decide) (by omega) | exact up_lt (up_lt (fun _ _ => by decide) (by omega)) (by omega)) hri (by first | omega | assumption) (Nat.lt_succ_self _)
              ·
                refine sw_aload (n := 194) F 2 (some rr) rfl rfl dJ19_add_2_192 rfl ?_
                refine sw_iinc (n := 197) F 1 (L2 := [(6, .int (jI (↑n - ↑m + (-1)))), (0, .ref a), (7, .ref rr), (9, .int (jI (↑c)))]) rfl rfl (by decide) dJ19_add_2_194 rfl ?_
                refine sw_iload (n := 199) F 0 rfl dJ19_add_2_197 rfl ?_
                refine sw_aload_n (n := 200) F 1 (some a) rfl rfl rfl dJ19_add_2_199 rfl ?_
                refine sw_iload (n := 202) F 0 rfl dJ19_add_2_200 rfl ?_
                refine sw_ialoadK (n := 203) F (plA F 1 rfl ha) (n - m - 1) (by omega) (by omega) dJ19_add_2_202 rfl ?_
                show SW x _ _ _ _ _ [.int (jI (↑(f (n - m - 1)))), .int (jI (↑n - ↑m + (-1))), .ref rr]
                refine sw_iconst (n := 204) F (1) (by decide) dJ19_add_2_203 rfl ?_
                refine sw_iadd (n := 205) F dJ19_add_2_204 rfl ?_
                have hb_x : f (n - m - 1) < 4294967296 := hwX.1 _ (by omega)
                refine sw_top (topIm (show ((↑(f (n - m - 1))) + 1 : Int) % 4294967296 = (↑((f (n - m - 1) + 1) % 4294967296)) % 4294967296 by omega)) ?_
                refine sw_dup_x2 (n := 206) F rfl rfl rfl dJ19_add_2_205 rfl ?_
                refine sw_iastoreW (n := 207) F 0 rfl (fun _ => rfl) (n - m - 1) (by omega) (by omega) ((f (n - m - 1) + 1) % 4294967296) (by first | omega | rfl) [aN (xg x) 0 rr n (va_up rf (n - m - 1) ((f (n - m - 1) + 1) % 4294967296)), pl (xg x) M] (by rfl) dJ19_add_2_206 rfl ?_
                refine sw_if_neU (n := 210) F (by omega) (tgt := 214) dJ19_add_2_207 (by decide) rfl (fun c_207 => ?_) (fun c_207 => ?_)
                ·
                  refine sw_iconst (n := 215) F (0) (by decide) dJ19_add_2_214 rfl ?_
                  refine sw_istore (n := 217) F (L2 := [(9, .int (jI 0)), (6, .int (jI (↑n - ↑m + (-1)))), (0, .ref a), (7, .ref rr)]) rfl (by decide) dJ19_add_2_215 rfl ?_
                  refine sw_goto F (n := 182) dJ19_add_2_217 (by decide) ?_
                  refine sw_loc [2, 1, 3, 0] (L2 := [(0, .ref a), (6, .int (jI (↑n - ↑m + (-1)))), (7, .ref rr), (9, .int (jI 0))]) rfl ?_
                  rw [show (↑n - ↑m + (-1) : Int) = ↑n - ↑(m + 1) by omega]
                  exact ih182 (m + 1) (va_up rf (n - m - 1) ((f (n - m - 1) + 1) % 4294967296)) 0 (by first | omega | assumption) (by first | omega | assumption) (by exact up_lt hrf (by omega)) (by exact inc_step hri (by omega) (by omega) (by omega) (by omega)) (by omega)
                ·
                  refine sw_iconst (n := 211) F (1) (by decide) dJ19_add_2_210 rfl ?_
                  refine sw_goto F (n := 215) dJ19_add_2_211 (by decide) ?_
                  refine sw_istore (n := 217) F (L2 := [(9, .int (jI 1)), (6, .int (jI (↑n - ↑m + (-1)))), (0, .ref a), (7, .ref rr)]) rfl (by decide) dJ19_add_2_215 rfl ?_
                  refine sw_goto F (n := 182) dJ19_add_2_217 (by decide) ?_
                  refine sw_loc [2, 1, 3, 0] (L2 := [(0, .ref a), (6, .int (jI (↑n - ↑m + (-1)))), (7, .ref rr), (9, .int (jI 1))]) rfl ?_
                  rw [show (↑n - ↑m + (-1) : Int) = ↑n - ↑(m + 1) by omega]
                  exact ih182 (m + 1) (va_up rf (n - m - 1) ((f (n - m - 1) + 1) % 4294967296)) 1 (by first | omega | assumption) (by first | omega | assumption) (by exact up_lt hrf (by omega)) (by exact inc_step hri (by omega) (by omega) (by omega) (by omega)) (by omega)
        refine sw_loc [1, 2, 3, 0] (L2 := [(0, .ref a), (6, .int (jI (↑n - ↑m))), (7, .ref rr), (9, .int (jI 0))]) rfl ?_
        exact K182 _ m rf 0 hm (by first | omega | assumption) (by first | assumption | exact up_lt (fun _ _ => by decide) (by omega) | exact up_lt (up_lt (fun _ _ => by decide) (by omega)) (by omega)) (by first | (rw [show p / 4294967296 = 1 by omega] at hri; exact hri) | (rw [show p / 4294967296 = 0 by omega] at hri; exact hri)) (Nat.lt_succ_self _)
      ·
        have c_172 : (↑p) % 18446744073709551616 / 4294967296 ≠ 0 := by revert c_172; (repeat' split) <;> omega
        refine sw_iconst (n := 176) F (1) (by decide) dJ19_add_2_175 rfl ?_
        refine sw_goto F (n := 180) dJ19_add_2_176 (by decide) ?_
        refine sw_istore (n := 182) F (L2 := [(9, .int (jI 1)), (0, .ref a), (6, .int (jI (↑n - ↑m))), (7, .ref rr), (4, .long (jL (↑p)))]) rfl (by decide) dJ19_add_2_180 rfl ?_
        have K182 : ∀ N182 : Nat, ∀ (m : Nat) (rf : Nat → Nat) (c : Nat), (m ≤ n) → (c ≤ 1) → (∀ k, k < n → rf k < 4294967296) → (sm rf n m + c * bw m = sm f n m + d) → ((n - m) < N182) → SW x [aN (xg x) 0 rr n rf, pl (xg x) M] 1 7 182 [(0, .ref a), (6, .int (jI (↑n - ↑m))), (7, .ref rr), (9, .int (jI (↑c)))] [] := by
          intro N182; induction N182 with
          | zero => intro m rf c hm hc hrf hri hmu182; omega
          | succ N182 ih182 =>
            intro m rf c hm hc hrf hri hmu182
            refine sw_iload (n := 184) F 1 rfl dJ19_add_2_182 rfl ?_
            refine sw_if_le (n := 187) F (by omega) (tgt := 220) dJ19_add_2_184 (by decide) rfl (fun c_184 => ?_) (fun c_184 => ?_)
            ·
              have K220 : ∀ N220 : Nat, ∀ (m : Nat) (rf : Nat → Nat) (c : Nat), (m ≤ n) → (c ≤ 1) → (∀ k, k < n → rf k < 4294967296) → (sm rf n m + c * bw m = sm f n m + d) → (c = 0 ∨ m = n) → ((n - m) < N220) → SW x [aN (xg x) 0 rr n rf, pl (xg x) M] 1 7 220 [(0, .ref a), (6, .int (jI (↑n - ↑m))), (7, .ref rr), (9, .int (jI (↑c)))] [] := by
                intro N220; induction N220 with
                | zero => intro m rf c hm hc hrf hri hz hmu220; omega
                | succ N220 ih220 =>
                  intro m rf c hm hc hrf hri hz hmu220
                  refine sw_iload (n := 222) F 1 rfl dJ19_add_2_220 rfl ?_
                  refine sw_if_le (n := 225) F (by omega) (tgt := 240) dJ19_add_2_222 (by decide) rfl (fun c_222 => ?_) (fun c_222 => ?_)
                  ·
                    refine sw_iload (n := 242) F 3 rfl dJ19_add_2_240 rfl ?_
                    refine sw_if_eq (n := 245) F (by omega) (tgt := 274) dJ19_add_2_242 (by decide) rfl (fun c_242 => ?_) (fun c_242 => ?_)
                    ·
                      refine sw_aload (n := 276) F 2 (some rr) rfl rfl dJ19_add_2_274 rfl ?_
                      exact sw_aret F (some rr) _ rfl rfl (by first | exact Or.inl ⟨_, rfl⟩ | exact Or.inr ⟨_, rfl⟩) dJ19_add_2_276 (by rw [hPo]; exact ⟨rr, n, rf, rfl, (by first | omega | assumption), (by first | exact carry_ok hrf | exact nocarry_ok hwX hrf (Y := d) (by have e := hri; rw [show m = n by omega, show c = 0 by omega, ← wv_sm, ← wv_sm] at e; omega) | exact wOK_nz (two_ok (by omega) (by omega)) (by rw [vu_eq rfl]; omega)), (by have e := hri; rw [show m = n by omega, show c = 0 by omega, ← wv_sm, ← wv_sm] at e; omega), rfl⟩)
                    ·
                      refine sw_aload (n := 247) F 2 (some rr) rfl rfl dJ19_add_2_245 rfl ?_
                      refine sw_alen (n := 248) F 0 rfl (fun _ => rfl) dJ19_add_2_247 rfl ?_
                      refine sw_iconst (n := 249) F (1) (by decide) dJ19_add_2_248 rfl ?_
                      refine sw_iadd (n := 250) F dJ19_add_2_249 rfl ?_
                      refine sw_newaN (n := 252) F (n + 1) (by first | omega | rfl) (by omega) 0 0 ⟨by omega, by omega⟩ dJ19_add_2_250 rfl (fun q_14 => ?_)
                      refine sw_astore (n := 254) F (some q_14) (L2 := [(10, .ref q_14), (0, .ref a), (6, .int (jI (↑n - ↑m))), (7, .ref rr), (9, .int (jI (↑c)))]) rfl rfl (by decide) dJ19_add_2_252 rfl ?_
                      refine sw_aload (n := 256) F 3 (some rr) rfl rfl dJ19_add_2_254 rfl ?_
                      refine sw_iconst (n := 257) F (0) (by decide) dJ19_add_2_256 rfl ?_
                      refine sw_aload (n := 259) F 0 (some q_14) rfl rfl dJ19_add_2_257 rfl ?_
                      refine sw_iconst (n := 260) F (1) (by decide) dJ19_add_2_259 rfl ?_
                      refine sw_aload (n := 262) F 3 (some rr) rfl rfl dJ19_add_2_260 rfl ?_
                      refine sw_alen (n := 263) F 1 rfl (fun _ => rfl) dJ19_add_2_262 rfl ?_
                      refine sw_copyN (n := 266) F 0 (hA_ar (t0 := 0) (ty := .int) (f := fun j => .int (jI (rf j : Nat))) F (i := 1) rfl (fun _ => rfl)) rfl 0 1 n (by first | rfl | omega) (by first | rfl | omega) (by first | rfl | omega) (by omega) (by omega) (by omega) q1107 q530 q529 q133 (by decide) [aN (xg x) 0 q_14 (n + 1) (va_cpy rf (fun _ => 0) 0 1 n), aN (xg x) 0 rr n rf, pl (xg x) M] rfl dJ19_add_2_263 rfl ?_
                      refine sw_aload (n := 268) F 0 (some q_14) rfl rfl dJ19_add_2_266 rfl ?_
                      refine sw_iconst (n := 269) F (0) (by decide) dJ19_add_2_268 rfl ?_
                      refine sw_iconst (n := 270) F (1) (by decide) dJ19_add_2_269 rfl ?_
                      refine sw_iastoreW (n := 271) F 0 rfl (fun _ => rfl) 0 rfl (by omega) 1 (by first | omega | rfl) [aN (xg x) 0 q_14 (n + 1) (va_up (va_cpy rf (fun _ => 0) 0 1 n) 0 1), aN (xg x) 0 rr n rf, pl (xg x) M] (by rfl) dJ19_add_2_270 rfl ?_
                      refine sw_aload (n := 273) F 0 (some q_14) rfl rfl dJ19_add_2_271 rfl ?_
                      refine sw_drop [0, 2, 1] 2 rfl [aN (xg x) 0 q_14 (n + 1) (va_up (va_cpy rf (fun _ => 0) 0 1 n) 0 1), pl (xg x) M] rfl ?_
                      exact sw_aret F (some q_14) _ rfl rfl (by first | exact Or.inl ⟨_, rfl⟩ | exact Or.inr ⟨_, rfl⟩) dJ19_add_2_273 (by rw [hPo]; exact ⟨q_14, n + 1, va_up (va_cpy rf (fun _ => 0) 0 1 n) 0 1, rfl, (by first | omega | assumption), (by first | exact carry_ok hrf | exact nocarry_ok hwX hrf (Y := d) (by have e := hri; rw [show m = n by omega, show c = 0 by omega, ← wv_sm, ← wv_sm] at e; omega) | exact wOK_nz (two_ok (by omega) (by omega)) (by rw [vu_eq rfl]; omega)), (by rw [wv_carry]; have e := hri; rw [show m = n by omega, show c = 1 by omega, ← wv_sm, ← wv_sm] at e; omega), rfl⟩)
                  ·
                    refine sw_aload (n := 227) F 2 (some rr) rfl rfl dJ19_add_2_225 rfl ?_
                    refine sw_iinc (n := 230) F 1 (L2 := [(6, .int (jI (↑n - ↑m + (-1)))), (0, .ref a), (7, .ref rr), (9, .int (jI (↑c)))]) rfl rfl (by decide) dJ19_add_2_227 rfl ?_
                    refine sw_iload (n := 232) F 0 rfl dJ19_add_2_230 rfl ?_
                    refine sw_aload_n (n := 233) F 1 (some a) rfl rfl rfl dJ19_add_2_232 rfl ?_
                    refine sw_iload (n := 235) F 0 rfl dJ19_add_2_233 rfl ?_
                    refine sw_ialoadK (n := 236) F (plA F 1 rfl ha) (n - m - 1) (by omega) (by omega) dJ19_add_2_235 rfl ?_
                    show SW x _ _ _ _ _ [.int (jI (↑(f (n - m - 1)))), .int (jI (↑n - ↑m + (-1))), .ref rr]
                    refine sw_iastoreW (n := 237) F 0 rfl (fun _ => rfl) (n - m - 1) (by omega) (by omega) (f (n - m - 1)) (by first | omega | rfl) [aN (xg x) 0 rr n (va_up rf (n - m - 1) (f (n - m - 1))), pl (xg x) M] (by rfl) dJ19_add_2_236 rfl ?_
                    refine sw_goto F (n := 220) dJ19_add_2_237 (by decide) ?_
                    refine sw_loc [1, 0, 2, 3] (L2 := [(0, .ref a), (6, .int (jI (↑n - ↑m + (-1)))), (7, .ref rr), (9, .int (jI (↑c)))]) rfl ?_
                    rw [show (↑n - ↑m + (-1) : Int) = ↑n - ↑(m + 1) by omega]
                    exact ih220 (m + 1) (va_up rf (n - m - 1) (f (n - m - 1))) c (by first | omega | assumption) hc (by exact up_lt hrf (hwX.1 _ (by omega))) (by exact cpy_step hri (by omega) (by omega) (by omega)) (by first | omega | assumption) (by omega)
              exact K220 _ m rf c hm hc (by first | assumption | exact up_lt (fun _ _ => by decide) (by omega) | exact up_lt (up_lt (fun _ _ => by decide) (by omega)) (by omega)) hri (by first | omega | assumption) (Nat.lt_succ_self _)
            ·
              refine sw_iload (n := 189) F 3 rfl dJ19_add_2_187 rfl ?_
              refine sw_if_eq (n := 192) F (by omega) (tgt := 220) dJ19_add_2_189 (by decide) rfl (fun c_189 => ?_) (fun c_189 => ?_)
              ·
                have K220 : ∀ N220 : Nat, ∀ (m : Nat) (rf : Nat → Nat) (c : Nat), (m ≤ n) → (c ≤ 1) → (∀ k, k < n → rf k < 4294967296) → (sm rf n m + c * bw m = sm f n m + d) → (c = 0 ∨ m = n) → ((n - m) < N220) → SW x [aN (xg x) 0 rr n rf, pl (xg x) M] 1 7 220 [(0, .ref a), (6, .int (jI (↑n - ↑m))), (7, .ref rr), (9, .int (jI (↑c)))] [] := by
                  intro N220; induction N220 with
                  | zero => intro m rf c hm hc hrf hri hz hmu220; omega
                  | succ N220 ih220 =>
                    intro m rf c hm hc hrf hri hz hmu220
                    refine sw_iload (n := 222) F 1 rfl dJ19_add_2_220 rfl ?_
                    refine sw_if_le (n := 225) F (by omega) (tgt := 240) dJ19_add_2_222 (by decide) rfl (fun c_222 => ?_) (fun c_222 => ?_)
                    ·
                      refine sw_iload (n := 242) F 3 rfl dJ19_add_2_240 rfl ?_
                      refine sw_if_eq (n := 245) F (by omega) (tgt := 274) dJ19_add_2_242 (by decide) rfl (fun c_242 => ?_) (fun c_242 => ?_)
                      ·
                        refine sw_aload (n := 276) F 2 (some rr) rfl rfl dJ19_add_2_274 rfl ?_
                        exact sw_aret F (some rr) _ rfl rfl (by first | exact Or.inl ⟨_, rfl⟩ | exact Or.inr ⟨_, rfl⟩) dJ19_add_2_276 (by rw [hPo]; exact ⟨rr, n, rf, rfl, (by first | omega | assumption), (by first | exact carry_ok hrf | exact nocarry_ok hwX hrf (Y := d) (by have e := hri; rw [show m = n by omega, show c = 0 by omega, ← wv_sm, ← wv_sm] at e; omega) | exact wOK_nz (two_ok (by omega) (by omega)) (by rw [vu_eq rfl]; omega)), (by have e := hri; rw [show m = n by omega, show c = 0 by omega, ← wv_sm, ← wv_sm] at e; omega), rfl⟩)
                      ·
                        refine sw_aload (n := 247) F 2 (some rr) rfl rfl dJ19_add_2_245 rfl ?_
                        refine sw_alen (n := 248) F 0 rfl (fun _ => rfl) dJ19_add_2_247 rfl ?_
                        refine sw_iconst (n := 249) F (1) (by decide) dJ19_add_2_248 rfl ?_
                        refine sw_iadd (n := 250) F dJ19_add_2_249 rfl ?_
                        refine sw_newaN (n := 252) F (n + 1) (by first | omega | rfl) (by omega) 0 0 ⟨by omega, by omega⟩ dJ19_add_2_250 rfl (fun q_15 => ?_)
                        refine sw_astore (n := 254) F (some q_15) (L2 := [(10, .ref q_15), (0, .ref a), (6, .int (jI (↑n - ↑m))), (7, .ref rr), (9, .int (jI (↑c)))]) rfl rfl (by decide) dJ19_add_2_252 rfl ?_
                        refine sw_aload (n := 256) F 3 (some rr) rfl rfl dJ19_add_2_254 rfl ?_
                        refine sw_iconst (n := 257) F (0) (by decide) dJ19_add_2_256 rfl ?_
                        refine sw_aload (n := 259) F 0 (some q_15) rfl rfl dJ19_add_2_257 rfl ?_
                        refine sw_iconst (n := 260) F (1) (by decide) dJ19_add_2_259 rfl ?_
                        refine sw_aload (n := 262) F 3 (some rr) rfl rfl dJ19_add_2_260 rfl ?_
                        refine sw_alen (n := 263) F 1 rfl (fun _ => rfl) dJ19_add_2_262 rfl ?_
                        refine sw_copyN (n := 266) F 0 (hA_ar (t0 := 0) (ty := .int) (f := fun j => .int (jI (rf j : Nat))) F (i := 1) rfl (fun _ => rfl)) rfl 0 1 n (by first | rfl | omega) (by first | rfl | omega) (by first | rfl | omega) (by omega) (by omega) (by omega) q1107 q530 q529 q133 (by decide) [aN (xg x) 0 q_15 (n + 1) (va_cpy rf (fun _ => 0) 0 1 n), aN (xg x) 0 rr n rf, pl (xg x) M] rfl dJ19_add_2_263 rfl ?_
                        refine sw_aload (n := 268) F 0 (some q_15) rfl rfl dJ19_add_2_266 rfl ?_
                        refine sw_iconst (n := 269) F (0) (by decide) dJ19_add_2_268 rfl ?_
                        refine sw_iconst (n := 270) F (1) (by decide) dJ19_add_2_269 rfl ?_
                        refine sw_iastoreW (n := 271) F 0 rfl (fun _ => rfl) 0 rfl (by omega) 1 (by first | omega | rfl) [aN (xg x) 0 q_15 (n + 1) (va_up (va_cpy rf (fun _ => 0) 0 1 n) 0 1), aN (xg x) 0 rr n rf, pl (xg x) M] (by rfl) dJ19_add_2_270 rfl ?_
                        refine sw_aload (n := 273) F 0 (some q_15) rfl rfl dJ19_add_2_271 rfl ?_
                        refine sw_drop [0, 2, 1] 2 rfl [aN (xg x) 0 q_15 (n + 1) (va_up (va_cpy rf (fun _ => 0) 0 1 n) 0 1), pl (xg x) M] rfl ?_
                        exact sw_aret F (some q_15) _ rfl rfl (by first | exact Or.inl ⟨_, rfl⟩ | exact Or.inr ⟨_, rfl⟩) dJ19_add_2_273 (by rw [hPo]; exact ⟨q_15, n + 1, va_up (va_cpy rf (fun _ => 0) 0 1 n) 0 1, rfl, (by first | omega | assumption), (by first | exact carry_ok hrf | exact nocarry_ok hwX hrf (Y := d) (by have e := hri; rw [show m = n by omega, show c = 0 by omega, ← wv_sm, ← wv_sm] at e; omega) | exact wOK_nz (two_ok (by omega) (by omega)) (by rw [vu_eq rfl]; omega)), (by rw [wv_carry]; have e := hri; rw [show m = n by omega, show c = 1 by omega, ← wv_sm, ← wv_sm] at e; omega), rfl⟩)
                    ·
                      refine sw_aload (n := 227) F 2 (some rr) rfl rfl dJ19_add_2_225 rfl ?_
                      refine sw_iinc (n := 230) F 1 (L2 := [(6, .int (jI (↑n - ↑m + (-1)))), (0, .ref a), (7, .ref rr), (9, .int (jI (↑c)))]) rfl rfl (by decide) dJ19_add_2_227 rfl ?_
                      refine sw_iload (n := 232) F 0 rfl dJ19_add_2_230 rfl ?_
                      refine sw_aload_n (n := 233) F 1 (some a) rfl rfl rfl dJ19_add_2_232 rfl ?_
                      refine sw_iload (n := 235) F 0 rfl dJ19_add_2_233 rfl ?_
                      refine sw_ialoadK (n := 236) F (plA F 1 rfl ha) (n - m - 1) (by omega) (by omega) dJ19_add_2_235 rfl ?_
                      show SW x _ _ _ _ _ [.int (jI (↑(f (n - m - 1)))), .int (jI (↑n - ↑m + (-1))), .ref rr]
                      refine sw_iastoreW (n := 237) F 0 rfl (fun _ => rfl) (n - m - 1) (by omega) (by omega) (f (n - m - 1)) (by first | omega | rfl) [aN (xg x) 0 rr n (va_up rf (n - m - 1) (f (n - m - 1))), pl (xg x) M] (by rfl) dJ19_add_2_236 rfl ?_
                      refine sw_goto F (n := 220) dJ19_add_2_237 (by decide) ?_
                      refine sw_loc [1, 0, 2, 3] (L2 := [(0, .ref a), (6, .int (jI (↑n - ↑m + (-1)))), (7, .ref rr), (9, .int (jI (↑c)))]) rfl ?_
                      rw [show (↑n - ↑m + (-1) : Int) = ↑n - ↑(m + 1) by omega]
                      exact ih220 (m + 1) (va_up rf (n - m - 1) (f (n - m - 1))) c (by first | omega | assumption) hc (by exact up_lt hrf (hwX.1 _ (by omega))) (by exact cpy_step hri (by omega) (by omega) (by omega)) (by first | omega | assumption) (by omega)
                exact K220 _ m rf c hm hc (by first | assumption | exact up_lt (fun _ _ => by decide) (by omega) | exact up_lt (up_lt (fun _ _ => by decide) (by omega)) (by omega)) hri (by first | omega | assumption) (Nat.lt_succ_self _)
              ·
                refine sw_aload (n := 194) F 2 (some rr) rfl rfl dJ19_add_2_192 rfl ?_
                refine sw_iinc (n := 197) F 1 (L2 := [(6, .int (jI (↑n - ↑m + (-1)))), (0, .ref a), (7, .ref rr), (9, .int (jI (↑c)))]) rfl rfl (by decide) dJ19_add_2_194 rfl ?_
                refine sw_iload (n := 199) F 0 rfl dJ19_add_2_197 rfl ?_
                refine sw_aload_n (n := 200) F 1 (some a) rfl rfl rfl dJ19_add_2_199 rfl ?_
                refine sw_iload (n := 202) F 0 rfl dJ19_add_2_200 rfl ?_
                refine sw_ialoadK (n := 203) F (plA F 1 rfl ha) (n - m - 1) (by omega) (by omega) dJ19_add_2_202 rfl ?_
                show SW x _ _ _ _ _ [.int (jI (↑(f (n - m - 1)))), .int (jI (↑n - ↑m + (-1))), .ref rr]
                refine sw_iconst (n := 204) F (1) (by decide) dJ19_add_2_203 rfl ?_
                refine sw_iadd (n := 205) F dJ19_add_2_204 rfl ?_
                have hb_x : f (n - m - 1) < 4294967296 := hwX.1 _ (by omega)
                refine sw_top (topIm (show ((↑(f (n - m - 1))) + 1 : Int) % 4294967296 = (↑((f (n - m - 1) + 1) % 4294967296)) % 4294967296 by omega)) ?_
                refine sw_dup_x2 (n := 206) F rfl rfl rfl dJ19_add_2_205 rfl ?_
                refine sw_iastoreW (n := 207) F 0 rfl (fun _ => rfl) (n - m - 1) (by omega) (by omega) ((f (n - m - 1) + 1) % 4294967296) (by first | omega | rfl) [aN (xg x) 0 rr n (va_up rf (n - m - 1) ((f (n - m - 1) + 1) % 4294967296)), pl (xg x) M] (by rfl) dJ19_add_2_206 rfl ?_
                refine sw_if_neU (n := 210) F (by omega) (tgt := 214) dJ19_add_2_207 (by decide) rfl (fun c_207 => ?_) (fun c_207 => ?_)
                ·
                  refine sw_iconst (n := 215) F (0) (by decide) dJ19_add_2_214 rfl ?_
                  refine sw_istore (n := 217) F (L2 := [(9, .int (jI 0)), (6, .int (jI (↑n - ↑m + (-1)))), (0, .ref a), (7, .ref rr)]) rfl (by decide) dJ19_add_2_215 rfl ?_
                  refine sw_goto F (n := 182) dJ19_add_2_217 (by decide) ?_
                  refine sw_loc [2, 1, 3, 0] (L2 := [(0, .ref a), (6, .int (jI (↑n - ↑m + (-1)))), (7, .ref rr), (9, .int (jI 0))]) rfl ?_
                  rw [show (↑n - ↑m + (-1) : Int) = ↑n - ↑(m + 1) by omega]
                  exact ih182 (m + 1) (va_up rf (n - m - 1) ((f (n - m - 1) + 1) % 4294967296)) 0 (by first | omega | assumption) (by first | omega | assumption) (by exact up_lt hrf (by omega)) (by exact inc_step hri (by omega) (by omega) (by omega) (by omega)) (by omega)
                ·
                  refine sw_iconst (n := 211) F (1) (by decide) dJ19_add_2_210 rfl ?_
                  refine sw_goto F (n := 215) dJ19_add_2_211 (by decide) ?_
                  refine sw_istore (n := 217) F (L2 := [(9, .int (jI 1)), (6, .int (jI (↑n - ↑m + (-1)))), (0, .ref a), (7, .ref rr)]) rfl (by decide) dJ19_add_2_215 rfl ?_
                  refine sw_goto F (n := 182) dJ19_add_2_217 (by decide) ?_
                  refine sw_loc [2, 1, 3, 0] (L2 := [(0, .ref a), (6, .int (jI (↑n - ↑m + (-1)))), (7, .ref rr), (9, .int (jI 1))]) rfl ?_
                  rw [show (↑n - ↑m + (-1) : Int) = ↑n - ↑(m + 1) by omega]
                  exact ih182 (m + 1) (va_up rf (n - m - 1) ((f (n - m - 1) + 1) % 4294967296)) 1 (by first | omega | assumption) (by first | omega | assumption) (by exact up_lt hrf (by omega)) (by exact inc_step hri (by omega) (by omega) (by omega) (by omega)) (by omega)
        refine sw_loc [1, 2, 3, 0] (L2 := [(0, .ref a), (6, .int (jI (↑n - ↑m))), (7, .ref rr), (9, .int (jI 1))]) rfl ?_
        exact K182 _ m rf 1 hm (by first | omega | assumption) (by first | assumption | exact up_lt (fun _ _ => by decide) (by omega) | exact up_lt (up_lt (fun _ _ => by decide) (by omega)) (by omega)) (by first | (rw [show p / 4294967296 = 1 by omega] at hri; exact hri) | (rw [show p / 4294967296 = 0 by omega] at hri; exact hri)) (Nat.lt_succ_self _)
    refine sw_loc [4, 1, 2, 0] (L2 := [(0, .ref a), (6, .int (jI (↑n - 1))), (7, .ref q_10), (4, .long (jL (↑p)))]) rfl ?_
    exact K165 1 (va_up (fun _ => 0) (n - 1) (p % 4294967296)) p q_10 (by first | omega | assumption) (by first | omega | assumption) (by first | assumption | exact up_lt (fun _ _ => by decide) (by omega) | exact up_lt (up_lt (fun _ _ => by decide) (by omega)) (by omega)) (by exact add_d1 (by omega) hp)
theorem sub_d1 {f : Nat → Nat} {n d b i : Nat} {p : Int} (hn : 0 < n) (hi : i = n - 1) (hp : p = (f i : Int) - d) (hb : p / 4294967296 = -(b : Int)) : sm (va_up (fun _ => 0) i (p % 4294967296).toNat) n 1 + d = sm f n 1 + b * bw 1 := by
  rw [sm_lay (m := 0) hn (by omega), sm_s f, sm_0, sm_0, bw_0, bw_1, show n - 1 - 0 = i by omega]; omega
theorem sub_d2 {f r : Nat → Nat} {n d dl dh b i j : Nat} {p p2 : Int} (hn : 2 ≤ n) (hr : r = va_up (fun _ => 0) j (p % 4294967296).toNat) (hj : j = n - 1) (hi : i = n - 1 - 1) (hd : d = dh * 4294967296 + dl) (hp : p = (f j : Int) - dl) (hp2 : p2 = (f i : Int) - dh + p / 4294967296) (hb : p2 / 4294967296 = -(b : Int)) : sm (va_up r i (p2 % 4294967296).toNat) n 2 + d = sm f n 2 + b * bw 2 := by
  rw [sm_lay (m := 1) (by omega) hi, hr, sm_lay (m := 0) (by omega) (by omega), sm_s f n 1, sm_s f n 0, sm_0, sm_0, bw_0, bw_1, bw_2, show n - 1 - 0 = j by omega, show n - 1 - 1 = i by omega]; omega
theorem nd_J19_subtract : yJ19_subtract.cls ≠ "java/lang/invoke/MethodHandle" ∧ yJ19_subtract.cls ≠ "java/lang/invoke/VarHandle" ∧ (parseMethodDescriptor yJ19_subtract.desc).map (fun d => d.parameters.length) = some 2 := by decide +kernel
set_option maxRecDepth 100000 in
set_option maxHeartbeats 16000000 in
theorem ct_J19_subtract {g : GG} {l : Launch} (M : Nat → Option PV) (a : Nat) (n : Nat) (f : Nat → Nat) (d : Nat) (ha : at_ g M a (vA n f)) (hwX : wOK n f) (hn : 0 < n ∧ n ≤ 6) (hd : d < 9223372036854775808) (hle : d ≤ wv f n) : Ct g l yJ19_subtract (ws_ yJ19_subtract cJ19_subtract 9 (Option.some (Jvm.ClassFile.FieldType.array Jvm.ClassFile.FieldType.int))) 1 12 1 6 [.ref a, .long (jL (↑d))] [pl g M] (fun v9 Ws9 => ∃ r1 : Nat, ∃ f1 : Nat → Nat, v9 = some (.ref r1) ∧ (∀ k, k < n → f1 k < 4294967296) ∧ (wv f1 n = wv f n - d) ∧ Ws9 = [aN g 0 r1 n f1, pl g M]) (nox) := by
  refine Ct.of (cc := cJ19_subtract) (nL := 9) (ret := (Option.some (Jvm.ClassFile.FieldType.array Jvm.ClassFile.FieldType.int))) (by decide) rfl (Nat.le_of_ble_eq_true rfl) ?_
  intro x hg hl hPo hPx hmc hms F
  subst hg; subst hl
  refine SW.cast (L' := [(0, .ref a), (1, .long (jL (↑d)))]) ?_ rfl rfl rfl
  obtain ⟨dh, hdh⟩ : ∃ z : Nat, z = d / 4294967296 := ⟨_, rfl⟩
  obtain ⟨dl, hdl⟩ : ∃ z : Nat, z = d % 4294967296 := ⟨_, rfl⟩
  refine sw_lload_n (n := 1) F 1 rfl rfl dJ19_subtract_0 rfl ?_
  refine sw_bipush (n := 3) F (32) (by decide) dJ19_subtract_1 rfl ?_
  refine sw_lushr (n := 4) F _ (jL_ushr32 _) dJ19_subtract_3 rfl ?_
  refine sw_l2i (n := 5) F dJ19_subtract_4 rfl ?_
  refine sw_top (topI (show ((↑d) % 18446744073709551616 / 4294967296 : Int) = ↑dh by omega)) ?_
  refine sw_istore_n (n := 6) F (L2 := [(3, .int (jI (↑dh))), (0, .ref a), (1, .long (jL (↑d)))]) rfl (by decide) rfl dJ19_subtract_5 rfl ?_
  refine sw_aload_n (n := 7) F 1 (some a) rfl rfl rfl dJ19_subtract_6 rfl ?_
  refine sw_alenK (n := 8) F (plA F 0 rfl ha) dJ19_subtract_7 rfl ?_
  show SW x _ _ _ _ _ [.int (jI (↑n))]
  refine sw_istore (n := 10) F (L2 := [(4, .int (jI (↑n))), (3, .int (jI (↑dh))), (0, .ref a), (1, .long (jL (↑d)))]) rfl (by decide) dJ19_subtract_8 rfl ?_
  refine sw_iload (n := 12) F 0 rfl dJ19_subtract_10 rfl ?_
  refine sw_newaN (n := 14) F (n) (by first | omega | rfl) (by omega) 0 0 ⟨by omega, by omega⟩ dJ19_subtract_12 rfl (fun q_1 => ?_)
  refine sw_astore (n := 16) F (some q_1) (L2 := [(5, .ref q_1), (4, .int (jI (↑n))), (3, .int (jI (↑dh))), (0, .ref a), (1, .long (jL (↑d)))]) rfl rfl (by decide) dJ19_subtract_14 rfl ?_
  refine sw_lconst (n := 17) F 0 (by decide) dJ19_subtract_16 rfl ?_
  refine sw_lstore (n := 19) F (L2 := [(6, .long (jL 0)), (5, .ref q_1), (4, .int (jI (↑n))), (3, .int (jI (↑dh))), (0, .ref a), (1, .long (jL (↑d)))]) rfl (by decide) dJ19_subtract_17 rfl ?_
  have K169 : ∀ N169 : Nat, ∀ (m : Nat) (rf : Nat → Nat) (c : Nat), (m ≤ n) → (c ≤ 1) → (∀ k, k < n → rf k < 4294967296) → (sm rf n m + d = sm f n m + c * bw m) → (c = 0 ∨ m = n) → ((n - m) < N169) → SW x [aN (xg x) 0 q_1 n rf, pl (xg x) M] 0 0 169 [(0, .ref a), (4, .int (jI (↑n - ↑m))), (5, .ref q_1), (8, .int (jI (↑c)))] [] := by
    intro N169; induction N169 with
    | zero => intro m rf c hm hc hrf hri hz hmu169; omega
    | succ N169 ih169 =>
      intro m rf c hm hc hrf hri hz hmu169
      refine sw_iload (n := 171) F 1 rfl dJ19_subtract_169 rfl ?_
      refine sw_if_le (n := 174) F (by omega) (tgt := 189) dJ19_subtract_171 (by decide) rfl (fun c_171 => ?_) (fun c_171 => ?_)
      ·
        refine sw_aload (n := 191) F 2 (some q_1) rfl rfl dJ19_subtract_189 rfl ?_
        exact sw_aret F (some q_1) _ rfl rfl (by first | exact Or.inl ⟨_, rfl⟩ | exact Or.inr ⟨_, rfl⟩) dJ19_subtract_191 (by rw [hPo]; exact ⟨q_1, rf, rfl, (by exact hrf), (by have e := hri; rw [show m = n by omega, ← wv_sm f n] at e; exact borrow_0 hrf e hc hle), rfl⟩)
      ·
        refine sw_aload (n := 176) F 2 (some q_1) rfl rfl dJ19_subtract_174 rfl ?_
        refine sw_iinc (n := 179) F 1 (L2 := [(4, .int (jI (↑n - ↑m + (-1)))), (0, .ref a), (5, .ref q_1), (8, .int (jI (↑c)))]) rfl rfl (by decide) dJ19_subtract_176 rfl ?_
        refine sw_iload (n := 181) F 0 rfl dJ19_subtract_179 rfl ?_
        refine sw_aload_n (n := 182) F 1 (some a) rfl rfl rfl dJ19_subtract_181 rfl ?_
        refine sw_iload (n := 184) F 0 rfl dJ19_subtract_182 rfl ?_
        refine sw_ialoadK (n := 185) F (plA F 1 rfl ha) (n - m - 1) (by omega) (by omega) dJ19_subtract_184 rfl ?_
        show SW x _ _ _ _ _ [.int (jI (↑(f (n - m - 1)))), .int (jI (↑n - ↑m + (-1))), .ref q_1]
        refine sw_iastoreW (n := 186) F 0 rfl (fun _ => rfl) (n - m - 1) (by omega) (by omega) (f (n - m - 1)) (by first | omega | rfl) [aN (xg x) 0 q_1 n (va_up rf (n - m - 1) (f (n - m - 1))), pl (xg x) M] (by rfl) dJ19_subtract_185 rfl ?_
        refine sw_goto F (n := 169) dJ19_subtract_186 (by decide) ?_
        refine sw_loc [1, 0, 2, 3] (L2 := [(0, .ref a), (4, .int (jI (↑n - ↑m + (-1)))), (5, .ref q_1), (8, .int (jI (↑c)))]) rfl ?_
        rw [show (↑n - ↑m + (-1) : Int) = ↑n - ↑(m + 1) by omega]
        exact ih169 (m + 1) (va_up rf (n - m - 1) (f (n - m - 1))) c (by first | omega | assumption) hc (by exact up_lt hrf (hwX.1 _ (by omega))) (by exact cpz_step hri (by omega) (by omega) (by omega)) (by first | omega | assumption) (by omega)
  have K130 : ∀ N130 : Nat, ∀ (m : Nat) (rf : Nat → Nat) (c : Nat), (m ≤ n) → (c ≤ 1) → (∀ k, k < n → rf k < 4294967296) → (sm rf n m + d = sm f n m + c * bw m) → ((n - m) < N130) → SW x [aN (xg x) 0 q_1 n rf, pl (xg x) M] 0 0 130 [(0, .ref a), (4, .int (jI (↑n - ↑m))), (5, .ref q_1), (8, .int (jI (↑c)))] [] := by
    intro N130; induction N130 with
    | zero => intro m rf c hm hc hrf hri hmu130; omega
    | succ N130 ih130 =>
      intro m rf c hm hc hrf hri hmu130
      refine sw_iload (n := 132) F 1 rfl dJ19_subtract_130 rfl ?_
      refine sw_if_le (n := 135) F (by omega) (tgt := 169) dJ19_subtract_132 (by decide) rfl (fun c_132 => ?_) (fun c_132 => ?_)
      ·
        exact K169 _ m rf c hm hc (by first | assumption | exact up_lt (fun _ _ => by decide) (by omega) | exact up_lt (up_lt (fun _ _ => by decide) (by omega)) (by omega)) hri (by first | omega | assumption) (Nat.lt_succ_self _)
      ·
        refine sw_iload (n := 137) F 3 rfl dJ19_subtract_135 rfl ?_
        refine sw_if_eq (n := 140) F (by omega) (tgt := 169) dJ19_subtract_137 (by decide) rfl (fun c_137 => ?_) (fun c_137 => ?_)
        ·
          exact K169 _ m rf c hm hc (by first | assumption | exact up_lt (fun _ _ => by decide) (by omega) | exact up_lt (up_lt (fun _ _ => by decide) (by omega)) (by omega)) hri (by first | omega | assumption) (Nat.lt_succ_self _)
        ·
          refine sw_aload (n := 142) F 2 (some q_1) rfl rfl dJ19_subtract_140 rfl ?_
          refine sw_iinc (n := 145) F 1 (L2 := [(4, .int (jI (↑n - ↑m + (-1)))), (0, .ref a), (5, .ref q_1), (8, .int (jI (↑c)))]) rfl rfl (by decide) dJ19_subtract_142 rfl ?_
          refine sw_iload (n := 147) F 0 rfl dJ19_subtract_145 rfl ?_
          refine sw_aload_n (n := 148) F 1 (some a) rfl rfl rfl dJ19_subtract_147 rfl ?_
          refine sw_iload (n := 150) F 0 rfl dJ19_subtract_148 rfl ?_
          refine sw_ialoadK (n := 151) F (plA F 1 rfl ha) (n - m - 1) (by omega) (by omega) dJ19_subtract_150 rfl ?_
          show SW x _ _ _ _ _ [.int (jI (↑(f (n - m - 1)))), .int (jI (↑n - ↑m + (-1))), .ref q_1]
          refine sw_iconst (n := 152) F (1) (by decide) dJ19_subtract_151 rfl ?_
          refine sw_isub (n := 153) F dJ19_subtract_152 rfl ?_
          have hb_x : f (n - m - 1) < 4294967296 := hwX.1 _ (by omega)
          refine sw_top (topIm (show ((↑(f (n - m - 1))) - 1 : Int) % 4294967296 = (↑((f (n - m - 1) + 4294967295) % 4294967296)) % 4294967296 by omega)) ?_
          refine sw_dup_x2 (n := 154) F rfl rfl rfl dJ19_subtract_153 rfl ?_
          refine sw_iastoreW (n := 155) F 0 rfl (fun _ => rfl) (n - m - 1) (by omega) (by omega) ((f (n - m - 1) + 4294967295) % 4294967296) (by first | omega | rfl) [aN (xg x) 0 q_1 n (va_up rf (n - m - 1) ((f (n - m - 1) + 4294967295) % 4294967296)), pl (xg x) M] (by rfl) dJ19_subtract_154 rfl ?_
          refine sw_iconst (n := 156) F (-1) (by decide) dJ19_subtract_155 rfl ?_
          refine sw_top (topIm (show (-1 : Int) % 4294967296 = (4294967295) % 4294967296 by decide)) ?_
          refine sw_icmp_neU (n := 159) F (by omega) (by omega) (tgt := 163) dJ19_subtract_156 (by decide) rfl (fun c_156 => ?_) (fun c_156 => ?_)
          ·
            refine sw_iconst (n := 164) F (0) (by decide) dJ19_subtract_163 rfl ?_
            refine sw_istore (n := 166) F (L2 := [(8, .int (jI 0)), (4, .int (jI (↑n - ↑m + (-1)))), (0, .ref a), (5, .ref q_1)]) rfl (by decide) dJ19_subtract_164 rfl ?_
            refine sw_goto F (n := 130) dJ19_subtract_166 (by decide) ?_
            refine sw_loc [2, 1, 3, 0] (L2 := [(0, .ref a), (4, .int (jI (↑n - ↑m + (-1)))), (5, .ref q_1), (8, .int (jI 0))]) rfl ?_
            rw [show (↑n - ↑m + (-1) : Int) = ↑n - ↑(m + 1) by omega]
            exact ih130 (m + 1) (va_up rf (n - m - 1) ((f (n - m - 1) + 4294967295) % 4294967296)) 0 (by first | omega | assumption) (by first | omega | assumption) (by exact up_lt hrf (by omega)) (by exact dec_step hri (by omega) (by omega) (by omega) hb_x (by split <;> omega)) (by omega)
          ·
            refine sw_iconst (n := 160) F (1) (by decide) dJ19_subtract_159 rfl ?_
            refine sw_goto F (n := 164) dJ19_subtract_160 (by decide) ?_
            refine sw_istore (n := 166) F (L2 := [(8, .int (jI 1)), (4, .int (jI (↑n - ↑m + (-1)))), (0, .ref a), (5, .ref q_1)]) rfl (by decide) dJ19_subtract_164 rfl ?_
            refine sw_goto F (n := 130) dJ19_subtract_166 (by decide) ?_
            refine sw_loc [2, 1, 3, 0] (L2 := [(0, .ref a), (4, .int (jI (↑n - ↑m + (-1)))), (5, .ref q_1), (8, .int (jI 1))]) rfl ?_
            rw [show (↑n - ↑m + (-1) : Int) = ↑n - ↑(m + 1) by omega]
            exact ih130 (m + 1) (va_up rf (n - m - 1) ((f (n - m - 1) + 4294967295) % 4294967296)) 1 (by first | omega | assumption) (by first | omega | assumption) (by exact up_lt hrf (by omega)) (by exact dec_step hri (by omega) (by omega) (by omega) hb_x (by split <;> omega)) (by omega)
  have K113 : ∀ (m : Nat) (rf : Nat → Nat) (p : Int) (c : Nat), (m ≤ n) → (c ≤ 1) → (p / 4294967296 = -(c : Int)) → (-4294967296 ≤ p ∧ p < 4294967296) → (∀ k, k < n → rf k < 4294967296) → (sm rf n m + d = sm f n m + c * bw m) → SW x [aN (xg x) 0 q_1 n rf, pl (xg x) M] 0 0 113 [(0, .ref a), (4, .int (jI (↑n - ↑m))), (5, .ref q_1), (6, .long (jL p))] [] := by
    intro m rf p c hm hc hp hpr hrf hri
    refine sw_lload (n := 115) F 3 rfl dJ19_subtract_113 rfl ?_
    refine sw_bipush (n := 117) F (32) (by decide) dJ19_subtract_115 rfl ?_
    refine sw_lshr (n := 118) F (jL (p / 4294967296)) (by have h7s := jL_shrQ (z := p) (c := 32) (P := 4294967296) (k := 32) (by omega) (by decide) (by decide) (by decide); exact h7s) dJ19_subtract_117 rfl ?_
    refine sw_lconst (n := 119) F 0 (by decide) dJ19_subtract_118 rfl ?_
    refine sw_lcmp (n := 120) F (by omega) (by decide) dJ19_subtract_119 rfl ?_
    refine sw_if_eq (n := 123) F (by omega) (tgt := 127) dJ19_subtract_120 (by decide) rfl (fun c_120 => ?_) (fun c_120 => ?_)
    ·
      have c_120 : p / 4294967296 = 0 := by revert c_120; (repeat' split) <;> omega
      refine sw_iconst (n := 128) F (0) (by decide) dJ19_subtract_127 rfl ?_
      refine sw_istore (n := 130) F (L2 := [(8, .int (jI 0)), (0, .ref a), (4, .int (jI (↑n - ↑m))), (5, .ref q_1), (6, .long (jL p))]) rfl (by decide) dJ19_subtract_128 rfl ?_
      refine sw_loc [1, 2, 3, 0] (L2 := [(0, .ref a), (4, .int (jI (↑n - ↑m))), (5, .ref q_1), (8, .int (jI 0))]) rfl ?_
      exact K130 _ m rf 0 hm (by first | omega | assumption) (by first | assumption | exact up_lt (fun _ _ => by decide) (by omega) | exact up_lt (up_lt (fun _ _ => by decide) (by omega)) (by omega)) (by first | (rw [show c = 1 by omega] at hri; exact hri) | (rw [show c = 0 by omega] at hri; exact hri)) (Nat.lt_succ_self _)
    ·
      have c_120 : p / 4294967296 ≠ 0 := by revert c_120; (repeat' split) <;> omega
      refine sw_iconst (n := 124) F (1) (by decide) dJ19_subtract_123 rfl ?_
      refine sw_goto F (n := 128) dJ19_subtract_124 (by decide) ?_
      refine sw_istore (n := 130) F (L2 := [(8, .int (jI 1)), (0, .ref a), (4, .int (jI (↑n - ↑m))), (5, .ref q_1), (6, .long (jL p))]) rfl (by decide) dJ19_subtract_128 rfl ?_
      refine sw_loc [1, 2, 3, 0] (L2 := [(0, .ref a), (4, .int (jI (↑n - ↑m))), (5, .ref q_1), (8, .int (jI 1))]) rfl ?_
      exact K130 _ m rf 1 hm (by first | omega | assumption) (by first | assumption | exact up_lt (fun _ _ => by decide) (by omega) | exact up_lt (up_lt (fun _ _ => by decide) (by omega)) (by omega)) (by first | (rw [show c = 1 by omega] at hri; exact hri) | (rw [show c = 0 by omega] at hri; exact hri)) (Nat.lt_succ_self _)
  refine sw_iload_n (n := 20) F 3 rfl rfl dJ19_subtract_19 rfl ?_
  refine sw_if_ne (n := 23) F (by omega) (tgt := 50) dJ19_subtract_20 (by decide) rfl (fun c_20 => ?_) (fun c_20 => ?_)
  ·
    have hn2 : 2 ≤ n := by rcases Nat.lt_or_ge n 2 with q9 | q9; have hq := wv_lt hwX.1; rw [show n = 1 by omega, bw_1] at hq; rw [show n = 1 by omega] at hle; omega; exact q9
    refine sw_aload_n (n := 51) F 4 (some a) rfl rfl rfl dJ19_subtract_50 rfl ?_
    refine sw_iinc (n := 54) F 2 (L2 := [(4, .int (jI (↑n + (-1)))), (6, .long (jL 0)), (5, .ref q_1), (3, .int (jI (↑dh))), (0, .ref a), (1, .long (jL (↑d)))]) rfl rfl (by decide) dJ19_subtract_51 rfl ?_
    refine sw_iload (n := 56) F 0 rfl dJ19_subtract_54 rfl ?_
    refine sw_ialoadK (n := 57) F (plA F 1 rfl ha) (n - 1) (by omega) (by omega) dJ19_subtract_56 rfl ?_
    show SW x _ _ _ _ _ [.int (jI (↑(f (n - 1))))]
    have hb_2 : f (n - 1) < 4294967296 := hwX.1 _ (by omega)
    refine sw_i2lr (n := 58) F dJ19_subtract_57 rfl ?_
    refine sw_ldc2 (n := 61) F (4294967295) q1106 (by decide) dJ19_subtract_58 rfl ?_
    refine sw_land (n := 62) F (jL (↑(f (n - 1)))) (jI_wordE (by omega)) dJ19_subtract_61 rfl ?_
    refine sw_lload_n (n := 63) F 5 rfl rfl dJ19_subtract_62 rfl ?_
    refine sw_ldc2 (n := 66) F (4294967295) q1106 (by decide) dJ19_subtract_63 rfl ?_
    refine sw_land (n := 67) F (jL ((↑d) % 4294967296)) (jL_and 32 (by decide) (by rfl)) dJ19_subtract_66 rfl ?_
    refine sw_top (topL (show ((↑d) % 4294967296 : Int) = ↑dl by omega)) ?_
    refine sw_lsub (n := 68) F dJ19_subtract_67 rfl ?_
    obtain ⟨p1, hp1⟩ : ∃ z : Int, z = ↑(f (n - 1)) - ↑dl := ⟨_, rfl⟩
    refine sw_top (topL (show ((↑(f (n - 1))) - (↑dl) : Int) = p1 by omega)) ?_
    refine sw_lstore (n := 70) F (L2 := [(6, .long (jL p1)), (4, .int (jI (↑n + (-1)))), (5, .ref q_1), (3, .int (jI (↑dh))), (0, .ref a), (1, .long (jL (↑d)))]) rfl (by decide) dJ19_subtract_68 rfl ?_
    refine sw_aload (n := 72) F 2 (some q_1) rfl rfl dJ19_subtract_70 rfl ?_
    refine sw_iload (n := 74) F 1 rfl dJ19_subtract_72 rfl ?_
    refine sw_lload (n := 76) F 0 rfl dJ19_subtract_74 rfl ?_
    refine sw_l2i (n := 77) F dJ19_subtract_76 rfl ?_
    refine sw_iastoreW (n := 78) F 0 rfl (fun _ => rfl) (n - 1) (by omega) (by omega) ((p1 % 4294967296).toNat) (by first | omega | rfl) [aN (xg x) 0 q_1 n (va_up (fun _ => 0) (n - 1) ((p1 % 4294967296).toNat)), pl (xg x) M] (by simp [List.set]) dJ19_subtract_77 rfl ?_
    refine sw_aload_n (n := 79) F 4 (some a) rfl rfl rfl dJ19_subtract_78 rfl ?_
    refine sw_iinc (n := 82) F 1 (L2 := [(4, .int (jI (↑n + (-1) + (-1)))), (6, .long (jL p1)), (5, .ref q_1), (3, .int (jI (↑dh))), (0, .ref a), (1, .long (jL (↑d)))]) rfl rfl (by decide) dJ19_subtract_79 rfl ?_
    refine sw_iload (n := 84) F 0 rfl dJ19_subtract_82 rfl ?_
    refine sw_ialoadK (n := 85) F (plA F 1 rfl ha) (n - 1 - 1) (by omega) (by omega) dJ19_subtract_84 rfl ?_
    show SW x _ _ _ _ _ [.int (jI (↑(f (n - 1 - 1))))]
    have hb_3 : f (n - 1 - 1) < 4294967296 := hwX.1 _ (by omega)
    refine sw_i2lr (n := 86) F dJ19_subtract_85 rfl ?_
    refine sw_ldc2 (n := 89) F (4294967295) q1106 (by decide) dJ19_subtract_86 rfl ?_
    refine sw_land (n := 90) F (jL (↑(f (n - 1 - 1)))) (jI_wordE (by omega)) dJ19_subtract_89 rfl ?_
    refine sw_iload_n (n := 91) F 3 rfl rfl dJ19_subtract_90 rfl ?_
    refine sw_i2lr (n := 92) F dJ19_subtract_91 rfl ?_
    refine sw_ldc2 (n := 95) F (4294967295) q1106 (by decide) dJ19_subtract_92 rfl ?_
    refine sw_land (n := 96) F (jL (↑dh)) (jI_wordE (by omega)) dJ19_subtract_95 rfl ?_
    refine sw_lsub (n := 97) F dJ19_subtract_96 rfl ?_
    refine sw_lload (n := 99) F 1 rfl dJ19_subtract_97 rfl ?_
    refine sw_bipush (n := 101) F (32) (by decide) dJ19_subtract_99 rfl ?_
    refine sw_lshr (n := 102) F (jL (p1 / 4294967296)) (by have h7s := jL_shrQ (z := p1) (c := 32) (P := 4294967296) (k := 32) (by omega) (by decide) (by decide) (by decide); exact h7s) dJ19_subtract_101 rfl ?_
    refine sw_ladd (n := 103) F dJ19_subtract_102 rfl ?_
    obtain ⟨p2, hp2⟩ : ∃ z : Int, z = ↑(f (n - 1 - 1)) - ↑dh + p1 / 4294967296 := ⟨_, rfl⟩
    refine sw_top (topL (show (((↑(f (n - 1 - 1))) - (↑dh)) + (p1 / 4294967296) : Int) = p2 by omega)) ?_
    refine sw_lstore (n := 105) F (L2 := [(6, .long (jL p2)), (4, .int (jI (↑n + (-1) + (-1)))), (5, .ref q_1), (3, .int (jI (↑dh))), (0, .ref a), (1, .long (jL (↑d)))]) rfl (by decide) dJ19_subtract_103 rfl ?_
    refine sw_aload (n := 107) F 2 (some q_1) rfl rfl dJ19_subtract_105 rfl ?_
    refine sw_iload (n := 109) F 1 rfl dJ19_subtract_107 rfl ?_
    refine sw_lload (n := 111) F 0 rfl dJ19_subtract_109 rfl ?_
    refine sw_l2i (n := 112) F dJ19_subtract_111 rfl ?_
    refine SW.cast (L' := [(6, .long (jL p2)), (4, .int (jI (↑n - 2))), (5, .ref q_1), (3, .int (jI (↑dh))), (0, .ref a), (1, .long (jL (↑d)))]) ?_ rfl (by rw [show Value.int (jI (↑n + (-1) + (-1))) = Value.int (jI (↑n - 2)) from topI (by omega)]) rfl
    refine sw_iastoreW (n := 113) F 0 rfl (fun _ => rfl) (n - 1 - 1) (by omega) (by omega) ((p2 % 4294967296).toNat) (by first | omega | rfl) [aN (xg x) 0 q_1 n (va_up (va_up (fun _ => 0) (n - 1) ((p1 % 4294967296).toNat)) (n - 1 - 1) ((p2 % 4294967296).toNat)), pl (xg x) M] (by simp [List.set]) dJ19_subtract_112 rfl ?_
    refine sw_loc [4, 1, 2, 0] (L2 := [(0, .ref a), (4, .int (jI (↑n - 2))), (5, .ref q_1), (6, .long (jL p2))]) rfl ?_
    exact K113 2 (va_up (va_up (fun _ => 0) (n - 1) ((p1 % 4294967296).toNat)) (n - 1 - 1) ((p2 % 4294967296).toNat)) p2 ((-(p2 / 4294967296)).toNat) hn2 (by first | omega | assumption) (by first | omega | assumption) (by first | omega | assumption) (by first | assumption | exact up_lt (fun _ _ => by decide) (by omega) | exact up_lt (up_lt (fun _ _ => by decide) (by omega)) (by omega)) (by exact sub_d2 (dl := dl) (dh := dh) (p := p1) (by omega) rfl (by omega) (by omega) (by omega) (by omega) (by omega) (by omega))
  ·
    refine sw_aload_n (n := 24) F 4 (some a) rfl rfl rfl dJ19_subtract_23 rfl ?_
    refine sw_iinc (n := 27) F 2 (L2 := [(4, .int (jI (↑n + (-1)))), (6, .long (jL 0)), (5, .ref q_1), (3, .int (jI (↑dh))), (0, .ref a), (1, .long (jL (↑d)))]) rfl rfl (by decide) dJ19_subtract_24 rfl ?_
    refine sw_iload (n := 29) F 0 rfl dJ19_subtract_27 rfl ?_
    refine sw_ialoadK (n := 30) F (plA F 1 rfl ha) (n - 1) (by omega) (by omega) dJ19_subtract_29 rfl ?_
    show SW x _ _ _ _ _ [.int (jI (↑(f (n - 1))))]
    have hb_4 : f (n - 1) < 4294967296 := hwX.1 _ (by omega)
    refine sw_i2lr (n := 31) F dJ19_subtract_30 rfl ?_
    refine sw_ldc2 (n := 34) F (4294967295) q1106 (by decide) dJ19_subtract_31 rfl ?_
    refine sw_land (n := 35) F (jL (↑(f (n - 1)))) (jI_wordE (by omega)) dJ19_subtract_34 rfl ?_
    refine sw_lload_n (n := 36) F 5 rfl rfl dJ19_subtract_35 rfl ?_
    refine sw_lsub (n := 37) F dJ19_subtract_36 rfl ?_
    obtain ⟨p1, hp1⟩ : ∃ z : Int, z = ↑(f (n - 1)) - ↑d := ⟨_, rfl⟩
    refine sw_top (topL (show ((↑(f (n - 1))) - (↑d) : Int) = p1 by omega)) ?_
    refine sw_lstore (n := 39) F (L2 := [(6, .long (jL p1)), (4, .int (jI (↑n + (-1)))), (5, .ref q_1), (3, .int (jI (↑dh))), (0, .ref a), (1, .long (jL (↑d)))]) rfl (by decide) dJ19_subtract_37 rfl ?_
    refine sw_aload (n := 41) F 2 (some q_1) rfl rfl dJ19_subtract_39 rfl ?_
    refine sw_iload (n := 43) F 1 rfl dJ19_subtract_41 rfl ?_
    refine sw_lload (n := 45) F 0 rfl dJ19_subtract_43 rfl ?_
    refine sw_l2i (n := 46) F dJ19_subtract_45 rfl ?_
    refine sw_iastoreW (n := 47) F 0 rfl (fun _ => rfl) (n - 1) (by omega) (by omega) ((p1 % 4294967296).toNat) (by first | omega | rfl) [aN (xg x) 0 q_1 n (va_up (fun _ => 0) (n - 1) ((p1 % 4294967296).toNat)), pl (xg x) M] (by simp [List.set]) dJ19_subtract_46 rfl ?_
    refine SW.cast (L' := [(6, .long (jL p1)), (4, .int (jI (↑n - 1))), (5, .ref q_1), (3, .int (jI (↑dh))), (0, .ref a), (1, .long (jL (↑d)))]) ?_ rfl (by rw [show Value.int (jI (↑n + (-1))) = Value.int (jI (↑n - 1)) from topI (by omega)]) rfl
    refine sw_goto F (n := 113) dJ19_subtract_47 (by decide) ?_
    refine sw_loc [4, 1, 2, 0] (L2 := [(0, .ref a), (4, .int (jI (↑n - 1))), (5, .ref q_1), (6, .long (jL p1))]) rfl ?_
    exact K113 1 (va_up (fun _ => 0) (n - 1) ((p1 % 4294967296).toNat)) p1 ((-(p1 / 4294967296)).toNat) (by first | omega | assumption) (by first | omega | assumption) (by first | omega | assumption) (by first | omega | assumption) (by first | assumption | exact up_lt (fun _ _ => by decide) (by omega) | exact up_lt (up_lt (fun _ _ => by decide) (by omega)) (by omega)) (by exact sub_d1 (by omega) rfl (by omega) (by omega))
theorem nd_J19_subtract_2 : yJ19_subtract_2.cls ≠ "java/lang/invoke/MethodHandle" ∧ yJ19_subtract_2.cls ≠ "java/lang/invoke/VarHandle" ∧ (parseMethodDescriptor yJ19_subtract_2.desc).map (fun d => d.parameters.length) = some 2 := by decide +kernel
set_option maxRecDepth 100000 in
set_option maxHeartbeats 16000000 in
theorem ct_J19_subtract_2 {g : GG} {l : Launch} (M : Nat → Option PV) (d : Nat) (b : Nat) (k : Nat) (h : Nat → Nat) (hbb : at_ g M b (vA k h)) (hwb : wOK k h) (hk : 0 < k) (hd : d < 9223372036854775808) (hle : wv h k ≤ d) : Ct g l yJ19_subtract_2 (ws_ yJ19_subtract_2 cJ19_subtract_2 8 (Option.some (Jvm.ClassFile.FieldType.array Jvm.ClassFile.FieldType.int))) 1 12 1 2 [.long (jL (↑d)), .ref b] [pl g M] (fun v9 Ws9 => ∃ r1 : Nat, ∃ n1 : Nat, ∃ f1 : Nat → Nat, v9 = some (.ref r1) ∧ (n1 ≤ 2) ∧ (∀ k, k < n1 → f1 k < 4294967296) ∧ (wv f1 n1 = d - wv h k) ∧ Ws9 = [aN g 0 r1 n1 f1, pl g M]) (nox) := by
  refine Ct.of (cc := cJ19_subtract_2) (nL := 8) (ret := (Option.some (Jvm.ClassFile.FieldType.array Jvm.ClassFile.FieldType.int))) (by decide) rfl (Nat.le_of_ble_eq_true rfl) ?_
  intro x hg hl hPo hPx hmc hms F
  subst hg; subst hl
  refine SW.cast (L' := [(0, .long (jL (↑d))), (2, .ref b)]) ?_ rfl rfl rfl
  obtain ⟨dh, hdh⟩ : ∃ z : Nat, z = d / 4294967296 := ⟨_, rfl⟩
  obtain ⟨dl, hdl⟩ : ∃ z : Nat, z = d % 4294967296 := ⟨_, rfl⟩
  have hwc := w2_cases hwb (by rw [bw_2]; omega)
  refine sw_lload_n (n := 1) F 0 rfl rfl dJ19_subtract_2_0 rfl ?_
  refine sw_bipush (n := 3) F (32) (by decide) dJ19_subtract_2_1 rfl ?_
  refine sw_lushr (n := 4) F _ (jL_ushr32 _) dJ19_subtract_2_3 rfl ?_
  refine sw_l2i (n := 5) F dJ19_subtract_2_4 rfl ?_
  refine sw_top (topI (show ((↑d) % 18446744073709551616 / 4294967296 : Int) = ↑dh by omega)) ?_
  refine sw_istore_n (n := 6) F (L2 := [(3, .int (jI (↑dh))), (0, .long (jL (↑d))), (2, .ref b)]) rfl (by decide) rfl dJ19_subtract_2_5 rfl ?_
  refine sw_iload_n (n := 7) F 0 rfl rfl dJ19_subtract_2_6 rfl ?_
  refine sw_if_ne (n := 10) F (by omega) (tgt := 33) dJ19_subtract_2_7 (by decide) rfl (fun c_7 => ?_) (fun c_7 => ?_)
  ·
    refine sw_iconst (n := 34) F (2) (by decide) dJ19_subtract_2_33 rfl ?_
    refine sw_newaN (n := 36) F (2) (by first | omega | rfl) (by omega) 0 0 ⟨by omega, by omega⟩ dJ19_subtract_2_34 rfl (fun q_1 => ?_)
    refine sw_astore (n := 38) F (some q_1) (L2 := [(4, .ref q_1), (3, .int (jI (↑dh))), (0, .long (jL (↑d))), (2, .ref b)]) rfl rfl (by decide) dJ19_subtract_2_36 rfl ?_
    refine sw_aload_n (n := 39) F 3 (some b) rfl rfl rfl dJ19_subtract_2_38 rfl ?_
    refine sw_alenK (n := 40) F (plA F 1 rfl hbb) dJ19_subtract_2_39 rfl ?_
    show SW x _ _ _ _ _ [.int (jI (↑k))]
    refine sw_iconst (n := 41) F (1) (by decide) dJ19_subtract_2_40 rfl ?_
    refine sw_icmp_ne (n := 44) F (by omega) (by decide) (tgt := 109) dJ19_subtract_2_41 (by decide) rfl (fun c_41 => ?_) (fun c_41 => ?_)
    ·
      refine sw_lload_n (n := 110) F 2 rfl rfl dJ19_subtract_2_109 rfl ?_
      refine sw_l2i (n := 111) F dJ19_subtract_2_110 rfl ?_
      refine sw_i2lr (n := 112) F dJ19_subtract_2_111 rfl ?_
      refine sw_ldc2 (n := 115) F (4294967295) q1106 (by decide) dJ19_subtract_2_112 rfl ?_
      refine sw_land (n := 116) F (jL (↑dl)) (jI_wordE (by omega)) dJ19_subtract_2_115 rfl ?_
      refine sw_aload_n (n := 117) F 3 (some b) rfl rfl rfl dJ19_subtract_2_116 rfl ?_
      refine sw_iconst (n := 118) F (1) (by decide) dJ19_subtract_2_117 rfl ?_
      refine sw_ialoadK (n := 119) F (plA F 1 rfl hbb) 1 rfl (by omega) dJ19_subtract_2_118 rfl ?_
      show SW x _ _ _ _ _ [.int (jI (↑(h 1))), .long (jL (↑dl))]
      have hb_2 : h 1 < 4294967296 := hwb.1 _ (by omega)
      refine sw_i2lr (n := 120) F dJ19_subtract_2_119 rfl ?_
      refine sw_ldc2 (n := 123) F (4294967295) q1106 (by decide) dJ19_subtract_2_120 rfl ?_
      refine sw_land (n := 124) F (jL (↑(h 1))) (jI_wordE (by omega)) dJ19_subtract_2_123 rfl ?_
      refine sw_lsub (n := 125) F dJ19_subtract_2_124 rfl ?_
      obtain ⟨p1, hp1⟩ : ∃ z : Int, z = ↑dl - ↑(h 1) := ⟨_, rfl⟩
      refine sw_top (topL (show ((↑dl) - (↑(h 1)) : Int) = p1 by omega)) ?_
      refine sw_lstore (n := 127) F (L2 := [(5, .long (jL p1)), (4, .ref q_1), (3, .int (jI (↑dh))), (0, .long (jL (↑d))), (2, .ref b)]) rfl (by decide) dJ19_subtract_2_125 rfl ?_
      refine sw_aload (n := 129) F 1 (some q_1) rfl rfl dJ19_subtract_2_127 rfl ?_
      refine sw_iconst (n := 130) F (1) (by decide) dJ19_subtract_2_129 rfl ?_
      refine sw_lload (n := 132) F 0 rfl dJ19_subtract_2_130 rfl ?_
      refine sw_l2i (n := 133) F dJ19_subtract_2_132 rfl ?_
      refine sw_iastoreW (n := 134) F 0 rfl (fun _ => rfl) 1 rfl (by omega) ((p1 % 4294967296).toNat) (by first | omega | rfl) [aN (xg x) 0 q_1 2 (va_up (fun _ => 0) 1 ((p1 % 4294967296).toNat)), pl (xg x) M] (by simp [List.set]) dJ19_subtract_2_133 rfl ?_
      refine sw_iload_n (n := 135) F 2 rfl rfl dJ19_subtract_2_134 rfl ?_
      refine sw_i2lr (n := 136) F dJ19_subtract_2_135 rfl ?_
      refine sw_ldc2 (n := 139) F (4294967295) q1106 (by decide) dJ19_subtract_2_136 rfl ?_
      refine sw_land (n := 140) F (jL (↑dh)) (jI_wordE (by omega)) dJ19_subtract_2_139 rfl ?_
      refine sw_aload_n (n := 141) F 4 (some b) rfl rfl rfl dJ19_subtract_2_140 rfl ?_
      refine sw_iconst (n := 142) F (0) (by decide) dJ19_subtract_2_141 rfl ?_
      refine sw_ialoadK (n := 143) F (plA F 1 rfl hbb) 0 rfl (by omega) dJ19_subtract_2_142 rfl ?_
      show SW x _ _ _ _ _ [.int (jI (↑(h 0))), .long (jL (↑dh))]
      have hb_3 : h 0 < 4294967296 := hwb.1 _ (by omega)
      refine sw_i2lr (n := 144) F dJ19_subtract_2_143 rfl ?_
      refine sw_ldc2 (n := 147) F (4294967295) q1106 (by decide) dJ19_subtract_2_144 rfl ?_
      refine sw_land (n := 148) F (jL (↑(h 0))) (jI_wordE (by omega)) dJ19_subtract_2_147 rfl ?_
      refine sw_lsub (n := 149) F dJ19_subtract_2_148 rfl ?_
      refine sw_lload (n := 151) F 0 rfl dJ19_subtract_2_149 rfl ?_
      refine sw_bipush (n := 153) F (32) (by decide) dJ19_subtract_2_151 rfl ?_
      refine sw_lshr (n := 154) F (jL (p1 / 4294967296)) (by have h7s := jL_shrQ (z := p1) (c := 32) (P := 4294967296) (k := 32) (by omega) (by decide) (by decide) (by decide); exact h7s) dJ19_subtract_2_153 rfl ?_
      refine sw_ladd (n := 155) F dJ19_subtract_2_154 rfl ?_
      obtain ⟨p2, hp2⟩ : ∃ z : Int, z = ↑dh - ↑(h 0) + p1 / 4294967296 := ⟨_, rfl⟩
      refine sw_top (topL (show (((↑dh) - (↑(h 0))) + (p1 / 4294967296) : Int) = p2 by omega)) ?_
      refine sw_lstore (n := 157) F (L2 := [(5, .long (jL p2)), (4, .ref q_1), (3, .int (jI (↑dh))), (0, .long (jL (↑d))), (2, .ref b)]) rfl (by decide) dJ19_subtract_2_155 rfl ?_
      refine sw_aload (n := 159) F 1 (some q_1) rfl rfl dJ19_subtract_2_157 rfl ?_
      refine sw_iconst (n := 160) F (0) (by decide) dJ19_subtract_2_159 rfl ?_
      refine sw_lload (n := 162) F 0 rfl dJ19_subtract_2_160 rfl ?_
      refine sw_l2i (n := 163) F dJ19_subtract_2_162 rfl ?_
      refine sw_iastoreW (n := 164) F 0 rfl (fun _ => rfl) 0 rfl (by omega) ((p2 % 4294967296).toNat) (by first | omega | rfl) [aN (xg x) 0 q_1 2 (va_up (va_up (fun _ => 0) 1 ((p1 % 4294967296).toNat)) 0 ((p2 % 4294967296).toNat)), pl (xg x) M] (by simp [List.set]) dJ19_subtract_2_163 rfl ?_
      refine sw_aload (n := 166) F 1 (some q_1) rfl rfl dJ19_subtract_2_164 rfl ?_
      exact sw_aret F (some q_1) _ rfl rfl (by first | exact Or.inl ⟨_, rfl⟩ | exact Or.inr ⟨_, rfl⟩) dJ19_subtract_2_166 (by rw [hPo]; exact ⟨q_1, 2, va_up (va_up (fun _ => 0) 1 ((p1 % 4294967296).toNat)) 0 ((p2 % 4294967296).toNat), rfl, (by first | omega | assumption), (by exact two_ok (by omega) (by omega)), (by first | (rw [two_v, show k = 1 by omega, wv_1]; omega) | (rw [two_v, show k = 2 by omega, wv_2]; omega)), rfl⟩)
    ·
      refine sw_lload_n (n := 45) F 2 rfl rfl dJ19_subtract_2_44 rfl ?_
      refine sw_l2i (n := 46) F dJ19_subtract_2_45 rfl ?_
      refine sw_i2lr (n := 47) F dJ19_subtract_2_46 rfl ?_
      refine sw_ldc2 (n := 50) F (4294967295) q1106 (by decide) dJ19_subtract_2_47 rfl ?_
      refine sw_land (n := 51) F (jL (↑dl)) (jI_wordE (by omega)) dJ19_subtract_2_50 rfl ?_
      refine sw_aload_n (n := 52) F 3 (some b) rfl rfl rfl dJ19_subtract_2_51 rfl ?_
      refine sw_iconst (n := 53) F (0) (by decide) dJ19_subtract_2_52 rfl ?_
      refine sw_ialoadK (n := 54) F (plA F 1 rfl hbb) 0 rfl (by omega) dJ19_subtract_2_53 rfl ?_
      show SW x _ _ _ _ _ [.int (jI (↑(h 0))), .long (jL (↑dl))]
      have hb_4 : h 0 < 4294967296 := hwb.1 _ (by omega)
      refine sw_i2lr (n := 55) F dJ19_subtract_2_54 rfl ?_
      refine sw_ldc2 (n := 58) F (4294967295) q1106 (by decide) dJ19_subtract_2_55 rfl ?_
      refine sw_land (n := 59) F (jL (↑(h 0))) (jI_wordE (by omega)) dJ19_subtract_2_58 rfl ?_
      refine sw_lsub (n := 60) F dJ19_subtract_2_59 rfl ?_
      obtain ⟨p1, hp1⟩ : ∃ z : Int, z = ↑dl - ↑(h 0) := ⟨_, rfl⟩
      refine sw_top (topL (show ((↑dl) - (↑(h 0)) : Int) = p1 by omega)) ?_
      refine sw_lstore (n := 62) F (L2 := [(5, .long (jL p1)), (4, .ref q_1), (3, .int (jI (↑dh))), (0, .long (jL (↑d))), (2, .ref b)]) rfl (by decide) dJ19_subtract_2_60 rfl ?_
      refine sw_aload (n := 64) F 1 (some q_1) rfl rfl dJ19_subtract_2_62 rfl ?_
      refine sw_iconst (n := 65) F (1) (by decide) dJ19_subtract_2_64 rfl ?_
      refine sw_lload (n := 67) F 0 rfl dJ19_subtract_2_65 rfl ?_
      refine sw_l2i (n := 68) F dJ19_subtract_2_67 rfl ?_
      refine sw_iastoreW (n := 69) F 0 rfl (fun _ => rfl) 1 rfl (by omega) ((p1 % 4294967296).toNat) (by first | omega | rfl) [aN (xg x) 0 q_1 2 (va_up (fun _ => 0) 1 ((p1 % 4294967296).toNat)), pl (xg x) M] (by simp [List.set]) dJ19_subtract_2_68 rfl ?_
      refine sw_lload (n := 71) F 0 rfl dJ19_subtract_2_69 rfl ?_
      refine sw_bipush (n := 73) F (32) (by decide) dJ19_subtract_2_71 rfl ?_
      refine sw_lshr (n := 74) F (jL (p1 / 4294967296)) (by have h7s := jL_shrQ (z := p1) (c := 32) (P := 4294967296) (k := 32) (by omega) (by decide) (by decide) (by decide); exact h7s) dJ19_subtract_2_73 rfl ?_
      refine sw_lconst (n := 75) F 0 (by decide) dJ19_subtract_2_74 rfl ?_
      refine sw_lcmp (n := 76) F (by omega) (by decide) dJ19_subtract_2_75 rfl ?_
      refine sw_if_eq (n := 79) F (by omega) (tgt := 83) dJ19_subtract_2_76 (by decide) rfl (fun c_76 => ?_) (fun c_76 => ?_)
      ·
        have c_76 : p1 / 4294967296 = 0 := by revert c_76; (repeat' split) <;> omega
        refine sw_iconst (n := 84) F (0) (by decide) dJ19_subtract_2_83 rfl ?_
        refine sw_istore (n := 86) F (L2 := [(7, .int (jI 0)), (5, .long (jL p1)), (4, .ref q_1), (3, .int (jI (↑dh))), (0, .long (jL (↑d))), (2, .ref b)]) rfl (by decide) dJ19_subtract_2_84 rfl ?_
        refine sw_iload (n := 88) F 0 rfl dJ19_subtract_2_86 rfl ?_
        refine sw_if_eq (n := 91) F (by decide) (tgt := 101) dJ19_subtract_2_88 (by decide) rfl (fun c_88 => ?_) (fun c_88 => ?_)
        ·
          refine sw_aload (n := 103) F 2 (some q_1) rfl rfl dJ19_subtract_2_101 rfl ?_
          refine sw_iconst (n := 104) F (0) (by decide) dJ19_subtract_2_103 rfl ?_
          refine sw_iload_n (n := 105) F 3 rfl rfl dJ19_subtract_2_104 rfl ?_
          refine sw_iastoreW (n := 106) F 0 rfl (fun _ => rfl) 0 rfl (by omega) dh (by first | omega | rfl) [aN (xg x) 0 q_1 2 (va_up (va_up (fun _ => 0) 1 ((p1 % 4294967296).toNat)) 0 dh), pl (xg x) M] (by simp [List.set]) dJ19_subtract_2_105 rfl ?_
          refine sw_aload (n := 108) F 2 (some q_1) rfl rfl dJ19_subtract_2_106 rfl ?_
          exact sw_aret F (some q_1) _ rfl rfl (by first | exact Or.inl ⟨_, rfl⟩ | exact Or.inr ⟨_, rfl⟩) dJ19_subtract_2_108 (by rw [hPo]; exact ⟨q_1, 2, va_up (va_up (fun _ => 0) 1 ((p1 % 4294967296).toNat)) 0 dh, rfl, (by first | omega | assumption), (by exact two_ok (by omega) (by omega)), (by first | (rw [two_v, show k = 1 by omega, wv_1]; omega) | (rw [two_v, show k = 2 by omega, wv_2]; omega)), rfl⟩)
        · exfalso; exact absurd c_88 (by decide)
      ·
        have c_76 : p1 / 4294967296 ≠ 0 := by revert c_76; (repeat' split) <;> omega
        refine sw_iconst (n := 80) F (1) (by decide) dJ19_subtract_2_79 rfl ?_
        refine sw_goto F (n := 84) dJ19_subtract_2_80 (by decide) ?_
        refine sw_istore (n := 86) F (L2 := [(7, .int (jI 1)), (5, .long (jL p1)), (4, .ref q_1), (3, .int (jI (↑dh))), (0, .long (jL (↑d))), (2, .ref b)]) rfl (by decide) dJ19_subtract_2_84 rfl ?_
        refine sw_iload (n := 88) F 0 rfl dJ19_subtract_2_86 rfl ?_
        refine sw_if_eq (n := 91) F (by decide) (tgt := 101) dJ19_subtract_2_88 (by decide) rfl (fun c_88 => ?_) (fun c_88 => ?_)
        · exfalso; exact absurd c_88 (by decide)
        ·
          refine sw_aload (n := 93) F 2 (some q_1) rfl rfl dJ19_subtract_2_91 rfl ?_
          refine sw_iconst (n := 94) F (0) (by decide) dJ19_subtract_2_93 rfl ?_
          refine sw_iload_n (n := 95) F 3 rfl rfl dJ19_subtract_2_94 rfl ?_
          refine sw_iconst (n := 96) F (1) (by decide) dJ19_subtract_2_95 rfl ?_
          refine sw_isub (n := 97) F dJ19_subtract_2_96 rfl ?_
          refine sw_iastoreW (n := 98) F 0 rfl (fun _ => rfl) 0 rfl (by omega) (dh - 1) (by first | omega | rfl) [aN (xg x) 0 q_1 2 (va_up (va_up (fun _ => 0) 1 ((p1 % 4294967296).toNat)) 0 (dh - 1)), pl (xg x) M] (by simp [List.set]) dJ19_subtract_2_97 rfl ?_
          refine sw_goto F (n := 106) dJ19_subtract_2_98 (by decide) ?_
          refine sw_aload (n := 108) F 2 (some q_1) rfl rfl dJ19_subtract_2_106 rfl ?_
          exact sw_aret F (some q_1) _ rfl rfl (by first | exact Or.inl ⟨_, rfl⟩ | exact Or.inr ⟨_, rfl⟩) dJ19_subtract_2_108 (by rw [hPo]; exact ⟨q_1, 2, va_up (va_up (fun _ => 0) 1 ((p1 % 4294967296).toNat)) 0 (dh - 1), rfl, (by first | omega | assumption), (by exact two_ok (by omega) (by omega)), (by first | (rw [two_v, show k = 1 by omega, wv_1]; omega) | (rw [two_v, show k = 2 by omega, wv_2]; omega)), rfl⟩)
  ·
    refine sw_iconst (n := 11) F (1) (by decide) dJ19_subtract_2_10 rfl ?_
    refine sw_newaN (n := 13) F (1) (by first | omega | rfl) (by omega) 0 1 ⟨by omega, by omega⟩ dJ19_subtract_2_11 rfl (fun q_5 => ?_)
    refine sw_astore (n := 15) F (some q_5) (L2 := [(4, .ref q_5), (3, .int (jI (↑dh))), (0, .long (jL (↑d))), (2, .ref b)]) rfl rfl (by decide) dJ19_subtract_2_13 rfl ?_
    refine sw_aload (n := 17) F 0 (some q_5) rfl rfl dJ19_subtract_2_15 rfl ?_
    refine sw_iconst (n := 18) F (0) (by decide) dJ19_subtract_2_17 rfl ?_
    refine sw_lload_n (n := 19) F 2 rfl rfl dJ19_subtract_2_18 rfl ?_
    refine sw_aload_n (n := 20) F 3 (some b) rfl rfl rfl dJ19_subtract_2_19 rfl ?_
    refine sw_iconst (n := 21) F (0) (by decide) dJ19_subtract_2_20 rfl ?_
    refine sw_ialoadK (n := 22) F (plA F 1 rfl hbb) 0 rfl (by omega) dJ19_subtract_2_21 rfl ?_
    show SW x _ _ _ _ _ [.int (jI (↑(h 0))), .long (jL (↑d)), .int (jI 0), .ref q_5]
    have hb_6 : h 0 < 4294967296 := hwb.1 _ (by omega)
    refine sw_i2lr (n := 23) F dJ19_subtract_2_22 rfl ?_
    refine sw_ldc2 (n := 26) F (4294967295) q1106 (by decide) dJ19_subtract_2_23 rfl ?_
    refine sw_land (n := 27) F (jL (↑(h 0))) (jI_wordE (by omega)) dJ19_subtract_2_26 rfl ?_
    refine sw_lsub (n := 28) F dJ19_subtract_2_27 rfl ?_
    obtain ⟨p1, hp1⟩ : ∃ z : Int, z = ↑d - ↑(h 0) := ⟨_, rfl⟩
    refine sw_top (topL (show ((↑d) - (↑(h 0)) : Int) = p1 by omega)) ?_
    refine sw_l2i (n := 29) F dJ19_subtract_2_28 rfl ?_
    refine sw_iastoreW (n := 30) F 0 rfl (fun _ => rfl) 0 rfl (by omega) ((p1 % 4294967296).toNat) (by first | omega | rfl) [aN (xg x) 0 q_5 1 (va_up (fun _ => 0) 0 ((p1 % 4294967296).toNat)), pl (xg x) M] (by simp [List.set]) dJ19_subtract_2_29 rfl ?_
    refine sw_aload (n := 32) F 0 (some q_5) rfl rfl dJ19_subtract_2_30 rfl ?_
    exact sw_aret F (some q_5) _ rfl rfl (by first | exact Or.inl ⟨_, rfl⟩ | exact Or.inr ⟨_, rfl⟩) dJ19_subtract_2_32 (by rw [hPo]; exact ⟨q_5, 1, va_up (fun _ => 0) 0 ((p1 % 4294967296).toNat), rfl, (by first | omega | assumption), (by intro j hj; rw [vu_eq (by omega)]; omega), (by rw [one_v, show k = 1 by omega, wv_1]; omega), rfl⟩)
theorem long_len {f : Nat → Nat} {n : Nat} (h : wOK n f) (hn : 2 < n) : 18446744073709551616 ≤ wv f n := by
  have h1 := wOK_ge h (by omega)
  have h2 := bw_mono (show 2 ≤ n - 1 by omega)
  rw [bw_2] at h2; omega
theorem w2_le {n : Nat} {f : Nat → Nat} (h : wOK n f) (hn : n ≤ 2) : (n = 0 ∧ wv f n = 0) ∨ (n = 1 ∧ wv f n = f 0 ∧ f 0 ≠ 0 ∧ f 0 < 4294967296) ∨ (n = 2 ∧ wv f n = f 0 * 4294967296 + f 1 ∧ f 0 ≠ 0 ∧ f 0 < 4294967296 ∧ f 1 < 4294967296) :=
  w2_cases h (Nat.lt_of_lt_of_le (wv_lt h.1) (bw_mono hn))
theorem nd_J19_compareMagnitude : yJ19_compareMagnitude.cls ≠ "java/lang/invoke/MethodHandle" ∧ yJ19_compareMagnitude.cls ≠ "java/lang/invoke/VarHandle" ∧ (parseMethodDescriptor yJ19_compareMagnitude.desc).map (fun d => d.parameters.length) = some 1 := by decide +kernel
set_option maxRecDepth 100000 in
set_option maxHeartbeats 16000000 in
theorem ct_J19_compareMagnitude {g : GG} {l : Launch} (M : Nat → Option PV) (q : Nat) (v : Int) (a : Nat) (d : Int) (hx : at_ g M q (vI v a)) (hd : -9223372036854775807 ≤ d ∧ d ≤ 9223372036854775807) (hd0 : d ≠ 0) (hb : v.natAbs < bw 6) : Ct g l yJ19_compareMagnitude (ws_ yJ19_compareMagnitude cJ19_compareMagnitude 8 (Option.some Jvm.ClassFile.FieldType.int)) 1 12 0 0 [.ref q, .long (jL d)] [pl g M] (fun v9 Ws9 => v9 = some (.int (jI (cmpI v.natAbs d.natAbs))) ∧ Ws9 = [pl g M]) (nox) := by
  refine Ct.of (cc := cJ19_compareMagnitude) (nL := 8) (ret := (Option.some Jvm.ClassFile.FieldType.int)) (by decide) rfl (Nat.le_of_ble_eq_true rfl) ?_
  intro x hg hl hPo hPx hmc hms F
  subst hg; subst hl
  refine SW.cast (L' := [(0, .ref q), (1, .long (jL d))]) ?_ rfl rfl rfl
  refine sw_factI 0 rfl hx (fun n9 f9 ha9 hw9 hv9 => ?_)
  have hn9 : n9 ≤ 6 := wOK_len hw9 (by rw [hv9]; exact hb)
  refine sw_gets (n := 3) F (kaBI F.gx.1).1 q1139 (Or.inl rfl) dJ19_compareMagnitude_0 rfl ?_
  refine sw_if_ne (n := 6) F (by decide) (tgt := 22) dJ19_compareMagnitude_3 (by decide) rfl (fun c_3 => ?_) (fun c_3 => ?_)
  ·
    refine sw_aload_n (n := 23) F 0 (some q) rfl rfl rfl dJ19_compareMagnitude_22 rfl ?_
    refine sw_getI (n := 26) F 0 rfl hx (k := 1) ⟨(RJ19, TJ19, 6), rfl, by decide, q1072, in_J19, Or.inl rfl⟩ (.ref a) (fun _ _ _ _ => rfl) dJ19_compareMagnitude_23 rfl ?_
    refine sw_astore_n (n := 27) F (some a) (L2 := [(3, .ref a), (0, .ref q), (1, .long (jL d))]) rfl rfl (by decide) rfl dJ19_compareMagnitude_26 rfl ?_
    refine sw_aload_n (n := 28) F 0 (some a) rfl rfl rfl dJ19_compareMagnitude_27 rfl ?_
    refine sw_alenK (n := 29) F (plA F 0 rfl ha9) dJ19_compareMagnitude_28 rfl ?_
    show SW x _ _ _ _ _ [.int (jI (↑n9))]
    refine sw_istore (n := 31) F (L2 := [(4, .int (jI (↑n9))), (3, .ref a), (0, .ref q), (1, .long (jL d))]) rfl (by decide) dJ19_compareMagnitude_29 rfl ?_
    refine sw_iload (n := 33) F 0 rfl dJ19_compareMagnitude_31 rfl ?_
    refine sw_iconst (n := 34) F (2) (by decide) dJ19_compareMagnitude_33 rfl ?_
    refine sw_icmp_le (n := 37) F (by omega) (by decide) (tgt := 39) dJ19_compareMagnitude_34 (by decide) rfl (fun c_34 => ?_) (fun c_34 => ?_)
    ·
      have hwc := w2_le hw9 (by omega)
      refine sw_lload_n (n := 40) F 3 rfl rfl dJ19_compareMagnitude_39 rfl ?_
      refine sw_lconst (n := 41) F 0 (by decide) dJ19_compareMagnitude_40 rfl ?_
      refine sw_lcmp (n := 42) F (by omega) (by decide) dJ19_compareMagnitude_41 rfl ?_
      refine sw_if_ge (n := 45) F (by omega) (tgt := 48) dJ19_compareMagnitude_42 (by decide) rfl (fun c_42 => ?_) (fun c_42 => ?_)
      ·
        have c_42 : d ≥ 0 := by revert c_42; (repeat' split) <;> omega
        have K48 : ∀ (m : Nat), (m = d.natAbs) → SW x [pl (xg x) M] 0 0 48 [(1, .long (jL (↑m))), (3, .ref a), (4, .int (jI (↑n9)))] [] := by
          intro m hm
          obtain ⟨dh, hdh⟩ : ∃ z : Nat, z = m / 4294967296 := ⟨_, rfl⟩
          obtain ⟨dl, hdl⟩ : ∃ z : Nat, z = m % 4294967296 := ⟨_, rfl⟩
          refine sw_lload_n (n := 49) F 0 rfl rfl dJ19_compareMagnitude_48 rfl ?_
          refine sw_bipush (n := 51) F (32) (by decide) dJ19_compareMagnitude_49 rfl ?_
          refine sw_lushr (n := 52) F _ (jL_ushr32 _) dJ19_compareMagnitude_51 rfl ?_
          refine sw_l2i (n := 53) F dJ19_compareMagnitude_52 rfl ?_
          refine sw_top (topI (show ((↑m) % 18446744073709551616 / 4294967296 : Int) = ↑dh by omega)) ?_
          refine sw_istore (n := 55) F (L2 := [(5, .int (jI (↑dh))), (1, .long (jL (↑m))), (3, .ref a), (4, .int (jI (↑n9)))]) rfl (by decide) dJ19_compareMagnitude_53 rfl ?_
          refine sw_iload (n := 57) F 0 rfl dJ19_compareMagnitude_55 rfl ?_
          refine sw_if_ne (n := 60) F (by omega) (tgt := 118) dJ19_compareMagnitude_57 (by decide) rfl (fun c_57 => ?_) (fun c_57 => ?_)
          ·
            refine sw_iload (n := 120) F 3 rfl dJ19_compareMagnitude_118 rfl ?_
            refine sw_iconst (n := 121) F (2) (by decide) dJ19_compareMagnitude_120 rfl ?_
            refine sw_icmp_ge (n := 124) F (by omega) (by decide) (tgt := 126) dJ19_compareMagnitude_121 (by decide) rfl (fun c_121 => ?_) (fun c_121 => ?_)
            ·
              refine sw_aload_n (n := 127) F 2 (some a) rfl rfl rfl dJ19_compareMagnitude_126 rfl ?_
              refine sw_iconst (n := 128) F (0) (by decide) dJ19_compareMagnitude_127 rfl ?_
              refine sw_ialoadK (n := 129) F (plA F 0 rfl ha9) 0 rfl (by omega) dJ19_compareMagnitude_128 rfl ?_
              show SW x _ _ _ _ _ [.int (jI (↑(f9 0)))]
              refine sw_istore (n := 131) F (L2 := [(6, .int (jI (↑(f9 0)))), (5, .int (jI (↑dh))), (1, .long (jL (↑m))), (3, .ref a), (4, .int (jI (↑n9)))]) rfl (by decide) dJ19_compareMagnitude_129 rfl ?_
              refine sw_iload (n := 133) F 1 rfl dJ19_compareMagnitude_131 rfl ?_
              refine sw_istore (n := 135) F (L2 := [(7, .int (jI (↑dh))), (6, .int (jI (↑(f9 0)))), (5, .int (jI (↑dh))), (1, .long (jL (↑m))), (3, .ref a), (4, .int (jI (↑n9)))]) rfl (by decide) dJ19_compareMagnitude_133 rfl ?_
              refine sw_iload (n := 137) F 1 rfl dJ19_compareMagnitude_135 rfl ?_
              refine sw_iload (n := 139) F 0 rfl dJ19_compareMagnitude_137 rfl ?_
              refine sw_icmp_eqU (n := 142) F (by omega) (by omega) (tgt := 166) dJ19_compareMagnitude_139 (by decide) rfl (fun c_139 => ?_) (fun c_139 => ?_)
              ·
                refine sw_aload_n (n := 167) F 4 (some a) rfl rfl rfl dJ19_compareMagnitude_166 rfl ?_
                refine sw_iconst (n := 168) F (1) (by decide) dJ19_compareMagnitude_167 rfl ?_
                refine sw_ialoadK (n := 169) F (plA F 0 rfl ha9) 1 rfl (by omega) dJ19_compareMagnitude_168 rfl ?_
                show SW x _ _ _ _ _ [.int (jI (↑(f9 1)))]
                refine sw_istore (n := 171) F (L2 := [(6, .int (jI (↑(f9 1)))), (7, .int (jI (↑dh))), (5, .int (jI (↑dh))), (1, .long (jL (↑m))), (3, .ref a), (4, .int (jI (↑n9)))]) rfl (by decide) dJ19_compareMagnitude_169 rfl ?_
                refine sw_lload_n (n := 172) F 3 rfl rfl dJ19_compareMagnitude_171 rfl ?_
                refine sw_l2i (n := 173) F dJ19_compareMagnitude_172 rfl ?_
                refine sw_top (topIm (show (↑m : Int) % 4294967296 = (↑dl) % 4294967296 by omega)) ?_
                refine sw_istore (n := 175) F (L2 := [(7, .int (jI (↑dl))), (6, .int (jI (↑(f9 1)))), (5, .int (jI (↑dh))), (1, .long (jL (↑m))), (3, .ref a), (4, .int (jI (↑n9)))]) rfl (by decide) dJ19_compareMagnitude_173 rfl ?_
                refine sw_iload (n := 177) F 1 rfl dJ19_compareMagnitude_175 rfl ?_
                refine sw_iload (n := 179) F 0 rfl dJ19_compareMagnitude_177 rfl ?_
                refine sw_icmp_eqU (n := 182) F (by omega) (by omega) (tgt := 206) dJ19_compareMagnitude_179 (by decide) rfl (fun c_179 => ?_) (fun c_179 => ?_)
                ·
                  refine sw_iconst (n := 207) F (0) (by decide) dJ19_compareMagnitude_206 rfl ?_
                  exact sw_iret F _ rfl (by first | rfl | exact jI_nz (by omega) | exact jI_nc (by omega)) dJ19_compareMagnitude_207 (by rw [hPo]; exact ⟨(by first | (rw [cmpI_lt (by omega)]) | (rw [cmpI_gt (by omega)]) | (rw [cmpI_eq (by omega)])), rfl⟩)
                ·
                  refine sw_iload (n := 184) F 1 rfl dJ19_compareMagnitude_182 rfl ?_
                  have hb_1 : f9 1 < 4294967296 := hw9.1 _ (by omega)
                  refine sw_i2lr (n := 185) F dJ19_compareMagnitude_184 rfl ?_
                  refine sw_ldc2 (n := 188) F (4294967295) q1106 (by decide) dJ19_compareMagnitude_185 rfl ?_
                  refine sw_land (n := 189) F (jL (↑(f9 1))) (jI_wordE (by omega)) dJ19_compareMagnitude_188 rfl ?_
                  refine sw_iload (n := 191) F 0 rfl dJ19_compareMagnitude_189 rfl ?_
                  refine sw_i2lr (n := 192) F dJ19_compareMagnitude_191 rfl ?_
                  refine sw_ldc2 (n := 195) F (4294967295) q1106 (by decide) dJ19_compareMagnitude_192 rfl ?_
                  refine sw_land (n := 196) F (jL (↑dl)) (jI_wordE (by omega)) dJ19_compareMagnitude_195 rfl ?_
                  refine sw_lcmp (n := 197) F (by omega) (by omega) dJ19_compareMagnitude_196 rfl ?_
                  refine sw_if_ge (n := 200) F (by omega) (tgt := 204) dJ19_compareMagnitude_197 (by decide) rfl (fun c_197 => ?_) (fun c_197 => ?_)
                  ·
                    have c_197 : ↑(f9 1) ≥ ↑dl := by revert c_197; (repeat' split) <;> omega
                    refine sw_iconst (n := 205) F (1) (by decide) dJ19_compareMagnitude_204 rfl ?_
                    exact sw_iret F _ rfl (by first | rfl | exact jI_nz (by omega) | exact jI_nc (by omega)) dJ19_compareMagnitude_205 (by rw [hPo]; exact ⟨(by first | (rw [cmpI_lt (by omega)]) | (rw [cmpI_gt (by omega)]) | (rw [cmpI_eq (by omega)])), rfl⟩)
                  ·
                    have c_197 : ↑(f9 1) < ↑dl := by revert c_197; (repeat' split) <;> omega
                    refine sw_iconst (n := 201) F (-1) (by decide) dJ19_compareMagnitude_200 rfl ?_
                    refine sw_goto F (n := 205) dJ19_compareMagnitude_201 (by decide) ?_
                    exact sw_iret F _ rfl (by first | rfl | exact jI_nz (by omega) | exact jI_nc (by omega)) dJ19_compareMagnitude_205 (by rw [hPo]; exact ⟨(by first | (rw [cmpI_lt (by omega)]) | (rw [cmpI_gt (by omega)]) | (rw [cmpI_eq (by omega)])), rfl⟩)
              ·
                refine sw_iload (n := 144) F 1 rfl dJ19_compareMagnitude_142 rfl ?_
                have hb_2 : f9 0 < 4294967296 := hw9.1 _ (by omega)
                refine sw_i2lr (n := 145) F dJ19_compareMagnitude_144 rfl ?_
                refine sw_ldc2 (n := 148) F (4294967295) q1106 (by decide) dJ19_compareMagnitude_145 rfl ?_
                refine sw_land (n := 149) F (jL (↑(f9 0))) (jI_wordE (by omega)) dJ19_compareMagnitude_148 rfl ?_
                refine sw_iload (n := 151) F 0 rfl dJ19_compareMagnitude_149 rfl ?_
                refine sw_i2lr (n := 152) F dJ19_compareMagnitude_151 rfl ?_
                refine sw_ldc2 (n := 155) F (4294967295) q1106 (by decide) dJ19_compareMagnitude_152 rfl ?_
                refine sw_land (n := 156) F (jL (↑dh)) (jI_wordE (by omega)) dJ19_compareMagnitude_155 rfl ?_
                refine sw_lcmp (n := 157) F (by omega) (by omega) dJ19_compareMagnitude_156 rfl ?_
                refine sw_if_ge (n := 160) F (by omega) (tgt := 164) dJ19_compareMagnitude_157 (by decide) rfl (fun c_157 => ?_) (fun c_157 => ?_)
                ·
                  have c_157 : ↑(f9 0) ≥ ↑dh := by revert c_157; (repeat' split) <;> omega
                  refine sw_iconst (n := 165) F (1) (by decide) dJ19_compareMagnitude_164 rfl ?_
                  exact sw_iret F _ rfl (by first | rfl | exact jI_nz (by omega) | exact jI_nc (by omega)) dJ19_compareMagnitude_165 (by rw [hPo]; exact ⟨(by first | (rw [cmpI_lt (by omega)]) | (rw [cmpI_gt (by omega)]) | (rw [cmpI_eq (by omega)])), rfl⟩)
                ·
                  have c_157 : ↑(f9 0) < ↑dh := by revert c_157; (repeat' split) <;> omega
                  refine sw_iconst (n := 161) F (-1) (by decide) dJ19_compareMagnitude_160 rfl ?_
                  refine sw_goto F (n := 165) dJ19_compareMagnitude_161 (by decide) ?_
                  exact sw_iret F _ rfl (by first | rfl | exact jI_nz (by omega) | exact jI_nc (by omega)) dJ19_compareMagnitude_165 (by rw [hPo]; exact ⟨(by first | (rw [cmpI_lt (by omega)]) | (rw [cmpI_gt (by omega)]) | (rw [cmpI_eq (by omega)])), rfl⟩)
            ·
              refine sw_iconst (n := 125) F (-1) (by decide) dJ19_compareMagnitude_124 rfl ?_
              exact sw_iret F _ rfl (by first | rfl | exact jI_nz (by omega) | exact jI_nc (by omega)) dJ19_compareMagnitude_125 (by rw [hPo]; exact ⟨(by first | (rw [cmpI_lt (by omega)]) | (rw [cmpI_gt (by omega)]) | (rw [cmpI_eq (by omega)])), rfl⟩)
          ·
            refine sw_iload (n := 62) F 3 rfl dJ19_compareMagnitude_60 rfl ?_
            refine sw_iconst (n := 63) F (1) (by decide) dJ19_compareMagnitude_62 rfl ?_
            refine sw_icmp_ge (n := 66) F (by omega) (by decide) (tgt := 68) dJ19_compareMagnitude_63 (by decide) rfl (fun c_63 => ?_) (fun c_63 => ?_)
            ·
              refine sw_iload (n := 70) F 3 rfl dJ19_compareMagnitude_68 rfl ?_
              refine sw_iconst (n := 71) F (1) (by decide) dJ19_compareMagnitude_70 rfl ?_
              refine sw_icmp_le (n := 74) F (by omega) (by decide) (tgt := 76) dJ19_compareMagnitude_71 (by decide) rfl (fun c_71 => ?_) (fun c_71 => ?_)
              ·
                refine sw_aload_n (n := 77) F 2 (some a) rfl rfl rfl dJ19_compareMagnitude_76 rfl ?_
                refine sw_iconst (n := 78) F (0) (by decide) dJ19_compareMagnitude_77 rfl ?_
                refine sw_ialoadK (n := 79) F (plA F 0 rfl ha9) 0 rfl (by omega) dJ19_compareMagnitude_78 rfl ?_
                show SW x _ _ _ _ _ [.int (jI (↑(f9 0)))]
                refine sw_istore (n := 81) F (L2 := [(6, .int (jI (↑(f9 0)))), (5, .int (jI (↑dh))), (1, .long (jL (↑m))), (3, .ref a), (4, .int (jI (↑n9)))]) rfl (by decide) dJ19_compareMagnitude_79 rfl ?_
                refine sw_lload_n (n := 82) F 2 rfl rfl dJ19_compareMagnitude_81 rfl ?_
                refine sw_l2i (n := 83) F dJ19_compareMagnitude_82 rfl ?_
                refine sw_top (topIm (show (↑m : Int) % 4294967296 = (↑dl) % 4294967296 by omega)) ?_
                refine sw_istore (n := 85) F (L2 := [(7, .int (jI (↑dl))), (6, .int (jI (↑(f9 0)))), (5, .int (jI (↑dh))), (1, .long (jL (↑m))), (3, .ref a), (4, .int (jI (↑n9)))]) rfl (by decide) dJ19_compareMagnitude_83 rfl ?_
                refine sw_iload (n := 87) F 1 rfl dJ19_compareMagnitude_85 rfl ?_
                refine sw_iload (n := 89) F 0 rfl dJ19_compareMagnitude_87 rfl ?_
                refine sw_icmp_eqU (n := 92) F (by omega) (by omega) (tgt := 116) dJ19_compareMagnitude_89 (by decide) rfl (fun c_89 => ?_) (fun c_89 => ?_)
                ·
                  refine sw_iconst (n := 117) F (0) (by decide) dJ19_compareMagnitude_116 rfl ?_
                  exact sw_iret F _ rfl (by first | rfl | exact jI_nz (by omega) | exact jI_nc (by omega)) dJ19_compareMagnitude_117 (by rw [hPo]; exact ⟨(by first | (rw [cmpI_lt (by omega)]) | (rw [cmpI_gt (by omega)]) | (rw [cmpI_eq (by omega)])), rfl⟩)
                ·
                  refine sw_iload (n := 94) F 1 rfl dJ19_compareMagnitude_92 rfl ?_
                  have hb_3 : f9 0 < 4294967296 := hw9.1 _ (by omega)
                  refine sw_i2lr (n := 95) F dJ19_compareMagnitude_94 rfl ?_
                  refine sw_ldc2 (n := 98) F (4294967295) q1106 (by decide) dJ19_compareMagnitude_95 rfl ?_
                  refine sw_land (n := 99) F (jL (↑(f9 0))) (jI_wordE (by omega)) dJ19_compareMagnitude_98 rfl ?_
                  refine sw_iload (n := 101) F 0 rfl dJ19_compareMagnitude_99 rfl ?_
                  refine sw_i2lr (n := 102) F dJ19_compareMagnitude_101 rfl ?_
                  refine sw_ldc2 (n := 105) F (4294967295) q1106 (by decide) dJ19_compareMagnitude_102 rfl ?_
                  refine sw_land (n := 106) F (jL (↑dl)) (jI_wordE (by omega)) dJ19_compareMagnitude_105 rfl ?_
                  refine sw_lcmp (n := 107) F (by omega) (by omega) dJ19_compareMagnitude_106 rfl ?_
                  refine sw_if_ge (n := 110) F (by omega) (tgt := 114) dJ19_compareMagnitude_107 (by decide) rfl (fun c_107 => ?_) (fun c_107 => ?_)
                  ·
                    have c_107 : ↑(f9 0) ≥ ↑dl := by revert c_107; (repeat' split) <;> omega
                    refine sw_iconst (n := 115) F (1) (by decide) dJ19_compareMagnitude_114 rfl ?_
                    exact sw_iret F _ rfl (by first | rfl | exact jI_nz (by omega) | exact jI_nc (by omega)) dJ19_compareMagnitude_115 (by rw [hPo]; exact ⟨(by first | (rw [cmpI_lt (by omega)]) | (rw [cmpI_gt (by omega)]) | (rw [cmpI_eq (by omega)])), rfl⟩)
                  ·
                    have c_107 : ↑(f9 0) < ↑dl := by revert c_107; (repeat' split) <;> omega
                    refine sw_iconst (n := 111) F (-1) (by decide) dJ19_compareMagnitude_110 rfl ?_
                    refine sw_goto F (n := 115) dJ19_compareMagnitude_111 (by decide) ?_
                    exact sw_iret F _ rfl (by first | rfl | exact jI_nz (by omega) | exact jI_nc (by omega)) dJ19_compareMagnitude_115 (by rw [hPo]; exact ⟨(by first | (rw [cmpI_lt (by omega)]) | (rw [cmpI_gt (by omega)]) | (rw [cmpI_eq (by omega)])), rfl⟩)
              ·
                refine sw_iconst (n := 75) F (1) (by decide) dJ19_compareMagnitude_74 rfl ?_
                exact sw_iret F _ rfl (by first | rfl | exact jI_nz (by omega) | exact jI_nc (by omega)) dJ19_compareMagnitude_75 (by rw [hPo]; exact ⟨(by first | (rw [cmpI_lt (by omega)]) | (rw [cmpI_gt (by omega)]) | (rw [cmpI_eq (by omega)])), rfl⟩)
            ·
              refine sw_iconst (n := 67) F (-1) (by decide) dJ19_compareMagnitude_66 rfl ?_
              exact sw_iret F _ rfl (by first | rfl | exact jI_nz (by omega) | exact jI_nc (by omega)) dJ19_compareMagnitude_67 (by rw [hPo]; exact ⟨(by first | (rw [cmpI_lt (by omega)]) | (rw [cmpI_gt (by omega)]) | (rw [cmpI_eq (by omega)])), rfl⟩)
        refine sw_loc [3, 1, 0] (L2 := [(1, .long (jL d)), (3, .ref a), (4, .int (jI (↑n9)))]) rfl ?_
        rw [show (d : Int) = ↑((d : Int).toNat) by omega]
        exact K48 ((d : Int).toNat) (by first | omega | assumption)
      ·
        have c_42 : d < 0 := by revert c_42; (repeat' split) <;> omega
        refine sw_lload_n (n := 46) F 3 rfl rfl dJ19_compareMagnitude_45 rfl ?_
        refine sw_lneg (n := 47) F dJ19_compareMagnitude_46 rfl ?_
        refine sw_lstore_n (n := 48) F (L2 := [(1, .long (jL (-d))), (4, .int (jI (↑n9))), (3, .ref a), (0, .ref q)]) rfl (by decide) rfl dJ19_compareMagnitude_47 rfl ?_
        have K48 : ∀ (m : Nat), (m = d.natAbs) → SW x [pl (xg x) M] 0 0 48 [(1, .long (jL (↑m))), (3, .ref a), (4, .int (jI (↑n9)))] [] := by
          intro m hm
          obtain ⟨dh, hdh⟩ : ∃ z : Nat, z = m / 4294967296 := ⟨_, rfl⟩
          obtain ⟨dl, hdl⟩ : ∃ z : Nat, z = m % 4294967296 := ⟨_, rfl⟩
          refine sw_lload_n (n := 49) F 0 rfl rfl dJ19_compareMagnitude_48 rfl ?_
          refine sw_bipush (n := 51) F (32) (by decide) dJ19_compareMagnitude_49 rfl ?_
          refine sw_lushr (n := 52) F _ (jL_ushr32 _) dJ19_compareMagnitude_51 rfl ?_
          refine sw_l2i (n := 53) F dJ19_compareMagnitude_52 rfl ?_
          refine sw_top (topI (show ((↑m) % 18446744073709551616 / 4294967296 : Int) = ↑dh by omega)) ?_
          refine sw_istore (n := 55) F (L2 := [(5, .int (jI (↑dh))), (1, .long (jL (↑m))), (3, .ref a), (4, .int (jI (↑n9)))]) rfl (by decide) dJ19_compareMagnitude_53 rfl ?_
          refine sw_iload (n := 57) F 0 rfl dJ19_compareMagnitude_55 rfl ?_
          refine sw_if_ne (n := 60) F (by omega) (tgt := 118) dJ19_compareMagnitude_57 (by decide) rfl (fun c_57 => ?_) (fun c_57 => ?_)
          ·
            refine sw_iload (n := 120) F 3 rfl dJ19_compareMagnitude_118 rfl ?_
            refine sw_iconst (n := 121) F (2) (by decide) dJ19_compareMagnitude_120 rfl ?_
            refine sw_icmp_ge (n := 124) F (by omega) (by decide) (tgt := 126) dJ19_compareMagnitude_121 (by decide) rfl (fun c_121 => ?_) (fun c_121 => ?_)
            ·
              refine sw_aload_n (n := 127) F 2 (some a) rfl rfl rfl dJ19_compareMagnitude_126 rfl ?_
              refine sw_iconst (n := 128) F (0) (by decide) dJ19_compareMagnitude_127 rfl ?_
              refine sw_ialoadK (n := 129) F (plA F 0 rfl ha9) 0 rfl (by omega) dJ19_compareMagnitude_128 rfl ?_
              show SW x _ _ _ _ _ [.int (jI (↑(f9 0)))]
              refine sw_istore (n := 131) F (L2 := [(6, .int (jI (↑(f9 0)))), (5, .int (jI (↑dh))), (1, .long (jL (↑m))), (3, .ref a), (4, .int (jI (↑n9)))]) rfl (by decide) dJ19_compareMagnitude_129 rfl ?_
              refine sw_iload (n := 133) F 1 rfl dJ19_compareMagnitude_131 rfl ?_
              refine sw_istore (n := 135) F (L2 := [(7, .int (jI (↑dh))), (6, .int (jI (↑(f9 0)))), (5, .int (jI (↑dh))), (1, .long (jL (↑m))), (3, .ref a), (4, .int (jI (↑n9)))]) rfl (by decide) dJ19_compareMagnitude_133 rfl ?_
              refine sw_iload (n := 137) F 1 rfl dJ19_compareMagnitude_135 rfl ?_
              refine sw_iload (n := 139) F 0 rfl dJ19_compareMagnitude_137 rfl ?_
              refine sw_icmp_eqU (n := 142) F (by omega) (by omega) (tgt := 166) dJ19_compareMagnitude_139 (by decide) rfl (fun c_139 => ?_) (fun c_139 => ?_)
              ·
                refine sw_aload_n (n := 167) F 4 (some a) rfl rfl rfl dJ19_compareMagnitude_166 rfl ?_
                refine sw_iconst (n := 168) F (1) (by decide) dJ19_compareMagnitude_167 rfl ?_
                refine sw_ialoadK (n := 169) F (plA F 0 rfl ha9) 1 rfl (by omega) dJ19_compareMagnitude_168 rfl ?_
                show SW x _ _ _ _ _ [.int (jI (↑(f9 1)))]
                refine sw_istore (n := 171) F (L2 := [(6, .int (jI (↑(f9 1)))), (7, .int (jI (↑dh))), (5, .int (jI (↑dh))), (1, .long (jL (↑m))), (3, .ref a), (4, .int (jI (↑n9)))]) rfl (by decide) dJ19_compareMagnitude_169 rfl ?_
                refine sw_lload_n (n := 172) F 3 rfl rfl dJ19_compareMagnitude_171 rfl ?_
                refine sw_l2i (n := 173) F dJ19_compareMagnitude_172 rfl ?_
                refine sw_top (topIm (show (↑m : Int) % 4294967296 = (↑dl) % 4294967296 by omega)) ?_
                refine sw_istore (n := 175) F (L2 := [(7, .int (jI (↑dl))), (6, .int (jI (↑(f9 1)))), (5, .int (jI (↑dh))), (1, .long (jL (↑m))), (3, .ref a), (4, .int (jI (↑n9)))]) rfl (by decide) dJ19_compareMagnitude_173 rfl ?_
                refine sw_iload (n := 177) F 1 rfl dJ19_compareMagnitude_175 rfl ?_
                refine sw_iload (n := 179) F 0 rfl dJ19_compareMagnitude_177 rfl ?_
                refine sw_icmp_eqU (n := 182) F (by omega) (by omega) (tgt := 206) dJ19_compareMagnitude_179 (by decide) rfl (fun c_179 => ?_) (fun c_179 => ?_)
                ·
                  refine sw_iconst (n := 207) F (0) (by decide) dJ19_compareMagnitude_206 rfl ?_
                  exact sw_iret F _ rfl (by first | rfl | exact jI_nz (by omega) | exact jI_nc (by omega)) dJ19_compareMagnitude_207 (by rw [hPo]; exact ⟨(by first | (rw [cmpI_lt (by omega)]) | (rw [cmpI_gt (by omega)]) | (rw [cmpI_eq (by omega)])), rfl⟩)
                ·
                  refine sw_iload (n := 184) F 1 rfl dJ19_compareMagnitude_182 rfl ?_
                  have hb_4 : f9 1 < 4294967296 := hw9.1 _ (by omega)
                  refine sw_i2lr (n := 185) F dJ19_compareMagnitude_184 rfl ?_
                  refine sw_ldc2 (n := 188) F (4294967295) q1106 (by decide) dJ19_compareMagnitude_185 rfl ?_
                  refine sw_land (n := 189) F (jL (↑(f9 1))) (jI_wordE (by omega)) dJ19_compareMagnitude_188 rfl ?_
                  refine sw_iload (n := 191) F 0 rfl dJ19_compareMagnitude_189 rfl ?_
                  refine sw_i2lr (n := 192) F dJ19_compareMagnitude_191 rfl ?_
                  refine sw_ldc2 (n := 195) F (4294967295) q1106 (by decide) dJ19_compareMagnitude_192 rfl ?_
                  refine sw_land (n := 196) F (jL (↑dl)) (jI_wordE (by omega)) dJ19_compareMagnitude_195 rfl ?_
                  refine sw_lcmp (n := 197) F (by omega) (by omega) dJ19_compareMagnitude_196 rfl ?_
                  refine sw_if_ge (n := 200) F (by omega) (tgt := 204) dJ19_compareMagnitude_197 (by decide) rfl (fun c_197 => ?_) (fun c_197 => ?_)
                  ·
                    have c_197 : ↑(f9 1) ≥ ↑dl := by revert c_197; (repeat' split) <;> omega
                    refine sw_iconst (n := 205) F (1) (by decide) dJ19_compareMagnitude_204 rfl ?_
                    exact sw_iret F _ rfl (by first | rfl | exact jI_nz (by omega) | exact jI_nc (by omega)) dJ19_compareMagnitude_205 (by rw [hPo]; exact ⟨(by first | (rw [cmpI_lt (by omega)]) | (rw [cmpI_gt (by omega)]) | (rw [cmpI_eq (by omega)])), rfl⟩)
                  ·
                    have c_197 : ↑(f9 1) < ↑dl := by revert c_197; (repeat' split) <;> omega
                    refine sw_iconst (n := 201) F (-1) (by decide) dJ19_compareMagnitude_200 rfl ?_
                    refine sw_goto F (n := 205) dJ19_compareMagnitude_201 (by decide) ?_
                    exact sw_iret F _ rfl (by first | rfl | exact jI_nz (by omega) | exact jI_nc (by omega)) dJ19_compareMagnitude_205 (by rw [hPo]; exact ⟨(by first | (rw [cmpI_lt (by omega)]) | (rw [cmpI_gt (by omega)]) | (rw [cmpI_eq (by omega)])), rfl⟩)
              ·
                refine sw_iload (n := 144) F 1 rfl dJ19_compareMagnitude_142 rfl ?_
                have hb_5 : f9 0 < 4294967296 := hw9.1 _ (by omega)
                refine sw_i2lr (n := 145) F dJ19_compareMagnitude_144 rfl ?_
                refine sw_ldc2 (n := 148) F (4294967295) q1106 (by decide) dJ19_compareMagnitude_145 rfl ?_
                refine sw_land (n := 149) F (jL (↑(f9 0))) (jI_wordE (by omega)) dJ19_compareMagnitude_148 rfl ?_
                refine sw_iload (n := 151) F 0 rfl dJ19_compareMagnitude_149 rfl ?_
                refine sw_i2lr (n := 152) F dJ19_compareMagnitude_151 rfl ?_
                refine sw_ldc2 (n := 155) F (4294967295) q1106 (by decide) dJ19_compareMagnitude_152 rfl ?_
                refine sw_land (n := 156) F (jL (↑dh)) (jI_wordE (by omega)) dJ19_compareMagnitude_155 rfl ?_
                refine sw_lcmp (n := 157) F (by omega) (by omega) dJ19_compareMagnitude_156 rfl ?_
                refine sw_if_ge (n := 160) F (by omega) (tgt := 164) dJ19_compareMagnitude_157 (by decide) rfl (fun c_157 => ?_) (fun c_157 => ?_)
                ·
                  have c_157 : ↑(f9 0) ≥ ↑dh := by revert c_157; (repeat' split) <;> omega
                  refine sw_iconst (n := 165) F (1) (by decide) dJ19_compareMagnitude_164 rfl ?_
                  exact sw_iret F _ rfl (by first | rfl | exact jI_nz (by omega) | exact jI_nc (by omega)) dJ19_compareMagnitude_165 (by rw [hPo]; exact ⟨(by first | (rw [cmpI_lt (by omega)]) | (rw [cmpI_gt (by omega)]) | (rw [cmpI_eq (by omega)])), rfl⟩)
                ·
                  have c_157 : ↑(f9 0) < ↑dh := by revert c_157; (repeat' split) <;> omega
                  refine sw_iconst (n := 161) F (-1) (by decide) dJ19_compareMagnitude_160 rfl ?_
                  refine sw_goto F (n := 165) dJ19_compareMagnitude_161 (by decide) ?_
                  exact sw_iret F _ rfl (by first | rfl | exact jI_nz (by omega) | exact jI_nc (by omega)) dJ19_compareMagnitude_165 (by rw [hPo]; exact ⟨(by first | (rw [cmpI_lt (by omega)]) | (rw [cmpI_gt (by omega)]) | (rw [cmpI_eq (by omega)])), rfl⟩)
            ·
              refine sw_iconst (n := 125) F (-1) (by decide) dJ19_compareMagnitude_124 rfl ?_
              exact sw_iret F _ rfl (by first | rfl | exact jI_nz (by omega) | exact jI_nc (by omega)) dJ19_compareMagnitude_125 (by rw [hPo]; exact ⟨(by first | (rw [cmpI_lt (by omega)]) | (rw [cmpI_gt (by omega)]) | (rw [cmpI_eq (by omega)])), rfl⟩)
          ·
            refine sw_iload (n := 62) F 3 rfl dJ19_compareMagnitude_60 rfl ?_
            refine sw_iconst (n := 63) F (1) (by decide) dJ19_compareMagnitude_62 rfl ?_
            refine sw_icmp_ge (n := 66) F (by omega) (by decide) (tgt := 68) dJ19_compareMagnitude_63 (by decide) rfl (fun c_63 => ?_) (fun c_63 => ?_)
            ·
              refine sw_iload (n := 70) F 3 rfl dJ19_compareMagnitude_68 rfl ?_
              refine sw_iconst (n := 71) F (1) (by decide) dJ19_compareMagnitude_70 rfl ?_
              refine sw_icmp_le (n := 74) F (by omega) (by decide) (tgt := 76) dJ19_compareMagnitude_71 (by decide) rfl (fun c_71 => ?_) (fun c_71 => ?_)
              ·
                refine sw_aload_n (n := 77) F 2 (some a) rfl rfl rfl dJ19_compareMagnitude_76 rfl ?_
                refine sw_iconst (n := 78) F (0) (by decide) dJ19_compareMagnitude_77 rfl ?_
                refine sw_ialoadK (n := 79) F (plA F 0 rfl ha9) 0 rfl (by omega) dJ19_compareMagnitude_78 rfl ?_
                show SW x _ _ _ _ _ [.int (jI (↑(f9 0)))]
                refine sw_istore (n := 81) F (L2 := [(6, .int (jI (↑(f9 0)))), (5, .int (jI (↑dh))), (1, .long (jL (↑m))), (3, .ref a), (4, .int (jI (↑n9)))]) rfl (by decide) dJ19_compareMagnitude_79 rfl ?_
                refine sw_lload_n (n := 82) F 2 rfl rfl dJ19_compareMagnitude_81 rfl ?_
                refine sw_l2i (n := 83) F dJ19_compareMagnitude_82 rfl ?_
                refine sw_top (topIm (show (↑m : Int) % 4294967296 = (↑dl) % 4294967296 by omega)) ?_
                refine sw_istore (n := 85) F (L2 := [(7, .int (jI (↑dl))), (6, .int (jI (↑(f9 0)))), (5, .int (jI (↑dh))), (1, .long (jL (↑m))), (3, .ref a), (4, .int (jI (↑n9)))]) rfl (by decide) dJ19_compareMagnitude_83 rfl ?_
                refine sw_iload (n := 87) F 1 rfl dJ19_compareMagnitude_85 rfl ?_
                refine sw_iload (n := 89) F 0 rfl dJ19_compareMagnitude_87 rfl ?_
                refine sw_icmp_eqU (n := 92) F (by omega) (by omega) (tgt := 116) dJ19_compareMagnitude_89 (by decide) rfl (fun c_89 => ?_) (fun c_89 => ?_)
                ·
                  refine sw_iconst (n := 117) F (0) (by decide) dJ19_compareMagnitude_116 rfl ?_
                  exact sw_iret F _ rfl (by first | rfl | exact jI_nz (by omega) | exact jI_nc (by omega)) dJ19_compareMagnitude_117 (by rw [hPo]; exact ⟨(by first | (rw [cmpI_lt (by omega)]) | (rw [cmpI_gt (by omega)]) | (rw [cmpI_eq (by omega)])), rfl⟩)
                ·
                  refine sw_iload (n := 94) F 1 rfl dJ19_compareMagnitude_92 rfl ?_
                  have hb_6 : f9 0 < 4294967296 := hw9.1 _ (by omega)
                  refine sw_i2lr (n := 95) F dJ19_compareMagnitude_94 rfl ?_
                  refine sw_ldc2 (n := 98) F (4294967295) q1106 (by decide) dJ19_compareMagnitude_95 rfl ?_
                  refine sw_land (n := 99) F (jL (↑(f9 0))) (jI_wordE (by omega)) dJ19_compareMagnitude_98 rfl ?_
                  refine sw_iload (n := 101) F 0 rfl dJ19_compareMagnitude_99 rfl ?_
                  refine sw_i2lr (n := 102) F dJ19_compareMagnitude_101 rfl ?_
                  refine sw_ldc2 (n := 105) F (4294967295) q1106 (by decide) dJ19_compareMagnitude_102 rfl ?_
                  refine sw_land (n := 106) F (jL (↑dl)) (jI_wordE (by omega)) dJ19_compareMagnitude_105 rfl ?_
                  refine sw_lcmp (n := 107) F (by omega) (by omega) dJ19_compareMagnitude_106 rfl ?_
                  refine sw_if_ge (n := 110) F (by omega) (tgt := 114) dJ19_compareMagnitude_107 (by decide) rfl (fun c_107 => ?_) (fun c_107 => ?_)
                  ·
                    have c_107 : ↑(f9 0) ≥ ↑dl := by revert c_107; (repeat' split) <;> omega
                    refine sw_iconst (n := 115) F (1) (by decide) dJ19_compareMagnitude_114 rfl ?_
                    exact sw_iret F _ rfl (by first | rfl | exact jI_nz (by omega) | exact jI_nc (by omega)) dJ19_compareMagnitude_115 (by rw [hPo]; exact ⟨(by first | (rw [cmpI_lt (by omega)]) | (rw [cmpI_gt (by omega)]) | (rw [cmpI_eq (by omega)])), rfl⟩)
                  ·
                    have c_107 : ↑(f9 0) < ↑dl := by revert c_107; (repeat' split) <;> omega
                    refine sw_iconst (n := 111) F (-1) (by decide) dJ19_compareMagnitude_110 rfl ?_
                    refine sw_goto F (n := 115) dJ19_compareMagnitude_111 (by decide) ?_
                    exact sw_iret F _ rfl (by first | rfl | exact jI_nz (by omega) | exact jI_nc (by omega)) dJ19_compareMagnitude_115 (by rw [hPo]; exact ⟨(by first | (rw [cmpI_lt (by omega)]) | (rw [cmpI_gt (by omega)]) | (rw [cmpI_eq (by omega)])), rfl⟩)
              ·
                refine sw_iconst (n := 75) F (1) (by decide) dJ19_compareMagnitude_74 rfl ?_
                exact sw_iret F _ rfl (by first | rfl | exact jI_nz (by omega) | exact jI_nc (by omega)) dJ19_compareMagnitude_75 (by rw [hPo]; exact ⟨(by first | (rw [cmpI_lt (by omega)]) | (rw [cmpI_gt (by omega)]) | (rw [cmpI_eq (by omega)])), rfl⟩)
            ·
              refine sw_iconst (n := 67) F (-1) (by decide) dJ19_compareMagnitude_66 rfl ?_
              exact sw_iret F _ rfl (by first | rfl | exact jI_nz (by omega) | exact jI_nc (by omega)) dJ19_compareMagnitude_67 (by rw [hPo]; exact ⟨(by first | (rw [cmpI_lt (by omega)]) | (rw [cmpI_gt (by omega)]) | (rw [cmpI_eq (by omega)])), rfl⟩)
        refine sw_loc [0, 2, 1] (L2 := [(1, .long (jL (-d))), (3, .ref a), (4, .int (jI (↑n9)))]) rfl ?_
        rw [show (-d : Int) = ↑((-d : Int).toNat) by omega]
        exact K48 ((-d : Int).toNat) (by first | omega | assumption)
    ·
      have hlong := long_len hw9 (by omega)
      refine sw_iconst (n := 38) F (1) (by decide) dJ19_compareMagnitude_37 rfl ?_
      exact sw_iret F _ rfl (by first | rfl | exact jI_nz (by omega) | exact jI_nc (by omega)) dJ19_compareMagnitude_38 (by rw [hPo]; exact ⟨(by first | (rw [cmpI_lt (by omega)]) | (rw [cmpI_gt (by omega)]) | (rw [cmpI_eq (by omega)])), rfl⟩)
  · exfalso; exact absurd c_3 (by decide)
theorem add_same {v w : Int} (h : sgI v = sgI w) : (v + w).natAbs = v.natAbs + w.natAbs ∧ sgI v = sgI (v + w) := by
  have := sgI_cases v; have := sgI_cases w; have := sgI_cases (v + w); omega
theorem cmpI_g {x y : Nat} (h : 0 < cmpI x y) : y < x ∧ cmpI x y = 1 := by have := cmpI_cases x y; omega
theorem cmpI_l {x y : Nat} (h : cmpI x y ≤ 0) (h0 : cmpI x y ≠ 0) : x < y ∧ cmpI x y = -1 := by have := cmpI_cases x y; omega
theorem cmpI_e {x y : Nat} (h : cmpI x y = 0) : x = y := by have := cmpI_cases x y; omega
theorem add_diff {v w : Int} (h : sgI v ≠ sgI w) (hv : sgI v ≠ 0) (hw : sgI w ≠ 0) : (w.natAbs < v.natAbs → (v + w).natAbs = v.natAbs - w.natAbs ∧ sgI (v + w) = sgI v) ∧ (v.natAbs < w.natAbs → (v + w).natAbs = w.natAbs - v.natAbs ∧ sgI (v + w) = -sgI v) ∧ (v.natAbs = w.natAbs → v + w = 0) := by
  have := sgI_cases v; have := sgI_cases w; have := sgI_cases (v + w)
  refine ⟨fun _ => ⟨by omega, by omega⟩, fun _ => ⟨by omega, by omega⟩, fun _ => by omega⟩
theorem nd_J19_add_3 : yJ19_add_3.cls ≠ "java/lang/invoke/MethodHandle" ∧ yJ19_add_3.cls ≠ "java/lang/invoke/VarHandle" ∧ (parseMethodDescriptor yJ19_add_3.desc).map (fun d => d.parameters.length) = some 1 := by decide +kernel
set_option maxRecDepth 100000 in
set_option maxHeartbeats 16000000 in
theorem ct_J19_add_3 {g : GG} {l : Launch} (M : Nat → Option PV) (q : Nat) (v : Int) (a : Nat) (q2 : Nat) (w : Int) (b : Nat) (hx : at_ g M q (vI v a)) (hy : at_ g M q2 (vI w b)) (hb : v.natAbs < bw 6) (hb2 : w.natAbs < bw 6) : Ct g l yJ19_add_3 (ws_ yJ19_add_3 cJ19_add_3 4 (Option.some (Jvm.ClassFile.FieldType.object "java/math/BigInteger"))) 5 101 3 20 [.ref q, .ref q2] [pl g M] (fun v9 Ws9 => ∃ M1 : Nat → Option PV, ∃ r1 : Nat, ∃ a1 : Nat, v9 = some (.ref r1) ∧ (le_ M M1) ∧ (at_ g M1 r1 (vI (v + w) a1)) ∧ Ws9 = [pl g M1]) (nox) := by
  refine Ct.of (cc := cJ19_add_3) (nL := 4) (ret := (Option.some (Jvm.ClassFile.FieldType.object "java/math/BigInteger"))) (by decide) rfl (Nat.le_of_ble_eq_true rfl) ?_
  intro x hg hl hPo hPx hmc hms F
  subst hg; subst hl
  refine SW.cast (L' := [(0, .ref q), (1, .ref q2)]) ?_ rfl rfl rfl
  refine sw_factI 0 rfl hx (fun n9 f9 ha9 hw9 hv9 => ?_)
  refine sw_factI 0 rfl hy (fun n8 f8 ha8 hw8 hv8 => ?_)
  have hn9 : n9 ≤ 6 := wOK_len hw9 (by rw [hv9]; exact hb)
  have hn8 : n8 ≤ 6 := wOK_len hw8 (by rw [hv8]; exact hb2)
  have hs9 := sgI_cases v
  have hs8 := sgI_cases w
  refine sw_aload_n (n := 1) F 1 (some q2) rfl rfl rfl dJ19_add_3_0 rfl ?_
  refine sw_getI (n := 4) F 0 rfl hy (k := 0) ⟨(RJ19, TJ19, 6), rfl, by decide, q1070, in_J19, Or.inl rfl⟩ (.int (jI (sgI w))) (fun _ _ _ _ => rfl) dJ19_add_3_1 rfl ?_
  refine sw_if_ne (n := 7) F (by omega) (tgt := 9) dJ19_add_3_4 (by decide) rfl (fun c_4 => ?_) (fun c_4 => ?_)
  ·
    refine sw_aload_n (n := 10) F 0 (some q) rfl rfl rfl dJ19_add_3_9 rfl ?_
    refine sw_getI (n := 13) F 0 rfl hx (k := 0) ⟨(RJ19, TJ19, 6), rfl, by decide, q1070, in_J19, Or.inl rfl⟩ (.int (jI (sgI v))) (fun _ _ _ _ => rfl) dJ19_add_3_10 rfl ?_
    refine sw_if_ne (n := 16) F (by omega) (tgt := 18) dJ19_add_3_13 (by decide) rfl (fun c_13 => ?_) (fun c_13 => ?_)
    ·
      have hp9 : 0 < n9 := wv_pos (f := f9) (by omega)
      have hp8 : 0 < n8 := wv_pos (f := f8) (by omega)
      refine sw_aload_n (n := 19) F 1 (some q2) rfl rfl rfl dJ19_add_3_18 rfl ?_
      refine sw_getI (n := 22) F 0 rfl hy (k := 0) ⟨(RJ19, TJ19, 6), rfl, by decide, q1070, in_J19, Or.inl rfl⟩ (.int (jI (sgI w))) (fun _ _ _ _ => rfl) dJ19_add_3_19 rfl ?_
      refine sw_aload_n (n := 23) F 0 (some q) rfl rfl rfl dJ19_add_3_22 rfl ?_
      refine sw_getI (n := 26) F 0 rfl hx (k := 0) ⟨(RJ19, TJ19, 6), rfl, by decide, q1070, in_J19, Or.inl rfl⟩ (.int (jI (sgI v))) (fun _ _ _ _ => rfl) dJ19_add_3_23 rfl ?_
      refine sw_icmp_ne (n := 29) F (by omega) (by omega) (tgt := 52) dJ19_add_3_26 (by decide) rfl (fun c_26 => ?_) (fun c_26 => ?_)
      ·
        refine sw_aload_n (n := 53) F 0 (some q) rfl rfl rfl dJ19_add_3_52 rfl ?_
        refine sw_aload_n (n := 54) F 1 (some q2) rfl rfl rfl dJ19_add_3_53 rfl ?_
        refine sw_callV (n := 57) F (ct_J19_compareMagnitude_2 (g := xg x) (l := xl x) M q v a q2 w b hx hy hb hb2) (rcvI F 0 rfl hx) q1449 q1450 q1451 q127 q1452 nd_J19_compareMagnitude_2 rfl (by decide) [0] rfl [] rfl 3 20 ⟨by omega, by omega⟩ [] rfl (Nat.le_of_ble_eq_true rfl) dJ19_add_3_54 rfl (fun _ _ h => h.elim) (fun v Ws h => ?_)
        obtain ⟨rfl, rfl⟩ := h
        show SW x [pl (xg x) M] _ _ _ _ [.int (jI (cmpI v.natAbs w.natAbs))]
        have hcq := cmpI_cases v.natAbs w.natAbs
        have hdd := add_diff (v := v) (w := w) (by omega) (by omega) (by omega)
        refine sw_istore_n (n := 58) F (L2 := [(2, .int (jI (cmpI v.natAbs w.natAbs))), (0, .ref q), (1, .ref q2)]) rfl (by decide) rfl dJ19_add_3_57 rfl ?_
        refine sw_iload_n (n := 59) F 0 rfl rfl dJ19_add_3_58 rfl ?_
        refine sw_if_ne (n := 62) F (by omega) (tgt := 66) dJ19_add_3_59 (by decide) rfl (fun c_59 => ?_) (fun c_59 => ?_)
        ·
          have K96 : ∀ (cm : Int) (rr : Nat) (N : Nat) (ff : Nat → Nat), (N ≤ 6) → (∀ k, k < N → ff k < 4294967296) → (wv ff N = (v + w).natAbs) → ((cm = 1 ∧ sgI (v + w) = sgI v) ∨ (cm = -1 ∧ sgI (v + w) = -sgI v)) → (v + w ≠ 0) → SW x [aN (xg x) 0 rr N ff, pl (xg x) M] 2 14 96 [(0, .ref q), (2, .int (jI cm)), (3, .ref rr)] [] := by
            intro cm rr N ff hN hff hvf hcm hnz
            refine sw_aload_n (n := 97) F 2 (some rr) rfl rfl rfl dJ19_add_3_96 rfl ?_
            refine sw_callS (n := 100) F (ct_J19_trustedStripLeadingZeroInts (g := xg x) (l := xl x) rr N ff (by first | omega | assumption) hff) q1148 q1149 q127 q1150 nd_J19_trustedStripLeadingZeroInts rfl (by decide) [0, 1] rfl [pl (xg x) M] rfl 1 6 ⟨by omega, by omega⟩ [] rfl (Nat.le_of_ble_eq_true rfl) dJ19_add_3_97 rfl (fun _ _ h => h.elim) (fun v Ws h => ?_)
            obtain ⟨r1_1, n1_2, f1_3, rfl, hn1_4, hw1_5, hv1_6, rfl⟩ := h
            show SW x [aN (xg x) 0 r1_1 n1_2 f1_3, pl (xg x) M] _ _ _ _ [.ref r1_1]
            have hvs : wv f1_3 n1_2 = (v + w).natAbs := by omega
            have hp7 : 0 < n1_2 := wv_pos (f := f1_3) (by omega)
            refine sw_absA F (fun M_7 hle_8 hat_9 => ?_)
            show SW x [pl (xg x) M_7] _ _ _ _ [.ref r1_1]
            refine sw_astore_n (n := 101) F (some r1_1) (L2 := [(3, .ref r1_1), (0, .ref q), (2, .int (jI cm))]) rfl rfl (by decide) rfl dJ19_add_3_100 rfl ?_
            refine sw_new (n := 104) F (ci := 16) (N := 6) RJ19 TJ19 tyJ19 rfl q1064 q1065 q127 in_J19 tyJ19_ok (fs := [.int (jI 0), .null, .int (jI 0), .int (jI 0), .int (jI 0), .int (jI 0)]) rfl 0 0 ⟨by omega, by omega⟩ dJ19_add_3_101 rfl (fun q_10 => ?_)
            refine sw_dup (n := 105) F rfl dJ19_add_3_104 rfl ?_
            refine sw_aload_n (n := 106) F 0 (some r1_1) rfl rfl rfl dJ19_add_3_105 rfl ?_
            refine sw_iload_n (n := 107) F 2 rfl rfl dJ19_add_3_106 rfl ?_
            refine sw_aload_n (n := 108) F 1 (some q) rfl rfl rfl dJ19_add_3_107 rfl ?_
            refine sw_getI (n := 111) F 1 rfl (at_.up hx hle_8) (k := 0) ⟨(RJ19, TJ19, 6), rfl, by decide, q1070, in_J19, Or.inl rfl⟩ (.int (jI (sgI v))) (fun _ _ _ _ => rfl) dJ19_add_3_108 rfl ?_
            refine sw_icmp_ne (n := 114) F (by omega) (by omega) (tgt := 118) dJ19_add_3_111 (by decide) rfl (fun c_111 => ?_) (fun c_111 => ?_)
            ·
              refine sw_iconst (n := 119) F (-1) (by decide) dJ19_add_3_118 rfl ?_
              refine sw_callI (n := 122) F (ct_J19_init_2 (g := xg x) (l := xl x) M_7 q_10 r1_1 n1_2 f1_3 (-1) hat_9 (by first | omega | assumption)) q1108 q1109 q127 q1110 rfl nd_J19_init_2 rfl (by decide) [0, 1] rfl [] rfl 0 0 ⟨by omega, by omega⟩ [.ref q_10] rfl (Nat.le_of_ble_eq_true rfl) dJ19_add_3_119 rfl (fun _ _ h => h.elim) (fun v Ws h => ?_)
              obtain ⟨rfl, rfl⟩ := h
              show SW x [ob (xg x) q_10 16 [.int (jI (-1)), .ref r1_1, .int (jI 0), .int (jI 0), .int (jI 0), .int (jI 0)], pl (xg x) M_7] _ _ _ _ [.ref q_10]
              refine SW.cast (Ps' := ob (xg x) q_10 16 (flI (v + w) r1_1 0 0 0 0) :: [pl (xg x) M_7]) ?_ (by first | (unfold flI; rw [has.2]) | (unfold flI; rw [show sgI (v + w) = 1 by omega]) | (unfold flI; rw [show sgI (v + w) = -1 by omega])) rfl rfl
              refine sw_absI F (Or.inr rfl) hat_9 hw1_5 hvs (fun M_11 hle_12 hat_13 => ?_)
              show SW x [pl (xg x) M_11] _ _ _ _ [.ref q_10]
              exact sw_aret F (some q_10) _ rfl rfl (by first | exact Or.inl ⟨_, rfl⟩ | exact Or.inr ⟨_, rfl⟩) dJ19_add_3_122 (by rw [hPo]; exact ⟨M_11, q_10, r1_1, rfl, (le_.tr hle_8 hle_12), hat_13, rfl⟩)
            ·
              refine sw_iconst (n := 115) F (1) (by decide) dJ19_add_3_114 rfl ?_
              refine sw_goto F (n := 119) dJ19_add_3_115 (by decide) ?_
              refine sw_callI (n := 122) F (ct_J19_init_2 (g := xg x) (l := xl x) M_7 q_10 r1_1 n1_2 f1_3 1 hat_9 (by first | omega | assumption)) q1108 q1109 q127 q1110 rfl nd_J19_init_2 rfl (by decide) [0, 1] rfl [] rfl 0 0 ⟨by omega, by omega⟩ [.ref q_10] rfl (Nat.le_of_ble_eq_true rfl) dJ19_add_3_119 rfl (fun _ _ h => h.elim) (fun v Ws h => ?_)
              obtain ⟨rfl, rfl⟩ := h
              show SW x [ob (xg x) q_10 16 [.int (jI 1), .ref r1_1, .int (jI 0), .int (jI 0), .int (jI 0), .int (jI 0)], pl (xg x) M_7] _ _ _ _ [.ref q_10]
              refine SW.cast (Ps' := ob (xg x) q_10 16 (flI (v + w) r1_1 0 0 0 0) :: [pl (xg x) M_7]) ?_ (by first | (unfold flI; rw [has.2]) | (unfold flI; rw [show sgI (v + w) = 1 by omega]) | (unfold flI; rw [show sgI (v + w) = -1 by omega])) rfl rfl
              refine sw_absI F (Or.inr rfl) hat_9 hw1_5 hvs (fun M_14 hle_15 hat_16 => ?_)
              show SW x [pl (xg x) M_14] _ _ _ _ [.ref q_10]
              exact sw_aret F (some q_10) _ rfl rfl (by first | exact Or.inl ⟨_, rfl⟩ | exact Or.inr ⟨_, rfl⟩) dJ19_add_3_122 (by rw [hPo]; exact ⟨M_14, q_10, r1_1, rfl, (le_.tr hle_8 hle_15), hat_16, rfl⟩)
          refine sw_iload_n (n := 67) F 0 rfl rfl dJ19_add_3_66 rfl ?_
          refine sw_if_le (n := 70) F (by omega) (tgt := 84) dJ19_add_3_67 (by decide) rfl (fun c_67 => ?_) (fun c_67 => ?_)
          ·
            have hq := cmpI_l c_67 c_59
            have hdd1 := hdd.2.1 hq.1
            refine sw_aload_n (n := 85) F 2 (some q2) rfl rfl rfl dJ19_add_3_84 rfl ?_
            refine sw_getI (n := 88) F 0 rfl hy (k := 1) ⟨(RJ19, TJ19, 6), rfl, by decide, q1072, in_J19, Or.inl rfl⟩ (.ref b) (fun _ _ _ _ => rfl) dJ19_add_3_85 rfl ?_
            refine sw_aload_n (n := 89) F 1 (some q) rfl rfl rfl dJ19_add_3_88 rfl ?_
            refine sw_getI (n := 92) F 0 rfl hx (k := 1) ⟨(RJ19, TJ19, 6), rfl, by decide, q1072, in_J19, Or.inl rfl⟩ (.ref a) (fun _ _ _ _ => rfl) dJ19_add_3_89 rfl ?_
            refine sw_callS (n := 95) F (ct_J19_subtract_3 (g := xg x) (l := xl x) M b n8 f8 a n9 f9 ha8 ha9 hw8 hw9 (by first | omega | assumption) (by first | omega | assumption) (by first | omega | assumption)) q1453 q1454 q127 q1455 nd_J19_subtract_3 rfl (by decide) [0] rfl [] rfl 2 14 ⟨by omega, by omega⟩ [] rfl (Nat.le_of_ble_eq_true rfl) dJ19_add_3_92 rfl (fun _ _ h => h.elim) (fun v Ws h => ?_)
            obtain ⟨r1_17, f1_18, rfl, hf1_19, hv1_20, rfl⟩ := h
            show SW x [aN (xg x) 0 r1_17 n8 f1_18, pl (xg x) M] _ _ _ _ [.ref r1_17]
            refine sw_astore_n (n := 96) F (some r1_17) (L2 := [(3, .ref r1_17), (2, .int (jI (cmpI v.natAbs w.natAbs))), (0, .ref q), (1, .ref q2)]) rfl rfl (by decide) rfl dJ19_add_3_95 rfl ?_
            refine sw_loc [2, 1, 0] (L2 := [(0, .ref q), (2, .int (jI (cmpI v.natAbs w.natAbs))), (3, .ref r1_17)]) rfl ?_
            exact K96 (cmpI v.natAbs w.natAbs) r1_17 n8 f1_18 hn8 (by first | assumption | omega) (by first | omega | assumption) (by first | omega | assumption) (by first | omega | assumption)
          ·
            have hq := cmpI_g c_67
            have hdd1 := hdd.1 hq.1
            refine sw_aload_n (n := 71) F 1 (some q) rfl rfl rfl dJ19_add_3_70 rfl ?_
            refine sw_getI (n := 74) F 0 rfl hx (k := 1) ⟨(RJ19, TJ19, 6), rfl, by decide, q1072, in_J19, Or.inl rfl⟩ (.ref a) (fun _ _ _ _ => rfl) dJ19_add_3_71 rfl ?_
            refine sw_aload_n (n := 75) F 2 (some q2) rfl rfl rfl dJ19_add_3_74 rfl ?_
            refine sw_getI (n := 78) F 0 rfl hy (k := 1) ⟨(RJ19, TJ19, 6), rfl, by decide, q1072, in_J19, Or.inl rfl⟩ (.ref b) (fun _ _ _ _ => rfl) dJ19_add_3_75 rfl ?_
            refine sw_callS (n := 81) F (ct_J19_subtract_3 (g := xg x) (l := xl x) M a n9 f9 b n8 f8 ha9 ha8 hw9 hw8 (by first | omega | assumption) (by first | omega | assumption) (by first | omega | assumption)) q1453 q1454 q127 q1455 nd_J19_subtract_3 rfl (by decide) [0] rfl [] rfl 2 14 ⟨by omega, by omega⟩ [] rfl (Nat.le_of_ble_eq_true rfl) dJ19_add_3_78 rfl (fun _ _ h => h.elim) (fun v Ws h => ?_)
            obtain ⟨r1_21, f1_22, rfl, hf1_23, hv1_24, rfl⟩ := h
            show SW x [aN (xg x) 0 r1_21 n9 f1_22, pl (xg x) M] _ _ _ _ [.ref r1_21]
            refine sw_goto F (n := 95) dJ19_add_3_81 (by decide) ?_
            refine sw_astore_n (n := 96) F (some r1_21) (L2 := [(3, .ref r1_21), (2, .int (jI (cmpI v.natAbs w.natAbs))), (0, .ref q), (1, .ref q2)]) rfl rfl (by decide) rfl dJ19_add_3_95 rfl ?_
            refine sw_loc [2, 1, 0] (L2 := [(0, .ref q), (2, .int (jI (cmpI v.natAbs w.natAbs))), (3, .ref r1_21)]) rfl ?_
            exact K96 (cmpI v.natAbs w.natAbs) r1_21 n9 f1_22 hn9 (by first | assumption | omega) (by first | omega | assumption) (by first | omega | assumption) (by first | omega | assumption)
        ·
          refine sw_gets (n := 65) F (kBZ F.gx.1).1 q1057 (Or.inl rfl) dJ19_add_3_62 rfl ?_
          have hk_25 : at_ (xg x) M (tR (xg x) (Jvm.Term.static "java/math/BigInteger" "ZERO" "Ljava/math/BigInteger;")) (vI 0 (tR (xg x) (.field (Jvm.Term.static "java/math/BigInteger" "ZERO" "Ljava/math/BigInteger;") "java/math/BigInteger" "mag" "[I"))) := Or.inr (kBZ F.gx.1).2
          exact sw_aret F (some (tR (xg x) (Jvm.Term.static "java/math/BigInteger" "ZERO" "Ljava/math/BigInteger;"))) _ rfl rfl (by first | exact Or.inl ⟨_, rfl⟩ | exact Or.inr ⟨_, rfl⟩) dJ19_add_3_65 (by rw [hPo]; exact ⟨M, tR (xg x) (Jvm.Term.static "java/math/BigInteger" "ZERO" "Ljava/math/BigInteger;"), tR (xg x) (.field (Jvm.Term.static "java/math/BigInteger" "ZERO" "Ljava/math/BigInteger;") "java/math/BigInteger" "mag" "[I"), rfl, le_.rf, (by first | (rw [show v + w = v by omega]; assumption) | (rw [show v + w = w by omega]; assumption) | (rw [hdd.2.2 (cmpI_e c_59)]; assumption)), rfl⟩)
      ·
        refine sw_new (n := 32) F (ci := 16) (N := 6) RJ19 TJ19 tyJ19 rfl q1064 q1065 q127 in_J19 tyJ19_ok (fs := [.int (jI 0), .null, .int (jI 0), .int (jI 0), .int (jI 0), .int (jI 0)]) rfl 2 14 ⟨by omega, by omega⟩ dJ19_add_3_29 rfl (fun q_26 => ?_)
        refine sw_dup (n := 33) F rfl dJ19_add_3_32 rfl ?_
        refine sw_aload_n (n := 34) F 0 (some q) rfl rfl rfl dJ19_add_3_33 rfl ?_
        refine sw_getI (n := 37) F 1 rfl hx (k := 1) ⟨(RJ19, TJ19, 6), rfl, by decide, q1072, in_J19, Or.inl rfl⟩ (.ref a) (fun _ _ _ _ => rfl) dJ19_add_3_34 rfl ?_
        refine sw_aload_n (n := 38) F 1 (some q2) rfl rfl rfl dJ19_add_3_37 rfl ?_
        refine sw_getI (n := 41) F 1 rfl hy (k := 1) ⟨(RJ19, TJ19, 6), rfl, by decide, q1072, in_J19, Or.inl rfl⟩ (.ref b) (fun _ _ _ _ => rfl) dJ19_add_3_38 rfl ?_
        refine sw_callS (n := 44) F (ct_J19_add_4 (g := xg x) (l := xl x) M a n9 f9 b n8 f8 ha9 ha8 hw9 hw8 (by first | omega | assumption) (by first | omega | assumption)) q1446 q1447 q127 q1448 nd_J19_add_4 rfl (by decide) [1, 0] rfl [ob (xg x) q_26 16 [.int (jI 0), .null, .int (jI 0), .int (jI 0), .int (jI 0), .int (jI 0)]] rfl 0 1 ⟨by omega, by omega⟩ [.ref q_26, .ref q_26] rfl (Nat.le_of_ble_eq_true rfl) dJ19_add_3_41 rfl (fun _ _ h => h.elim) (fun v Ws h => ?_)
        obtain ⟨r1_27, n1_28, f1_29, rfl, hn1_30, hw1_31, hv1_32, rfl⟩ := h
        show SW x [aN (xg x) 0 r1_27 n1_28 f1_29, pl (xg x) M, ob (xg x) q_26 16 [.int (jI 0), .null, .int (jI 0), .int (jI 0), .int (jI 0), .int (jI 0)]] _ _ _ _ [.ref r1_27, .ref q_26, .ref q_26]
        refine sw_aload_n (n := 45) F 0 (some q) rfl rfl rfl dJ19_add_3_44 rfl ?_
        refine sw_getI (n := 48) F 1 rfl hx (k := 0) ⟨(RJ19, TJ19, 6), rfl, by decide, q1070, in_J19, Or.inl rfl⟩ (.int (jI (sgI v))) (fun _ _ _ _ => rfl) dJ19_add_3_45 rfl ?_
        have has := add_same (v := v) (w := w) (by omega)
        have hvs : wv f1_29 n1_28 = (v + w).natAbs := by omega
        have hp7 : 0 < n1_28 := wv_pos (f := f1_29) (by omega)
        refine sw_absA F (fun M_33 hle_34 hat_35 => ?_)
        show SW x [pl (xg x) M_33, ob (xg x) q_26 16 [.int (jI 0), .null, .int (jI 0), .int (jI 0), .int (jI 0), .int (jI 0)]] _ _ _ _ [.int (jI (sgI v)), .ref r1_27, .ref q_26, .ref q_26]
        refine sw_callI (n := 51) F (ct_J19_init_2 (g := xg x) (l := xl x) M_33 q_26 r1_27 n1_28 f1_29 (sgI v) hat_35 (by first | omega | assumption)) q1108 q1109 q127 q1110 rfl nd_J19_init_2 rfl (by decide) [1, 0] rfl [] rfl 0 1 ⟨by omega, by omega⟩ [.ref q_26] rfl (Nat.le_of_ble_eq_true rfl) dJ19_add_3_48 rfl (fun _ _ h => h.elim) (fun v Ws h => ?_)
        obtain ⟨rfl, rfl⟩ := h
        show SW x [ob (xg x) q_26 16 [.int (jI (sgI v)), .ref r1_27, .int (jI 0), .int (jI 0), .int (jI 0), .int (jI 0)], pl (xg x) M_33] _ _ _ _ [.ref q_26]
        refine SW.cast (Ps' := ob (xg x) q_26 16 (flI (v + w) r1_27 0 0 0 0) :: [pl (xg x) M_33]) ?_ (by first | (unfold flI; rw [has.2]) | (unfold flI; rw [show sgI (v + w) = 1 by omega]) | (unfold flI; rw [show sgI (v + w) = -1 by omega])) rfl rfl
        refine sw_absI F (Or.inr rfl) hat_35 hw1_31 hvs (fun M_36 hle_37 hat_38 => ?_)
        show SW x [pl (xg x) M_36] _ _ _ _ [.ref q_26]
        exact sw_aret F (some q_26) _ rfl rfl (by first | exact Or.inl ⟨_, rfl⟩ | exact Or.inr ⟨_, rfl⟩) dJ19_add_3_51 (by rw [hPo]; exact ⟨M_36, q_26, r1_27, rfl, (le_.tr hle_34 hle_37), hat_38, rfl⟩)
    ·
      refine sw_aload_n (n := 17) F 1 (some q2) rfl rfl rfl dJ19_add_3_16 rfl ?_
      exact sw_aret F (some q2) _ rfl rfl (by first | exact Or.inl ⟨_, rfl⟩ | exact Or.inr ⟨_, rfl⟩) dJ19_add_3_17 (by rw [hPo]; exact ⟨M, q2, b, rfl, le_.rf, (by first | (rw [show v + w = v by omega]; assumption) | (rw [show v + w = w by omega]; assumption) | (rw [hdd.2.2 (cmpI_e c_59)]; assumption)), rfl⟩)
  ·
    refine sw_aload_n (n := 8) F 0 (some q) rfl rfl rfl dJ19_add_3_7 rfl ?_
    exact sw_aret F (some q) _ rfl rfl (by first | exact Or.inl ⟨_, rfl⟩ | exact Or.inr ⟨_, rfl⟩) dJ19_add_3_8 (by rw [hPo]; exact ⟨M, q, a, rfl, le_.rf, (by first | (rw [show v + w = v by omega]; assumption) | (rw [show v + w = w by omega]; assumption) | (rw [hdd.2.2 (cmpI_e c_59)]; assumption)), rfl⟩)
theorem nd_J19_add : yJ19_add.cls ≠ "java/lang/invoke/MethodHandle" ∧ yJ19_add.cls ≠ "java/lang/invoke/VarHandle" ∧ (parseMethodDescriptor yJ19_add.desc).map (fun d => d.parameters.length) = some 1 := by decide +kernel
set_option maxRecDepth 100000 in
set_option maxHeartbeats 16000000 in
theorem ct_J19_add {g : GG} {l : Launch} (M : Nat → Option PV) (q : Nat) (v : Int) (a : Nat) (d : Int) (hx : at_ g M q (vI v a)) (hd : -9223372036854775807 ≤ d ∧ d ≤ 9223372036854775807) (hb : v.natAbs < bw 6) : Ct g l yJ19_add (ws_ yJ19_add cJ19_add 5 (Option.some (Jvm.ClassFile.FieldType.object "java/math/BigInteger"))) 5 101 3 20 [.ref q, .long (jL d)] [pl g M] (fun v9 Ws9 => ∃ M1 : Nat → Option PV, ∃ r1 : Nat, ∃ a1 : Nat, v9 = some (.ref r1) ∧ (le_ M M1) ∧ (at_ g M1 r1 (vI (v + d) a1)) ∧ Ws9 = [pl g M1]) (nox) := by
  refine Ct.of (cc := cJ19_add) (nL := 5) (ret := (Option.some (Jvm.ClassFile.FieldType.object "java/math/BigInteger"))) (by decide) rfl (Nat.le_of_ble_eq_true rfl) ?_
  intro x hg hl hPo hPx hmc hms F
  subst hg; subst hl
  refine SW.cast (L' := [(0, .ref q), (1, .long (jL d))]) ?_ rfl rfl rfl
  refine sw_factI 0 rfl hx (fun n9 f9 ha9 hw9 hv9 => ?_)
  have hn9 : n9 ≤ 6 := wOK_len hw9 (by rw [hv9]; exact hb)
  have hs9 := sgI_cases v
  have hs8 := sgI_cases d
  have hab9 := abI_cases d
  refine sw_lload_n (n := 1) F 1 rfl rfl dJ19_add_0 rfl ?_
  refine sw_lconst (n := 2) F 0 (by decide) dJ19_add_1 rfl ?_
  refine sw_lcmp (n := 3) F (by omega) (by decide) dJ19_add_2 rfl ?_
  refine sw_if_ne (n := 6) F (by omega) (tgt := 8) dJ19_add_3 (by decide) rfl (fun c_3 => ?_) (fun c_3 => ?_)
  ·
    have c_3 : d ≠ 0 := by revert c_3; (repeat' split) <;> omega
    refine sw_aload_n (n := 9) F 0 (some q) rfl rfl rfl dJ19_add_8 rfl ?_
    refine sw_getI (n := 12) F 0 rfl hx (k := 0) ⟨(RJ19, TJ19, 6), rfl, by decide, q1070, in_J19, Or.inl rfl⟩ (.int (jI (sgI v))) (fun _ _ _ _ => rfl) dJ19_add_9 rfl ?_
    refine sw_if_ne (n := 15) F (by omega) (tgt := 20) dJ19_add_12 (by decide) rfl (fun c_12 => ?_) (fun c_12 => ?_)
    ·
      have hp9 : 0 < n9 := wv_pos (f := f9) (by omega)
      refine sw_lload_n (n := 21) F 1 rfl rfl dJ19_add_20 rfl ?_
      refine sw_callS (n := 24) F (ct_J21_signum (g := xg x) (l := xl x) d (by first | omega | assumption)) q1097 q1098 q129 q1099 nd_J21_signum rfl (by decide) [0] rfl [pl (xg x) M] rfl 3 20 ⟨by omega, by omega⟩ [] rfl (Nat.le_of_ble_eq_true rfl) dJ19_add_21 rfl (fun _ _ h => h.elim) (fun v Ws h => ?_)
      obtain ⟨rfl, rfl⟩ := h
      show SW x [pl (xg x) M] _ _ _ _ [.int (jI (sgI d))]
      refine sw_aload_n (n := 25) F 0 (some q) rfl rfl rfl dJ19_add_24 rfl ?_
      refine sw_getI (n := 28) F 0 rfl hx (k := 0) ⟨(RJ19, TJ19, 6), rfl, by decide, q1070, in_J19, Or.inl rfl⟩ (.int (jI (sgI v))) (fun _ _ _ _ => rfl) dJ19_add_25 rfl ?_
      refine sw_icmp_ne (n := 31) F (by omega) (by omega) (tgt := 54) dJ19_add_28 (by decide) rfl (fun c_28 => ?_) (fun c_28 => ?_)
      ·
        refine sw_aload_n (n := 55) F 0 (some q) rfl rfl rfl dJ19_add_54 rfl ?_
        refine sw_lload_n (n := 56) F 1 rfl rfl dJ19_add_55 rfl ?_
        refine sw_callV (n := 59) F (ct_J19_compareMagnitude (g := xg x) (l := xl x) M q v a d hx hd c_3 hb) (rcvI F 0 rfl hx) q1135 q1136 q1137 q127 q1138 nd_J19_compareMagnitude rfl (by decide) [0] rfl [] rfl 3 20 ⟨by omega, by omega⟩ [] rfl (Nat.le_of_ble_eq_true rfl) dJ19_add_56 rfl (fun _ _ h => h.elim) (fun v Ws h => ?_)
        obtain ⟨rfl, rfl⟩ := h
        show SW x [pl (xg x) M] _ _ _ _ [.int (jI (cmpI v.natAbs d.natAbs))]
        have hcq := cmpI_cases v.natAbs d.natAbs
        have hdd := add_diff (v := v) (w := d) (by omega) (by omega) (by omega)
        refine sw_istore_n (n := 60) F (L2 := [(3, .int (jI (cmpI v.natAbs d.natAbs))), (0, .ref q), (1, .long (jL d))]) rfl (by decide) rfl dJ19_add_59 rfl ?_
        refine sw_iload_n (n := 61) F 0 rfl rfl dJ19_add_60 rfl ?_
        refine sw_if_ne (n := 64) F (by omega) (tgt := 68) dJ19_add_61 (by decide) rfl (fun c_61 => ?_) (fun c_61 => ?_)
        ·
          have K99 : ∀ (cm : Int) (rr : Nat) (N : Nat) (ff : Nat → Nat), (N ≤ 6) → (∀ k, k < N → ff k < 4294967296) → (wv ff N = (v + d).natAbs) → ((cm = 1 ∧ sgI (v + d) = sgI v) ∨ (cm = -1 ∧ sgI (v + d) = -sgI v)) → (v + d ≠ 0) → SW x [aN (xg x) 0 rr N ff, pl (xg x) M] 2 14 99 [(0, .ref q), (3, .int (jI cm)), (4, .ref rr)] [] := by
            intro cm rr N ff hN hff hvf hcm hnz
            refine sw_aload (n := 101) F 2 (some rr) rfl rfl dJ19_add_99 rfl ?_
            refine sw_callS (n := 104) F (ct_J19_trustedStripLeadingZeroInts (g := xg x) (l := xl x) rr N ff (by first | omega | assumption) hff) q1148 q1149 q127 q1150 nd_J19_trustedStripLeadingZeroInts rfl (by decide) [0, 1] rfl [pl (xg x) M] rfl 1 6 ⟨by omega, by omega⟩ [] rfl (Nat.le_of_ble_eq_true rfl) dJ19_add_101 rfl (fun _ _ h => h.elim) (fun v Ws h => ?_)
            obtain ⟨r1_1, n1_2, f1_3, rfl, hn1_4, hw1_5, hv1_6, rfl⟩ := h
            show SW x [aN (xg x) 0 r1_1 n1_2 f1_3, pl (xg x) M] _ _ _ _ [.ref r1_1]
            have hvs : wv f1_3 n1_2 = (v + d).natAbs := by omega
            have hp7 : 0 < n1_2 := wv_pos (f := f1_3) (by omega)
            refine sw_absA F (fun M_7 hle_8 hat_9 => ?_)
            show SW x [pl (xg x) M_7] _ _ _ _ [.ref r1_1]
            refine sw_astore (n := 106) F (some r1_1) (L2 := [(4, .ref r1_1), (0, .ref q), (3, .int (jI cm))]) rfl rfl (by decide) dJ19_add_104 rfl ?_
            refine sw_new (n := 109) F (ci := 16) (N := 6) RJ19 TJ19 tyJ19 rfl q1064 q1065 q127 in_J19 tyJ19_ok (fs := [.int (jI 0), .null, .int (jI 0), .int (jI 0), .int (jI 0), .int (jI 0)]) rfl 0 0 ⟨by omega, by omega⟩ dJ19_add_106 rfl (fun q_10 => ?_)
            refine sw_dup (n := 110) F rfl dJ19_add_109 rfl ?_
            refine sw_aload (n := 112) F 0 (some r1_1) rfl rfl dJ19_add_110 rfl ?_
            refine sw_iload_n (n := 113) F 2 rfl rfl dJ19_add_112 rfl ?_
            refine sw_aload_n (n := 114) F 1 (some q) rfl rfl rfl dJ19_add_113 rfl ?_
            refine sw_getI (n := 117) F 1 rfl (at_.up hx hle_8) (k := 0) ⟨(RJ19, TJ19, 6), rfl, by decide, q1070, in_J19, Or.inl rfl⟩ (.int (jI (sgI v))) (fun _ _ _ _ => rfl) dJ19_add_114 rfl ?_
            refine sw_icmp_ne (n := 120) F (by omega) (by omega) (tgt := 124) dJ19_add_117 (by decide) rfl (fun c_117 => ?_) (fun c_117 => ?_)
            ·
              refine sw_iconst (n := 125) F (-1) (by decide) dJ19_add_124 rfl ?_
              refine sw_callI (n := 128) F (ct_J19_init_2 (g := xg x) (l := xl x) M_7 q_10 r1_1 n1_2 f1_3 (-1) hat_9 (by first | omega | assumption)) q1108 q1109 q127 q1110 rfl nd_J19_init_2 rfl (by decide) [0, 1] rfl [] rfl 0 0 ⟨by omega, by omega⟩ [.ref q_10] rfl (Nat.le_of_ble_eq_true rfl) dJ19_add_125 rfl (fun _ _ h => h.elim) (fun v Ws h => ?_)
              obtain ⟨rfl, rfl⟩ := h
              show SW x [ob (xg x) q_10 16 [.int (jI (-1)), .ref r1_1, .int (jI 0), .int (jI 0), .int (jI 0), .int (jI 0)], pl (xg x) M_7] _ _ _ _ [.ref q_10]
              refine SW.cast (Ps' := ob (xg x) q_10 16 (flI (v + d) r1_1 0 0 0 0) :: [pl (xg x) M_7]) ?_ (by first | (unfold flI; rw [has.2]) | (unfold flI; rw [show sgI (v + d) = 1 by omega]) | (unfold flI; rw [show sgI (v + d) = -1 by omega])) rfl rfl
              refine sw_absI F (Or.inr rfl) hat_9 hw1_5 hvs (fun M_11 hle_12 hat_13 => ?_)
              show SW x [pl (xg x) M_11] _ _ _ _ [.ref q_10]
              exact sw_aret F (some q_10) _ rfl rfl (by first | exact Or.inl ⟨_, rfl⟩ | exact Or.inr ⟨_, rfl⟩) dJ19_add_128 (by rw [hPo]; exact ⟨M_11, q_10, r1_1, rfl, (le_.tr hle_8 hle_12), hat_13, rfl⟩)
            ·
              refine sw_iconst (n := 121) F (1) (by decide) dJ19_add_120 rfl ?_
              refine sw_goto F (n := 125) dJ19_add_121 (by decide) ?_
              refine sw_callI (n := 128) F (ct_J19_init_2 (g := xg x) (l := xl x) M_7 q_10 r1_1 n1_2 f1_3 1 hat_9 (by first | omega | assumption)) q1108 q1109 q127 q1110 rfl nd_J19_init_2 rfl (by decide) [0, 1] rfl [] rfl 0 0 ⟨by omega, by omega⟩ [.ref q_10] rfl (Nat.le_of_ble_eq_true rfl) dJ19_add_125 rfl (fun _ _ h => h.elim) (fun v Ws h => ?_)
              obtain ⟨rfl, rfl⟩ := h
              show SW x [ob (xg x) q_10 16 [.int (jI 1), .ref r1_1, .int (jI 0), .int (jI 0), .int (jI 0), .int (jI 0)], pl (xg x) M_7] _ _ _ _ [.ref q_10]
              refine SW.cast (Ps' := ob (xg x) q_10 16 (flI (v + d) r1_1 0 0 0 0) :: [pl (xg x) M_7]) ?_ (by first | (unfold flI; rw [has.2]) | (unfold flI; rw [show sgI (v + d) = 1 by omega]) | (unfold flI; rw [show sgI (v + d) = -1 by omega])) rfl rfl
              refine sw_absI F (Or.inr rfl) hat_9 hw1_5 hvs (fun M_14 hle_15 hat_16 => ?_)
              show SW x [pl (xg x) M_14] _ _ _ _ [.ref q_10]
              exact sw_aret F (some q_10) _ rfl rfl (by first | exact Or.inl ⟨_, rfl⟩ | exact Or.inr ⟨_, rfl⟩) dJ19_add_128 (by rw [hPo]; exact ⟨M_14, q_10, r1_1, rfl, (le_.tr hle_8 hle_15), hat_16, rfl⟩)
          refine sw_iload_n (n := 69) F 0 rfl rfl dJ19_add_68 rfl ?_
          refine sw_if_le (n := 72) F (by omega) (tgt := 86) dJ19_add_69 (by decide) rfl (fun c_69 => ?_) (fun c_69 => ?_)
          ·
            have hq := cmpI_l c_69 c_61
            have hdd1 := hdd.2.1 hq.1
            refine sw_lload_n (n := 87) F 2 rfl rfl dJ19_add_86 rfl ?_
            refine sw_mabsL (n := 90) F (by omega) q1100 q1101 q132 q1102 (by decide) dJ19_add_87 rfl ?_
            have hab_17 := abI_cases (d)
            refine sw_aload_n (n := 91) F 1 (some q) rfl rfl rfl dJ19_add_90 rfl ?_
            refine sw_getI (n := 94) F 0 rfl hx (k := 1) ⟨(RJ19, TJ19, 6), rfl, by decide, q1072, in_J19, Or.inl rfl⟩ (.ref a) (fun _ _ _ _ => rfl) dJ19_add_91 rfl ?_
            rw [show (abI d : Int) = ↑((abI d : Int).toNat) by omega]
            refine sw_callS (n := 97) F (ct_J19_subtract_2 (g := xg x) (l := xl x) M ((abI d : Int).toNat) a n9 f9 ha9 hw9 hp9 (by first | omega | assumption) (by first | omega | assumption)) q1145 q1146 q127 q1147 nd_J19_subtract_2 rfl (by decide) [0] rfl [] rfl 2 18 ⟨by omega, by omega⟩ [] rfl (Nat.le_of_ble_eq_true rfl) dJ19_add_94 rfl (fun _ _ h => h.elim) (fun v Ws h => ?_)
            obtain ⟨r1_18, n1_19, f1_20, rfl, hn1_21, hf1_22, hv1_23, rfl⟩ := h
            show SW x [aN (xg x) 0 r1_18 n1_19 f1_20, pl (xg x) M] _ _ _ _ [.ref r1_18]
            refine sw_astore (n := 99) F (some r1_18) (L2 := [(4, .ref r1_18), (3, .int (jI (cmpI v.natAbs d.natAbs))), (0, .ref q), (1, .long (jL d))]) rfl rfl (by decide) dJ19_add_97 rfl ?_
            refine sw_room (bc2 := 2) (bs2 := 14) ⟨by omega, by omega⟩ ?_
            refine sw_loc [2, 1, 0] (L2 := [(0, .ref q), (3, .int (jI (cmpI v.natAbs d.natAbs))), (4, .ref r1_18)]) rfl ?_
            exact K99 (cmpI v.natAbs d.natAbs) r1_18 n1_19 f1_20 (by first | omega | assumption) (by first | assumption | omega) (by first | omega | assumption) (by first | omega | assumption) (by first | omega | assumption)
          ·
            have hq := cmpI_g c_69
            have hdd1 := hdd.1 hq.1
            refine sw_aload_n (n := 73) F 1 (some q) rfl rfl rfl dJ19_add_72 rfl ?_
            refine sw_getI (n := 76) F 0 rfl hx (k := 1) ⟨(RJ19, TJ19, 6), rfl, by decide, q1072, in_J19, Or.inl rfl⟩ (.ref a) (fun _ _ _ _ => rfl) dJ19_add_73 rfl ?_
            refine sw_lload_n (n := 77) F 2 rfl rfl dJ19_add_76 rfl ?_
            refine sw_mabsL (n := 80) F (by omega) q1100 q1101 q132 q1102 ⟨by decide, Nat.le_of_ble_eq_true rfl⟩ dJ19_add_77 rfl ?_
            have hab_24 := abI_cases (d)
            rw [show (abI d : Int) = ↑((abI d : Int).toNat) by omega]
            refine sw_callS (n := 83) F (ct_J19_subtract (g := xg x) (l := xl x) M a n9 f9 ((abI d : Int).toNat) ha9 hw9 (by first | omega | assumption) (by first | omega | assumption) (by first | omega | assumption)) q1142 q1143 q127 q1144 nd_J19_subtract rfl (by decide) [0] rfl [] rfl 2 14 ⟨by omega, by omega⟩ [] rfl (Nat.le_of_ble_eq_true rfl) dJ19_add_80 rfl (fun _ _ h => h.elim) (fun v Ws h => ?_)
            obtain ⟨r1_25, f1_26, rfl, hf1_27, hv1_28, rfl⟩ := h
            show SW x [aN (xg x) 0 r1_25 n9 f1_26, pl (xg x) M] _ _ _ _ [.ref r1_25]
            refine sw_goto F (n := 97) dJ19_add_83 (by decide) ?_
            refine sw_astore (n := 99) F (some r1_25) (L2 := [(4, .ref r1_25), (3, .int (jI (cmpI v.natAbs d.natAbs))), (0, .ref q), (1, .long (jL d))]) rfl rfl (by decide) dJ19_add_97 rfl ?_
            refine sw_loc [2, 1, 0] (L2 := [(0, .ref q), (3, .int (jI (cmpI v.natAbs d.natAbs))), (4, .ref r1_25)]) rfl ?_
            exact K99 (cmpI v.natAbs d.natAbs) r1_25 n9 f1_26 hn9 hf1_27 (by first | omega | assumption) (by first | omega | assumption) (by first | omega | assumption)
        ·
          refine sw_gets (n := 67) F (kBZ F.gx.1).1 q1057 (Or.inl rfl) dJ19_add_64 rfl ?_
          have hk_29 : at_ (xg x) M (tR (xg x) (Jvm.Term.static "java/math/BigInteger" "ZERO" "Ljava/math/BigInteger;")) (vI 0 (tR (xg x) (.field (Jvm.Term.static "java/math/BigInteger" "ZERO" "Ljava/math/BigInteger;") "java/math/BigInteger" "mag" "[I"))) := Or.inr (kBZ F.gx.1).2
          exact sw_aret F (some (tR (xg x) (Jvm.Term.static "java/math/BigInteger" "ZERO" "Ljava/math/BigInteger;"))) _ rfl rfl (by first | exact Or.inl ⟨_, rfl⟩ | exact Or.inr ⟨_, rfl⟩) dJ19_add_67 (by rw [hPo]; exact ⟨M, tR (xg x) (Jvm.Term.static "java/math/BigInteger" "ZERO" "Ljava/math/BigInteger;"), tR (xg x) (.field (Jvm.Term.static "java/math/BigInteger" "ZERO" "Ljava/math/BigInteger;") "java/math/BigInteger" "mag" "[I"), rfl, le_.rf, (by first | (rw [show v + d = v by omega]; assumption) | (rw [show v + d = d by omega]; assumption) | (rw [hdd.2.2 (cmpI_e c_61)]; assumption)), rfl⟩)
      ·
        refine sw_new (n := 34) F (ci := 16) (N := 6) RJ19 TJ19 tyJ19 rfl q1064 q1065 q127 in_J19 tyJ19_ok (fs := [.int (jI 0), .null, .int (jI 0), .int (jI 0), .int (jI 0), .int (jI 0)]) rfl 2 14 ⟨by omega, by omega⟩ dJ19_add_31 rfl (fun q_30 => ?_)
        refine sw_dup (n := 35) F rfl dJ19_add_34 rfl ?_
        refine sw_aload_n (n := 36) F 0 (some q) rfl rfl rfl dJ19_add_35 rfl ?_
        refine sw_getI (n := 39) F 1 rfl hx (k := 1) ⟨(RJ19, TJ19, 6), rfl, by decide, q1072, in_J19, Or.inl rfl⟩ (.ref a) (fun _ _ _ _ => rfl) dJ19_add_36 rfl ?_
        refine sw_lload_n (n := 40) F 1 rfl rfl dJ19_add_39 rfl ?_
        refine sw_mabsL (n := 43) F (by omega) q1100 q1101 q132 q1102 ⟨by decide, Nat.le_of_ble_eq_true rfl⟩ dJ19_add_40 rfl ?_
        have hab_31 := abI_cases (d)
        rw [show (abI d : Int) = ↑((abI d : Int).toNat) by omega]
        refine sw_callS (n := 46) F (ct_J19_add_2 (g := xg x) (l := xl x) M a n9 f9 ((abI d : Int).toNat) ha9 hw9 (by first | omega | assumption) (by first | omega | assumption)) q1103 q1104 q127 q1105 nd_J19_add_2 rfl (by decide) [1, 0] rfl [ob (xg x) q_30 16 [.int (jI 0), .null, .int (jI 0), .int (jI 0), .int (jI 0), .int (jI 0)]] rfl 0 1 ⟨by omega, by omega⟩ [.ref q_30, .ref q_30] rfl (Nat.le_of_ble_eq_true rfl) dJ19_add_43 rfl (fun _ _ h => h.elim) (fun v Ws h => ?_)
        obtain ⟨r1_32, n1_33, f1_34, rfl, hn1_35, hw1_36, hv1_37, rfl⟩ := h
        show SW x [aN (xg x) 0 r1_32 n1_33 f1_34, pl (xg x) M, ob (xg x) q_30 16 [.int (jI 0), .null, .int (jI 0), .int (jI 0), .int (jI 0), .int (jI 0)]] _ _ _ _ [.ref r1_32, .ref q_30, .ref q_30]
        refine sw_aload_n (n := 47) F 0 (some q) rfl rfl rfl dJ19_add_46 rfl ?_
        refine sw_getI (n := 50) F 1 rfl hx (k := 0) ⟨(RJ19, TJ19, 6), rfl, by decide, q1070, in_J19, Or.inl rfl⟩ (.int (jI (sgI v))) (fun _ _ _ _ => rfl) dJ19_add_47 rfl ?_
        have has := add_same (v := v) (w := d) (by omega)
        have hvs : wv f1_34 n1_33 = (v + d).natAbs := by omega
        have hp7 : 0 < n1_33 := wv_pos (f := f1_34) (by omega)
        refine sw_absA F (fun M_38 hle_39 hat_40 => ?_)
        show SW x [pl (xg x) M_38, ob (xg x) q_30 16 [.int (jI 0), .null, .int (jI 0), .int (jI 0), .int (jI 0), .int (jI 0)]] _ _ _ _ [.int (jI (sgI v)), .ref r1_32, .ref q_30, .ref q_30]
        refine sw_callI (n := 53) F (ct_J19_init_2 (g := xg x) (l := xl x) M_38 q_30 r1_32 n1_33 f1_34 (sgI v) hat_40 (by first | omega | assumption)) q1108 q1109 q127 q1110 rfl nd_J19_init_2 rfl (by decide) [1, 0] rfl [] rfl 0 1 ⟨by omega, by omega⟩ [.ref q_30] rfl (Nat.le_of_ble_eq_true rfl) dJ19_add_50 rfl (fun _ _ h => h.elim) (fun v Ws h => ?_)
        obtain ⟨rfl, rfl⟩ := h
        show SW x [ob (xg x) q_30 16 [.int (jI (sgI v)), .ref r1_32, .int (jI 0), .int (jI 0), .int (jI 0), .int (jI 0)], pl (xg x) M_38] _ _ _ _ [.ref q_30]
        refine SW.cast (Ps' := ob (xg x) q_30 16 (flI (v + d) r1_32 0 0 0 0) :: [pl (xg x) M_38]) ?_ (by first | (unfold flI; rw [has.2]) | (unfold flI; rw [show sgI (v + d) = 1 by omega]) | (unfold flI; rw [show sgI (v + d) = -1 by omega])) rfl rfl
        refine sw_absI F (Or.inr rfl) hat_40 hw1_36 hvs (fun M_41 hle_42 hat_43 => ?_)
        show SW x [pl (xg x) M_41] _ _ _ _ [.ref q_30]
        exact sw_aret F (some q_30) _ rfl rfl (by first | exact Or.inl ⟨_, rfl⟩ | exact Or.inr ⟨_, rfl⟩) dJ19_add_53 (by rw [hPo]; exact ⟨M_41, q_30, r1_32, rfl, (le_.tr hle_39 hle_42), hat_43, rfl⟩)
    ·
      refine sw_lload_n (n := 16) F 1 rfl rfl dJ19_add_15 rfl ?_
      refine sw_callS (n := 19) F (ct_J19_valueOf (g := xg x) (l := xl x) M d (by first | omega | assumption)) q1096 q1055 q127 q1056 nd_J19_valueOf rfl (by decide) [0] rfl [] rfl 1 12 ⟨by omega, by omega⟩ [] rfl (Nat.le_of_ble_eq_true rfl) dJ19_add_16 rfl (fun _ _ h => h.elim) (fun v Ws h => ?_)
      obtain ⟨M1_44, r1_45, a1_46, rfl, hle_47, hat_48, rfl⟩ := h
      show SW x [pl (xg x) M1_44] _ _ _ _ [.ref r1_45]
      exact sw_aret F (some r1_45) _ rfl rfl (by first | exact Or.inl ⟨_, rfl⟩ | exact Or.inr ⟨_, rfl⟩) dJ19_add_19 (by rw [hPo]; exact ⟨M1_44, r1_45, a1_46, rfl, hle_47, (by first | (rw [show v + d = v by omega]; assumption) | (rw [show v + d = d by omega]; assumption) | (rw [hdd.2.2 (cmpI_e c_61)]; assumption)), rfl⟩)
  ·
    have c_3 : d = 0 := by revert c_3; (repeat' split) <;> omega
    refine sw_aload_n (n := 7) F 0 (some q) rfl rfl rfl dJ19_add_6 rfl ?_
    exact sw_aret F (some q) _ rfl rfl (by first | exact Or.inl ⟨_, rfl⟩ | exact Or.inr ⟨_, rfl⟩) dJ19_add_7 (by rw [hPo]; exact ⟨M, q, a, rfl, le_.rf, (by first | (rw [show v + d = v by omega]; assumption) | (rw [show v + d = d by omega]; assumption) | (rw [hdd.2.2 (cmpI_e c_61)]; assumption)), rfl⟩)
