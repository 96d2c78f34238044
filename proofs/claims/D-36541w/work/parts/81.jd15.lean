set_option maxRecDepth 100000
def dkwJ8_setScale_0 : List UInt8 := [42, 27, 44, 180, 0, 103, 182, 1, 163, 176]
abbrev dktJ8_setScale_0 : List UInt8 := dkwJ8_setScale_0 ++ []
theorem dksJ8_setScale_0 : cJ8_setScale.data.toList.drop 0 = dktJ8_setScale_0 := by decide +kernel
theorem dJ8_setScale_0 : decode cJ8_setScale 0 = .ok (.aload_n 0, 1) := dk_42 (dk_at dksJ8_setScale_0 0 rfl rfl)
theorem dJ8_setScale_1 : decode cJ8_setScale 1 = .ok (.iload_n 1, 1) := dk_27 (dk_at dksJ8_setScale_0 1 rfl rfl)
theorem dJ8_setScale_2 : decode cJ8_setScale 2 = .ok (.aload_n 2, 1) := dk_44 (dk_at dksJ8_setScale_0 2 rfl rfl)
theorem dJ8_setScale_3 : decode cJ8_setScale 3 = .ok (.getfield 103, 3) := dk_180 0 103 (dk_at dksJ8_setScale_0 3 rfl rfl)
theorem dJ8_setScale_6 : decode cJ8_setScale 6 = .ok (.invokevirtual 419, 3) := dk_182 1 163 (dk_at dksJ8_setScale_0 6 rfl rfl)
theorem dJ8_setScale_9 : decode cJ8_setScale 9 = .ok (.areturn, 1) := dk_176 (dk_at dksJ8_setScale_0 9 rfl rfl)
def dkwJ8_setScale_2_12 : List UInt8 := [27, 28, 27, 184, 2, 106, 176, 42, 180, 0, 28, 21, 4, 184, 2, 97, 27, 28, 27, 184, 2, 100, 176]
abbrev dktJ8_setScale_2_12 : List UInt8 := dkwJ8_setScale_2_12 ++ []
def dkwJ8_setScale_2_11 : List UInt8 := [182, 1, 69, 54, 4, 21, 4, 178, 0, 95, 190, 162, 0, 20, 42, 180, 0, 28, 178, 0, 95, 21, 4, 47]
abbrev dktJ8_setScale_2_11 : List UInt8 := dkwJ8_setScale_2_11 ++ dktJ8_setScale_2_12
def dkwJ8_setScale_2_10 : List UInt8 := [158, 0, 13, 42, 180, 0, 21, 21, 4, 96, 167, 0, 4, 3, 183, 0, 243, 176, 42, 29, 133, 27, 133, 101]
abbrev dktJ8_setScale_2_10 : List UInt8 := dkwJ8_setScale_2_10 ++ dktJ8_setScale_2_11
def dkwJ8_setScale_2_9 : List UInt8 := [180, 0, 28, 21, 4, 184, 2, 103, 58, 5, 187, 0, 3, 89, 25, 5, 20, 0, 125, 27, 42, 180, 0, 21]
abbrev dktJ8_setScale_2_9 : List UInt8 := dkwJ8_setScale_2_9 ++ dktJ8_setScale_2_10
def dkwJ8_setScale_2_8 : List UInt8 := [27, 28, 27, 184, 2, 100, 176, 27, 29, 164, 0, 57, 42, 27, 133, 29, 133, 101, 182, 1, 69, 54, 4, 42]
abbrev dktJ8_setScale_2_8 : List UInt8 := dkwJ8_setScale_2_8 ++ dktJ8_setScale_2_9
def dkwJ8_setScale_2_7 : List UInt8 := [22, 4, 178, 0, 95, 21, 6, 47, 27, 28, 27, 184, 2, 94, 176, 42, 182, 1, 46, 21, 6, 184, 2, 97]
abbrev dktJ8_setScale_2_7 : List UInt8 := dkwJ8_setScale_2_7 ++ dktJ8_setScale_2_8
def dkwJ8_setScale_2_6 : List UInt8 := [183, 0, 243, 176, 42, 29, 133, 27, 133, 101, 182, 1, 69, 54, 6, 21, 6, 178, 0, 95, 190, 162, 0, 18]
abbrev dktJ8_setScale_2_6 : List UInt8 := dkwJ8_setScale_2_6 ++ dktJ8_setScale_2_7
def dkwJ8_setScale_2_5 : List UInt8 := [20, 0, 125, 27, 42, 180, 0, 21, 158, 0, 13, 42, 180, 0, 21, 21, 6, 96, 167, 0, 4, 3]
abbrev dktJ8_setScale_2_5 : List UInt8 := dkwJ8_setScale_2_5 ++ dktJ8_setScale_2_6
def dkwJ8_setScale_2_4 : List UInt8 := [153, 0, 10, 22, 4, 27, 184, 1, 72, 176, 42, 21, 6, 182, 2, 91, 58, 7, 187, 0, 3, 89, 25, 7]
abbrev dktJ8_setScale_2_4 : List UInt8 := dkwJ8_setScale_2_4 ++ dktJ8_setScale_2_5
def dkwJ8_setScale_2_3 : List UInt8 := [29, 133, 101, 182, 1, 69, 54, 6, 22, 4, 21, 6, 184, 2, 87, 92, 55, 4, 20, 0, 125, 148]
abbrev dktJ8_setScale_2_3 : List UInt8 := dkwJ8_setScale_2_3 ++ dktJ8_setScale_2_4
def dkwJ8_setScale_2_2 : List UInt8 := [180, 0, 24, 20, 0, 125, 148, 153, 0, 140, 42, 180, 0, 24, 55, 4, 27, 29, 164, 0, 78, 42, 27, 133]
abbrev dktJ8_setScale_2_2 : List UInt8 := dkwJ8_setScale_2_2 ++ dktJ8_setScale_2_3
def dkwJ8_setScale_2_1 : List UInt8 := [180, 0, 17, 62, 27, 29, 160, 0, 5, 42, 176, 42, 182, 1, 14, 154, 0, 8, 27, 184, 0, 239, 176, 42]
abbrev dktJ8_setScale_2_1 : List UInt8 := dkwJ8_setScale_2_1 ++ dktJ8_setScale_2_2
def dkwJ8_setScale_2_0 : List UInt8 := [28, 155, 0, 9, 28, 16, 7, 164, 0, 14, 187, 1, 107, 89, 19, 1, 109, 183, 1, 111, 191, 42]
abbrev dktJ8_setScale_2_0 : List UInt8 := dkwJ8_setScale_2_0 ++ dktJ8_setScale_2_1
theorem dksJ8_setScale_2_0 : cJ8_setScale_2.data.toList.drop 0 = dktJ8_setScale_2_0 := by decide +kernel
theorem dksJ8_setScale_2_1 : cJ8_setScale_2.data.toList.drop 22 = dktJ8_setScale_2_1 := dk_seg dksJ8_setScale_2_0 22 rfl rfl
theorem dksJ8_setScale_2_2 : cJ8_setScale_2.data.toList.drop 46 = dktJ8_setScale_2_2 := dk_seg dksJ8_setScale_2_1 24 rfl rfl
theorem dksJ8_setScale_2_3 : cJ8_setScale_2.data.toList.drop 70 = dktJ8_setScale_2_3 := dk_seg dksJ8_setScale_2_2 24 rfl rfl
theorem dksJ8_setScale_2_4 : cJ8_setScale_2.data.toList.drop 92 = dktJ8_setScale_2_4 := dk_seg dksJ8_setScale_2_3 22 rfl rfl
theorem dksJ8_setScale_2_5 : cJ8_setScale_2.data.toList.drop 116 = dktJ8_setScale_2_5 := dk_seg dksJ8_setScale_2_4 24 rfl rfl
theorem dksJ8_setScale_2_6 : cJ8_setScale_2.data.toList.drop 138 = dktJ8_setScale_2_6 := dk_seg dksJ8_setScale_2_5 22 rfl rfl
theorem dksJ8_setScale_2_7 : cJ8_setScale_2.data.toList.drop 162 = dktJ8_setScale_2_7 := dk_seg dksJ8_setScale_2_6 24 rfl rfl
theorem dksJ8_setScale_2_8 : cJ8_setScale_2.data.toList.drop 186 = dktJ8_setScale_2_8 := dk_seg dksJ8_setScale_2_7 24 rfl rfl
theorem dksJ8_setScale_2_9 : cJ8_setScale_2.data.toList.drop 210 = dktJ8_setScale_2_9 := dk_seg dksJ8_setScale_2_8 24 rfl rfl
theorem dksJ8_setScale_2_10 : cJ8_setScale_2.data.toList.drop 234 = dktJ8_setScale_2_10 := dk_seg dksJ8_setScale_2_9 24 rfl rfl
theorem dksJ8_setScale_2_11 : cJ8_setScale_2.data.toList.drop 258 = dktJ8_setScale_2_11 := dk_seg dksJ8_setScale_2_10 24 rfl rfl
theorem dksJ8_setScale_2_12 : cJ8_setScale_2.data.toList.drop 282 = dktJ8_setScale_2_12 := dk_seg dksJ8_setScale_2_11 24 rfl rfl
theorem dJ8_setScale_2_0 : decode cJ8_setScale_2 0 = .ok (.iload_n 2, 1) := dk_28 (dk_at dksJ8_setScale_2_0 0 rfl rfl)
theorem dJ8_setScale_2_1 : decode cJ8_setScale_2 1 = .ok (.ifCond .lt 9, 3) := dk_155 0 9 (dk_at dksJ8_setScale_2_0 1 rfl rfl)
theorem dJ8_setScale_2_4 : decode cJ8_setScale_2 4 = .ok (.iload_n 2, 1) := dk_28 (dk_at dksJ8_setScale_2_0 4 rfl rfl)
theorem dJ8_setScale_2_5 : decode cJ8_setScale_2 5 = .ok (.bipush 7, 2) := dk_16 7 (dk_at dksJ8_setScale_2_0 5 rfl rfl)
theorem dJ8_setScale_2_7 : decode cJ8_setScale_2 7 = .ok (.if_icmp .le 14, 3) := dk_164 0 14 (dk_at dksJ8_setScale_2_0 7 rfl rfl)
theorem dJ8_setScale_2_10 : decode cJ8_setScale_2 10 = .ok (.new 363, 3) := dk_187 1 107 (dk_at dksJ8_setScale_2_0 10 rfl rfl)
theorem dJ8_setScale_2_13 : decode cJ8_setScale_2 13 = .ok (.dup, 1) := dk_89 (dk_at dksJ8_setScale_2_0 13 rfl rfl)
theorem dJ8_setScale_2_14 : decode cJ8_setScale_2 14 = .ok (.ldc_w 365, 3) := dk_19 1 109 (dk_at dksJ8_setScale_2_0 14 rfl rfl)
theorem dJ8_setScale_2_17 : decode cJ8_setScale_2 17 = .ok (.invokespecial 367, 3) := dk_183 1 111 (dk_at dksJ8_setScale_2_0 17 rfl rfl)
theorem dJ8_setScale_2_20 : decode cJ8_setScale_2 20 = .ok (.athrow, 1) := dk_191 (dk_at dksJ8_setScale_2_0 20 rfl rfl)
theorem dJ8_setScale_2_21 : decode cJ8_setScale_2 21 = .ok (.aload_n 0, 1) := dk_42 (dk_at dksJ8_setScale_2_0 21 rfl rfl)
theorem dJ8_setScale_2_22 : decode cJ8_setScale_2 22 = .ok (.getfield 17, 3) := dk_180 0 17 (dk_at dksJ8_setScale_2_1 0 rfl rfl)
theorem dJ8_setScale_2_25 : decode cJ8_setScale_2 25 = .ok (.istore_n 3, 1) := dk_62 (dk_at dksJ8_setScale_2_1 3 rfl rfl)
theorem dJ8_setScale_2_26 : decode cJ8_setScale_2 26 = .ok (.iload_n 1, 1) := dk_27 (dk_at dksJ8_setScale_2_1 4 rfl rfl)
theorem dJ8_setScale_2_27 : decode cJ8_setScale_2 27 = .ok (.iload_n 3, 1) := dk_29 (dk_at dksJ8_setScale_2_1 5 rfl rfl)
theorem dJ8_setScale_2_28 : decode cJ8_setScale_2 28 = .ok (.if_icmp .ne 5, 3) := dk_160 0 5 (dk_at dksJ8_setScale_2_1 6 rfl rfl)
theorem dJ8_setScale_2_31 : decode cJ8_setScale_2 31 = .ok (.aload_n 0, 1) := dk_42 (dk_at dksJ8_setScale_2_1 9 rfl rfl)
theorem dJ8_setScale_2_32 : decode cJ8_setScale_2 32 = .ok (.areturn, 1) := dk_176 (dk_at dksJ8_setScale_2_1 10 rfl rfl)
theorem dJ8_setScale_2_33 : decode cJ8_setScale_2 33 = .ok (.aload_n 0, 1) := dk_42 (dk_at dksJ8_setScale_2_1 11 rfl rfl)
theorem dJ8_setScale_2_34 : decode cJ8_setScale_2 34 = .ok (.invokevirtual 270, 3) := dk_182 1 14 (dk_at dksJ8_setScale_2_1 12 rfl rfl)
theorem dJ8_setScale_2_37 : decode cJ8_setScale_2 37 = .ok (.ifCond .ne 8, 3) := dk_154 0 8 (dk_at dksJ8_setScale_2_1 15 rfl rfl)
theorem dJ8_setScale_2_40 : decode cJ8_setScale_2 40 = .ok (.iload_n 1, 1) := dk_27 (dk_at dksJ8_setScale_2_1 18 rfl rfl)
theorem dJ8_setScale_2_41 : decode cJ8_setScale_2 41 = .ok (.invokestatic 239, 3) := dk_184 0 239 (dk_at dksJ8_setScale_2_1 19 rfl rfl)
theorem dJ8_setScale_2_44 : decode cJ8_setScale_2 44 = .ok (.areturn, 1) := dk_176 (dk_at dksJ8_setScale_2_1 22 rfl rfl)
theorem dJ8_setScale_2_45 : decode cJ8_setScale_2 45 = .ok (.aload_n 0, 1) := dk_42 (dk_at dksJ8_setScale_2_1 23 rfl rfl)
theorem dJ8_setScale_2_46 : decode cJ8_setScale_2 46 = .ok (.getfield 24, 3) := dk_180 0 24 (dk_at dksJ8_setScale_2_2 0 rfl rfl)
theorem dJ8_setScale_2_49 : decode cJ8_setScale_2 49 = .ok (.ldc2_w 125, 3) := dk_20 0 125 (dk_at dksJ8_setScale_2_2 3 rfl rfl)
theorem dJ8_setScale_2_52 : decode cJ8_setScale_2 52 = .ok (.lcmp, 1) := dk_148 (dk_at dksJ8_setScale_2_2 6 rfl rfl)
theorem dJ8_setScale_2_53 : decode cJ8_setScale_2 53 = .ok (.ifCond .eq 140, 3) := dk_153 0 140 (dk_at dksJ8_setScale_2_2 7 rfl rfl)
theorem dJ8_setScale_2_56 : decode cJ8_setScale_2 56 = .ok (.aload_n 0, 1) := dk_42 (dk_at dksJ8_setScale_2_2 10 rfl rfl)
theorem dJ8_setScale_2_57 : decode cJ8_setScale_2 57 = .ok (.getfield 24, 3) := dk_180 0 24 (dk_at dksJ8_setScale_2_2 11 rfl rfl)
theorem dJ8_setScale_2_60 : decode cJ8_setScale_2 60 = .ok (.lstore 4, 2) := dk_55 4 (dk_at dksJ8_setScale_2_2 14 rfl rfl)
theorem dJ8_setScale_2_62 : decode cJ8_setScale_2 62 = .ok (.iload_n 1, 1) := dk_27 (dk_at dksJ8_setScale_2_2 16 rfl rfl)
theorem dJ8_setScale_2_63 : decode cJ8_setScale_2 63 = .ok (.iload_n 3, 1) := dk_29 (dk_at dksJ8_setScale_2_2 17 rfl rfl)
theorem dJ8_setScale_2_64 : decode cJ8_setScale_2 64 = .ok (.if_icmp .le 78, 3) := dk_164 0 78 (dk_at dksJ8_setScale_2_2 18 rfl rfl)
theorem dJ8_setScale_2_67 : decode cJ8_setScale_2 67 = .ok (.aload_n 0, 1) := dk_42 (dk_at dksJ8_setScale_2_2 21 rfl rfl)
theorem dJ8_setScale_2_68 : decode cJ8_setScale_2 68 = .ok (.iload_n 1, 1) := dk_27 (dk_at dksJ8_setScale_2_2 22 rfl rfl)
theorem dJ8_setScale_2_69 : decode cJ8_setScale_2 69 = .ok (.i2l, 1) := dk_133 (dk_at dksJ8_setScale_2_2 23 rfl rfl)
theorem dJ8_setScale_2_70 : decode cJ8_setScale_2 70 = .ok (.iload_n 3, 1) := dk_29 (dk_at dksJ8_setScale_2_3 0 rfl rfl)
theorem dJ8_setScale_2_71 : decode cJ8_setScale_2 71 = .ok (.i2l, 1) := dk_133 (dk_at dksJ8_setScale_2_3 1 rfl rfl)
theorem dJ8_setScale_2_72 : decode cJ8_setScale_2 72 = .ok (.lsub, 1) := dk_101 (dk_at dksJ8_setScale_2_3 2 rfl rfl)
theorem dJ8_setScale_2_73 : decode cJ8_setScale_2 73 = .ok (.invokevirtual 325, 3) := dk_182 1 69 (dk_at dksJ8_setScale_2_3 3 rfl rfl)
theorem dJ8_setScale_2_76 : decode cJ8_setScale_2 76 = .ok (.istore 6, 2) := dk_54 6 (dk_at dksJ8_setScale_2_3 6 rfl rfl)
theorem dJ8_setScale_2_78 : decode cJ8_setScale_2 78 = .ok (.lload 4, 2) := dk_22 4 (dk_at dksJ8_setScale_2_3 8 rfl rfl)
theorem dJ8_setScale_2_80 : decode cJ8_setScale_2 80 = .ok (.iload 6, 2) := dk_21 6 (dk_at dksJ8_setScale_2_3 10 rfl rfl)
theorem dJ8_setScale_2_82 : decode cJ8_setScale_2 82 = .ok (.invokestatic 599, 3) := dk_184 2 87 (dk_at dksJ8_setScale_2_3 12 rfl rfl)
theorem dJ8_setScale_2_85 : decode cJ8_setScale_2 85 = .ok (.dup2, 1) := dk_92 (dk_at dksJ8_setScale_2_3 15 rfl rfl)
theorem dJ8_setScale_2_86 : decode cJ8_setScale_2 86 = .ok (.lstore 4, 2) := dk_55 4 (dk_at dksJ8_setScale_2_3 16 rfl rfl)
theorem dJ8_setScale_2_88 : decode cJ8_setScale_2 88 = .ok (.ldc2_w 125, 3) := dk_20 0 125 (dk_at dksJ8_setScale_2_3 18 rfl rfl)
theorem dJ8_setScale_2_91 : decode cJ8_setScale_2 91 = .ok (.lcmp, 1) := dk_148 (dk_at dksJ8_setScale_2_3 21 rfl rfl)
theorem dJ8_setScale_2_92 : decode cJ8_setScale_2 92 = .ok (.ifCond .eq 10, 3) := dk_153 0 10 (dk_at dksJ8_setScale_2_4 0 rfl rfl)
theorem dJ8_setScale_2_95 : decode cJ8_setScale_2 95 = .ok (.lload 4, 2) := dk_22 4 (dk_at dksJ8_setScale_2_4 3 rfl rfl)
theorem dJ8_setScale_2_97 : decode cJ8_setScale_2 97 = .ok (.iload_n 1, 1) := dk_27 (dk_at dksJ8_setScale_2_4 5 rfl rfl)
theorem dJ8_setScale_2_98 : decode cJ8_setScale_2 98 = .ok (.invokestatic 328, 3) := dk_184 1 72 (dk_at dksJ8_setScale_2_4 6 rfl rfl)
theorem dJ8_setScale_2_101 : decode cJ8_setScale_2 101 = .ok (.areturn, 1) := dk_176 (dk_at dksJ8_setScale_2_4 9 rfl rfl)
theorem dJ8_setScale_2_102 : decode cJ8_setScale_2 102 = .ok (.aload_n 0, 1) := dk_42 (dk_at dksJ8_setScale_2_4 10 rfl rfl)
theorem dJ8_setScale_2_103 : decode cJ8_setScale_2 103 = .ok (.iload 6, 2) := dk_21 6 (dk_at dksJ8_setScale_2_4 11 rfl rfl)
theorem dJ8_setScale_2_105 : decode cJ8_setScale_2 105 = .ok (.invokevirtual 603, 3) := dk_182 2 91 (dk_at dksJ8_setScale_2_4 13 rfl rfl)
theorem dJ8_setScale_2_108 : decode cJ8_setScale_2 108 = .ok (.astore 7, 2) := dk_58 7 (dk_at dksJ8_setScale_2_4 16 rfl rfl)
theorem dJ8_setScale_2_110 : decode cJ8_setScale_2 110 = .ok (.new 3, 3) := dk_187 0 3 (dk_at dksJ8_setScale_2_4 18 rfl rfl)
theorem dJ8_setScale_2_113 : decode cJ8_setScale_2 113 = .ok (.dup, 1) := dk_89 (dk_at dksJ8_setScale_2_4 21 rfl rfl)
theorem dJ8_setScale_2_114 : decode cJ8_setScale_2 114 = .ok (.aload 7, 2) := dk_25 7 (dk_at dksJ8_setScale_2_4 22 rfl rfl)
theorem dJ8_setScale_2_116 : decode cJ8_setScale_2 116 = .ok (.ldc2_w 125, 3) := dk_20 0 125 (dk_at dksJ8_setScale_2_5 0 rfl rfl)
theorem dJ8_setScale_2_119 : decode cJ8_setScale_2 119 = .ok (.iload_n 1, 1) := dk_27 (dk_at dksJ8_setScale_2_5 3 rfl rfl)
theorem dJ8_setScale_2_120 : decode cJ8_setScale_2 120 = .ok (.aload_n 0, 1) := dk_42 (dk_at dksJ8_setScale_2_5 4 rfl rfl)
theorem dJ8_setScale_2_121 : decode cJ8_setScale_2 121 = .ok (.getfield 21, 3) := dk_180 0 21 (dk_at dksJ8_setScale_2_5 5 rfl rfl)
theorem dJ8_setScale_2_124 : decode cJ8_setScale_2 124 = .ok (.ifCond .le 13, 3) := dk_158 0 13 (dk_at dksJ8_setScale_2_5 8 rfl rfl)
theorem dJ8_setScale_2_127 : decode cJ8_setScale_2 127 = .ok (.aload_n 0, 1) := dk_42 (dk_at dksJ8_setScale_2_5 11 rfl rfl)
theorem dJ8_setScale_2_128 : decode cJ8_setScale_2 128 = .ok (.getfield 21, 3) := dk_180 0 21 (dk_at dksJ8_setScale_2_5 12 rfl rfl)
theorem dJ8_setScale_2_131 : decode cJ8_setScale_2 131 = .ok (.iload 6, 2) := dk_21 6 (dk_at dksJ8_setScale_2_5 15 rfl rfl)
theorem dJ8_setScale_2_133 : decode cJ8_setScale_2 133 = .ok (.iadd, 1) := dk_96 (dk_at dksJ8_setScale_2_5 17 rfl rfl)
theorem dJ8_setScale_2_134 : decode cJ8_setScale_2 134 = .ok (.goto 4, 3) := dk_167 0 4 (dk_at dksJ8_setScale_2_5 18 rfl rfl)
theorem dJ8_setScale_2_137 : decode cJ8_setScale_2 137 = .ok (.iconst 0, 1) := dk_3 (dk_at dksJ8_setScale_2_5 21 rfl rfl)
theorem dJ8_setScale_2_138 : decode cJ8_setScale_2 138 = .ok (.invokespecial 243, 3) := dk_183 0 243 (dk_at dksJ8_setScale_2_6 0 rfl rfl)
theorem dJ8_setScale_2_141 : decode cJ8_setScale_2 141 = .ok (.areturn, 1) := dk_176 (dk_at dksJ8_setScale_2_6 3 rfl rfl)
theorem dJ8_setScale_2_142 : decode cJ8_setScale_2 142 = .ok (.aload_n 0, 1) := dk_42 (dk_at dksJ8_setScale_2_6 4 rfl rfl)
theorem dJ8_setScale_2_143 : decode cJ8_setScale_2 143 = .ok (.iload_n 3, 1) := dk_29 (dk_at dksJ8_setScale_2_6 5 rfl rfl)
theorem dJ8_setScale_2_144 : decode cJ8_setScale_2 144 = .ok (.i2l, 1) := dk_133 (dk_at dksJ8_setScale_2_6 6 rfl rfl)
theorem dJ8_setScale_2_145 : decode cJ8_setScale_2 145 = .ok (.iload_n 1, 1) := dk_27 (dk_at dksJ8_setScale_2_6 7 rfl rfl)
theorem dJ8_setScale_2_146 : decode cJ8_setScale_2 146 = .ok (.i2l, 1) := dk_133 (dk_at dksJ8_setScale_2_6 8 rfl rfl)
theorem dJ8_setScale_2_147 : decode cJ8_setScale_2 147 = .ok (.lsub, 1) := dk_101 (dk_at dksJ8_setScale_2_6 9 rfl rfl)
theorem dJ8_setScale_2_148 : decode cJ8_setScale_2 148 = .ok (.invokevirtual 325, 3) := dk_182 1 69 (dk_at dksJ8_setScale_2_6 10 rfl rfl)
theorem dJ8_setScale_2_151 : decode cJ8_setScale_2 151 = .ok (.istore 6, 2) := dk_54 6 (dk_at dksJ8_setScale_2_6 13 rfl rfl)
theorem dJ8_setScale_2_153 : decode cJ8_setScale_2 153 = .ok (.iload 6, 2) := dk_21 6 (dk_at dksJ8_setScale_2_6 15 rfl rfl)
theorem dJ8_setScale_2_155 : decode cJ8_setScale_2 155 = .ok (.getstatic 95, 3) := dk_178 0 95 (dk_at dksJ8_setScale_2_6 17 rfl rfl)
theorem dJ8_setScale_2_158 : decode cJ8_setScale_2 158 = .ok (.arraylength, 1) := dk_190 (dk_at dksJ8_setScale_2_6 20 rfl rfl)
theorem dJ8_setScale_2_159 : decode cJ8_setScale_2 159 = .ok (.if_icmp .ge 18, 3) := dk_162 0 18 (dk_at dksJ8_setScale_2_6 21 rfl rfl)
theorem dJ8_setScale_2_162 : decode cJ8_setScale_2 162 = .ok (.lload 4, 2) := dk_22 4 (dk_at dksJ8_setScale_2_7 0 rfl rfl)
theorem dJ8_setScale_2_164 : decode cJ8_setScale_2 164 = .ok (.getstatic 95, 3) := dk_178 0 95 (dk_at dksJ8_setScale_2_7 2 rfl rfl)
theorem dJ8_setScale_2_167 : decode cJ8_setScale_2 167 = .ok (.iload 6, 2) := dk_21 6 (dk_at dksJ8_setScale_2_7 5 rfl rfl)
theorem dJ8_setScale_2_169 : decode cJ8_setScale_2 169 = .ok (.laload, 1) := dk_47 (dk_at dksJ8_setScale_2_7 7 rfl rfl)
theorem dJ8_setScale_2_170 : decode cJ8_setScale_2 170 = .ok (.iload_n 1, 1) := dk_27 (dk_at dksJ8_setScale_2_7 8 rfl rfl)
theorem dJ8_setScale_2_171 : decode cJ8_setScale_2 171 = .ok (.iload_n 2, 1) := dk_28 (dk_at dksJ8_setScale_2_7 9 rfl rfl)
theorem dJ8_setScale_2_172 : decode cJ8_setScale_2 172 = .ok (.iload_n 1, 1) := dk_27 (dk_at dksJ8_setScale_2_7 10 rfl rfl)
theorem dJ8_setScale_2_173 : decode cJ8_setScale_2 173 = .ok (.invokestatic 606, 3) := dk_184 2 94 (dk_at dksJ8_setScale_2_7 11 rfl rfl)
theorem dJ8_setScale_2_176 : decode cJ8_setScale_2 176 = .ok (.areturn, 1) := dk_176 (dk_at dksJ8_setScale_2_7 14 rfl rfl)
theorem dJ8_setScale_2_177 : decode cJ8_setScale_2 177 = .ok (.aload_n 0, 1) := dk_42 (dk_at dksJ8_setScale_2_7 15 rfl rfl)
theorem dJ8_setScale_2_178 : decode cJ8_setScale_2 178 = .ok (.invokevirtual 302, 3) := dk_182 1 46 (dk_at dksJ8_setScale_2_7 16 rfl rfl)
theorem dJ8_setScale_2_181 : decode cJ8_setScale_2 181 = .ok (.iload 6, 2) := dk_21 6 (dk_at dksJ8_setScale_2_7 19 rfl rfl)
theorem dJ8_setScale_2_183 : decode cJ8_setScale_2 183 = .ok (.invokestatic 609, 3) := dk_184 2 97 (dk_at dksJ8_setScale_2_7 21 rfl rfl)
theorem dJ8_setScale_2_186 : decode cJ8_setScale_2 186 = .ok (.iload_n 1, 1) := dk_27 (dk_at dksJ8_setScale_2_8 0 rfl rfl)
theorem dJ8_setScale_2_187 : decode cJ8_setScale_2 187 = .ok (.iload_n 2, 1) := dk_28 (dk_at dksJ8_setScale_2_8 1 rfl rfl)
theorem dJ8_setScale_2_188 : decode cJ8_setScale_2 188 = .ok (.iload_n 1, 1) := dk_27 (dk_at dksJ8_setScale_2_8 2 rfl rfl)
theorem dJ8_setScale_2_189 : decode cJ8_setScale_2 189 = .ok (.invokestatic 612, 3) := dk_184 2 100 (dk_at dksJ8_setScale_2_8 3 rfl rfl)
theorem dJ8_setScale_2_192 : decode cJ8_setScale_2 192 = .ok (.areturn, 1) := dk_176 (dk_at dksJ8_setScale_2_8 6 rfl rfl)
theorem dJ8_setScale_2_193 : decode cJ8_setScale_2 193 = .ok (.iload_n 1, 1) := dk_27 (dk_at dksJ8_setScale_2_8 7 rfl rfl)
theorem dJ8_setScale_2_194 : decode cJ8_setScale_2 194 = .ok (.iload_n 3, 1) := dk_29 (dk_at dksJ8_setScale_2_8 8 rfl rfl)
theorem dJ8_setScale_2_195 : decode cJ8_setScale_2 195 = .ok (.if_icmp .le 57, 3) := dk_164 0 57 (dk_at dksJ8_setScale_2_8 9 rfl rfl)
theorem dJ8_setScale_2_198 : decode cJ8_setScale_2 198 = .ok (.aload_n 0, 1) := dk_42 (dk_at dksJ8_setScale_2_8 12 rfl rfl)
theorem dJ8_setScale_2_199 : decode cJ8_setScale_2 199 = .ok (.iload_n 1, 1) := dk_27 (dk_at dksJ8_setScale_2_8 13 rfl rfl)
theorem dJ8_setScale_2_200 : decode cJ8_setScale_2 200 = .ok (.i2l, 1) := dk_133 (dk_at dksJ8_setScale_2_8 14 rfl rfl)
theorem dJ8_setScale_2_201 : decode cJ8_setScale_2 201 = .ok (.iload_n 3, 1) := dk_29 (dk_at dksJ8_setScale_2_8 15 rfl rfl)
theorem dJ8_setScale_2_202 : decode cJ8_setScale_2 202 = .ok (.i2l, 1) := dk_133 (dk_at dksJ8_setScale_2_8 16 rfl rfl)
theorem dJ8_setScale_2_203 : decode cJ8_setScale_2 203 = .ok (.lsub, 1) := dk_101 (dk_at dksJ8_setScale_2_8 17 rfl rfl)
theorem dJ8_setScale_2_204 : decode cJ8_setScale_2 204 = .ok (.invokevirtual 325, 3) := dk_182 1 69 (dk_at dksJ8_setScale_2_8 18 rfl rfl)
theorem dJ8_setScale_2_207 : decode cJ8_setScale_2 207 = .ok (.istore 4, 2) := dk_54 4 (dk_at dksJ8_setScale_2_8 21 rfl rfl)
theorem dJ8_setScale_2_209 : decode cJ8_setScale_2 209 = .ok (.aload_n 0, 1) := dk_42 (dk_at dksJ8_setScale_2_8 23 rfl rfl)
theorem dJ8_setScale_2_210 : decode cJ8_setScale_2 210 = .ok (.getfield 28, 3) := dk_180 0 28 (dk_at dksJ8_setScale_2_9 0 rfl rfl)
theorem dJ8_setScale_2_213 : decode cJ8_setScale_2 213 = .ok (.iload 4, 2) := dk_21 4 (dk_at dksJ8_setScale_2_9 3 rfl rfl)
theorem dJ8_setScale_2_215 : decode cJ8_setScale_2 215 = .ok (.invokestatic 615, 3) := dk_184 2 103 (dk_at dksJ8_setScale_2_9 5 rfl rfl)
theorem dJ8_setScale_2_218 : decode cJ8_setScale_2 218 = .ok (.astore 5, 2) := dk_58 5 (dk_at dksJ8_setScale_2_9 8 rfl rfl)
theorem dJ8_setScale_2_220 : decode cJ8_setScale_2 220 = .ok (.new 3, 3) := dk_187 0 3 (dk_at dksJ8_setScale_2_9 10 rfl rfl)
theorem dJ8_setScale_2_223 : decode cJ8_setScale_2 223 = .ok (.dup, 1) := dk_89 (dk_at dksJ8_setScale_2_9 13 rfl rfl)
theorem dJ8_setScale_2_224 : decode cJ8_setScale_2 224 = .ok (.aload 5, 2) := dk_25 5 (dk_at dksJ8_setScale_2_9 14 rfl rfl)
theorem dJ8_setScale_2_226 : decode cJ8_setScale_2 226 = .ok (.ldc2_w 125, 3) := dk_20 0 125 (dk_at dksJ8_setScale_2_9 16 rfl rfl)
theorem dJ8_setScale_2_229 : decode cJ8_setScale_2 229 = .ok (.iload_n 1, 1) := dk_27 (dk_at dksJ8_setScale_2_9 19 rfl rfl)
theorem dJ8_setScale_2_230 : decode cJ8_setScale_2 230 = .ok (.aload_n 0, 1) := dk_42 (dk_at dksJ8_setScale_2_9 20 rfl rfl)
theorem dJ8_setScale_2_231 : decode cJ8_setScale_2 231 = .ok (.getfield 21, 3) := dk_180 0 21 (dk_at dksJ8_setScale_2_9 21 rfl rfl)
theorem dJ8_setScale_2_234 : decode cJ8_setScale_2 234 = .ok (.ifCond .le 13, 3) := dk_158 0 13 (dk_at dksJ8_setScale_2_10 0 rfl rfl)
theorem dJ8_setScale_2_237 : decode cJ8_setScale_2 237 = .ok (.aload_n 0, 1) := dk_42 (dk_at dksJ8_setScale_2_10 3 rfl rfl)
theorem dJ8_setScale_2_238 : decode cJ8_setScale_2 238 = .ok (.getfield 21, 3) := dk_180 0 21 (dk_at dksJ8_setScale_2_10 4 rfl rfl)
theorem dJ8_setScale_2_241 : decode cJ8_setScale_2 241 = .ok (.iload 4, 2) := dk_21 4 (dk_at dksJ8_setScale_2_10 7 rfl rfl)
theorem dJ8_setScale_2_243 : decode cJ8_setScale_2 243 = .ok (.iadd, 1) := dk_96 (dk_at dksJ8_setScale_2_10 9 rfl rfl)
theorem dJ8_setScale_2_244 : decode cJ8_setScale_2 244 = .ok (.goto 4, 3) := dk_167 0 4 (dk_at dksJ8_setScale_2_10 10 rfl rfl)
theorem dJ8_setScale_2_247 : decode cJ8_setScale_2 247 = .ok (.iconst 0, 1) := dk_3 (dk_at dksJ8_setScale_2_10 13 rfl rfl)
theorem dJ8_setScale_2_248 : decode cJ8_setScale_2 248 = .ok (.invokespecial 243, 3) := dk_183 0 243 (dk_at dksJ8_setScale_2_10 14 rfl rfl)
theorem dJ8_setScale_2_251 : decode cJ8_setScale_2 251 = .ok (.areturn, 1) := dk_176 (dk_at dksJ8_setScale_2_10 17 rfl rfl)
theorem dJ8_setScale_2_252 : decode cJ8_setScale_2 252 = .ok (.aload_n 0, 1) := dk_42 (dk_at dksJ8_setScale_2_10 18 rfl rfl)
theorem dJ8_setScale_2_253 : decode cJ8_setScale_2 253 = .ok (.iload_n 3, 1) := dk_29 (dk_at dksJ8_setScale_2_10 19 rfl rfl)
theorem dJ8_setScale_2_254 : decode cJ8_setScale_2 254 = .ok (.i2l, 1) := dk_133 (dk_at dksJ8_setScale_2_10 20 rfl rfl)
theorem dJ8_setScale_2_255 : decode cJ8_setScale_2 255 = .ok (.iload_n 1, 1) := dk_27 (dk_at dksJ8_setScale_2_10 21 rfl rfl)
theorem dJ8_setScale_2_256 : decode cJ8_setScale_2 256 = .ok (.i2l, 1) := dk_133 (dk_at dksJ8_setScale_2_10 22 rfl rfl)
theorem dJ8_setScale_2_257 : decode cJ8_setScale_2 257 = .ok (.lsub, 1) := dk_101 (dk_at dksJ8_setScale_2_10 23 rfl rfl)
theorem dJ8_setScale_2_258 : decode cJ8_setScale_2 258 = .ok (.invokevirtual 325, 3) := dk_182 1 69 (dk_at dksJ8_setScale_2_11 0 rfl rfl)
theorem dJ8_setScale_2_261 : decode cJ8_setScale_2 261 = .ok (.istore 4, 2) := dk_54 4 (dk_at dksJ8_setScale_2_11 3 rfl rfl)
theorem dJ8_setScale_2_263 : decode cJ8_setScale_2 263 = .ok (.iload 4, 2) := dk_21 4 (dk_at dksJ8_setScale_2_11 5 rfl rfl)
theorem dJ8_setScale_2_265 : decode cJ8_setScale_2 265 = .ok (.getstatic 95, 3) := dk_178 0 95 (dk_at dksJ8_setScale_2_11 7 rfl rfl)
theorem dJ8_setScale_2_268 : decode cJ8_setScale_2 268 = .ok (.arraylength, 1) := dk_190 (dk_at dksJ8_setScale_2_11 10 rfl rfl)
theorem dJ8_setScale_2_269 : decode cJ8_setScale_2 269 = .ok (.if_icmp .ge 20, 3) := dk_162 0 20 (dk_at dksJ8_setScale_2_11 11 rfl rfl)
theorem dJ8_setScale_2_272 : decode cJ8_setScale_2 272 = .ok (.aload_n 0, 1) := dk_42 (dk_at dksJ8_setScale_2_11 14 rfl rfl)
theorem dJ8_setScale_2_273 : decode cJ8_setScale_2 273 = .ok (.getfield 28, 3) := dk_180 0 28 (dk_at dksJ8_setScale_2_11 15 rfl rfl)
theorem dJ8_setScale_2_276 : decode cJ8_setScale_2 276 = .ok (.getstatic 95, 3) := dk_178 0 95 (dk_at dksJ8_setScale_2_11 18 rfl rfl)
theorem dJ8_setScale_2_279 : decode cJ8_setScale_2 279 = .ok (.iload 4, 2) := dk_21 4 (dk_at dksJ8_setScale_2_11 21 rfl rfl)
theorem dJ8_setScale_2_281 : decode cJ8_setScale_2 281 = .ok (.laload, 1) := dk_47 (dk_at dksJ8_setScale_2_11 23 rfl rfl)
theorem dJ8_setScale_2_282 : decode cJ8_setScale_2 282 = .ok (.iload_n 1, 1) := dk_27 (dk_at dksJ8_setScale_2_12 0 rfl rfl)
theorem dJ8_setScale_2_283 : decode cJ8_setScale_2 283 = .ok (.iload_n 2, 1) := dk_28 (dk_at dksJ8_setScale_2_12 1 rfl rfl)
theorem dJ8_setScale_2_284 : decode cJ8_setScale_2 284 = .ok (.iload_n 1, 1) := dk_27 (dk_at dksJ8_setScale_2_12 2 rfl rfl)
theorem dJ8_setScale_2_285 : decode cJ8_setScale_2 285 = .ok (.invokestatic 618, 3) := dk_184 2 106 (dk_at dksJ8_setScale_2_12 3 rfl rfl)
theorem dJ8_setScale_2_288 : decode cJ8_setScale_2 288 = .ok (.areturn, 1) := dk_176 (dk_at dksJ8_setScale_2_12 6 rfl rfl)
theorem dJ8_setScale_2_289 : decode cJ8_setScale_2 289 = .ok (.aload_n 0, 1) := dk_42 (dk_at dksJ8_setScale_2_12 7 rfl rfl)
theorem dJ8_setScale_2_290 : decode cJ8_setScale_2 290 = .ok (.getfield 28, 3) := dk_180 0 28 (dk_at dksJ8_setScale_2_12 8 rfl rfl)
theorem dJ8_setScale_2_293 : decode cJ8_setScale_2 293 = .ok (.iload 4, 2) := dk_21 4 (dk_at dksJ8_setScale_2_12 11 rfl rfl)
theorem dJ8_setScale_2_295 : decode cJ8_setScale_2 295 = .ok (.invokestatic 609, 3) := dk_184 2 97 (dk_at dksJ8_setScale_2_12 13 rfl rfl)
theorem dJ8_setScale_2_298 : decode cJ8_setScale_2 298 = .ok (.iload_n 1, 1) := dk_27 (dk_at dksJ8_setScale_2_12 16 rfl rfl)
theorem dJ8_setScale_2_299 : decode cJ8_setScale_2 299 = .ok (.iload_n 2, 1) := dk_28 (dk_at dksJ8_setScale_2_12 17 rfl rfl)
theorem dJ8_setScale_2_300 : decode cJ8_setScale_2 300 = .ok (.iload_n 1, 1) := dk_27 (dk_at dksJ8_setScale_2_12 18 rfl rfl)
theorem dJ8_setScale_2_301 : decode cJ8_setScale_2 301 = .ok (.invokestatic 612, 3) := dk_184 2 100 (dk_at dksJ8_setScale_2_12 19 rfl rfl)
theorem dJ8_setScale_2_304 : decode cJ8_setScale_2 304 = .ok (.areturn, 1) := dk_176 (dk_at dksJ8_setScale_2_12 22 rfl rfl)
def dkwJ8_setScale_3_0 : List UInt8 := [42, 27, 16, 7, 182, 1, 163, 176]
abbrev dktJ8_setScale_3_0 : List UInt8 := dkwJ8_setScale_3_0 ++ []
theorem dksJ8_setScale_3_0 : cJ8_setScale_3.data.toList.drop 0 = dktJ8_setScale_3_0 := by decide +kernel
theorem dJ8_setScale_3_0 : decode cJ8_setScale_3 0 = .ok (.aload_n 0, 1) := dk_42 (dk_at dksJ8_setScale_3_0 0 rfl rfl)
theorem dJ8_setScale_3_1 : decode cJ8_setScale_3 1 = .ok (.iload_n 1, 1) := dk_27 (dk_at dksJ8_setScale_3_0 1 rfl rfl)
theorem dJ8_setScale_3_2 : decode cJ8_setScale_3 2 = .ok (.bipush 7, 2) := dk_16 7 (dk_at dksJ8_setScale_3_0 2 rfl rfl)
theorem dJ8_setScale_3_4 : decode cJ8_setScale_3 4 = .ok (.invokevirtual 419, 3) := dk_182 1 163 (dk_at dksJ8_setScale_3_0 4 rfl rfl)
theorem dJ8_setScale_3_7 : decode cJ8_setScale_3 7 = .ok (.areturn, 1) := dk_176 (dk_at dksJ8_setScale_3_0 7 rfl rfl)
section TKD
variable {x : EX} {y : MethodName} {cc : ByteArray} {ret : Option FieldType} {nL fr lo : Nat} {tab : List ExceptionTableEntry} {Ps : List HP} {bc bs pc n : Nat} {L : List (Nat × Value)} {st : List Value} {M : Nat → Option PV} {q : Nat}
theorem sw_takeDp {u s : Int} {o : Option Nat} {Rs : List HP} (hg : gB (xg x) ≤ q) (hx : at_ (xg x) M q (vD u s o)) (kk : ∀ p : Int, (p = dgc u.natAbs ∨ p = 0) → SW x (ob (xg x) q 13 (flD u s o p) :: plH (xg x) M q :: Rs) bc bs pc L st) : SW x (pl (xg x) M :: Rs) bc bs pc L st := by
  rcases hx with ⟨-, hM⟩ | hC
  · intro H locs h uc us ls I hL
    obtain ⟨hs, hS, hAA, hV, i1, i2⟩ := I
    obtain ⟨a, b, hd, rfl, hp, hR⟩ := hs
    obtain ⟨c, b1, hd1, rfl, ⟨⟨p, hpp, hc⟩, -⟩, hH⟩ := pl_take hp hM
    obtain ⟨hd2, hd3⟩ := ph_U_D.mp hd
    exact kk p hpp H locs _ uc us ls ⟨⟨_, _, ph_D_U.mpr ⟨hd1, hd2⟩, (ph_U_assoc), ⟨c, rfl, hc⟩, _, _, hd3, rfl, hH, hR⟩, hS, hAA, hV, i1, i2⟩ hL
  · exact absurd hC.lt (by omega)
end TKD
def ssV (u s n m : Int) : Int := if s ≤ n then u * tn (n - s) else rdV u (tn (s - n)) m
def ssF (u s n m : Int) : Bool := if s ≤ n then false else rdF u (tn (s - n)) m
theorem ss_e {u s n m : Int} (h : n = s) : ssV u s n m = u ∧ ssF u s n m = false := by
  unfold ssV ssF; rw [if_pos (by omega), if_pos (by omega), tn_0 (by omega), Int.mul_one]; exact ⟨rfl, rfl⟩
theorem ss_u {u s n m : Int} (h : s < n) : ssV u s n m = u * tn (n - s) ∧ ssF u s n m = false := by
  unfold ssV ssF; rw [if_pos (by omega), if_pos (by omega)]; exact ⟨rfl, rfl⟩
theorem ss_d {u s n m : Int} (h : n < s) : ssV u s n m = rdV u (tn (s - n)) m ∧ ssF u s n m = rdF u (tn (s - n)) m := by
  unfold ssV ssF; rw [if_neg (by omega), if_neg (by omega)]; exact ⟨rfl, rfl⟩
theorem rd_z (d m : Int) : rdV 0 d m = 0 ∧ rdF 0 d m = false := by
  unfold rdV rdF
  have h : (0 : Int).natAbs % d.natAbs = 0 := by show 0 % _ = 0; exact Nat.zero_mod _
  have h2 : (0 : Int).natAbs / d.natAbs = 0 := by show 0 / _ = 0; exact Nat.zero_div _
  rw [rnd_0 h, h2]
  refine ⟨?_, by simp [rfd, h]⟩
  unfold sgn; split <;> rfl
theorem ss_z {s n m : Int} : ssV 0 s n m = 0 ∧ ssF 0 s n m = false := by
  unfold ssV ssF
  split
  · exact ⟨Int.zero_mul _, rfl⟩
  · exact rd_z _ _
theorem dgc_m10 {a : Nat} (h : a ≠ 0) : dgc (a * 10) = dgc a + 1 := by
  rw [dgc, if_neg (by omega), Nat.mul_div_cancel _ (by decide)]
theorem dgc_mp {a : Nat} (h : a ≠ 0) : ∀ k, dgc (a * 10 ^ k) = dgc a + k := by
  intro k
  induction k with
  | zero => rw [Nat.pow_zero, Nat.mul_one]; rfl
  | succ k ih =>
    have hp : 0 < 10 ^ k := Nat.pow_pos (by decide)
    have : a * 10 ^ k ≠ 0 := Nat.mul_ne_zero h (by omega)
    rw [Nat.pow_succ, ← Nat.mul_assoc, dgc_m10 this, ih]; omega
theorem dgc_tn {u k : Int} (h : u ≠ 0) (hk : 0 ≤ k) : (dgc (u * tn k).natAbs : Int) = dgc u.natAbs + k := by
  have e : (u * tn k).natAbs = u.natAbs * 10 ^ k.toNat := by rw [Int.natAbs_mul]; rfl
  rw [e, dgc_mp (by omega)]; omega
theorem nd_J8_setScale_2 : yJ8_setScale_2.cls ≠ "java/lang/invoke/MethodHandle" ∧ yJ8_setScale_2.cls ≠ "java/lang/invoke/VarHandle" ∧ (parseMethodDescriptor yJ8_setScale_2.desc).map (fun d => d.parameters.length) = some 2 := by decide +kernel
set_option maxRecDepth 100000 in
set_option maxHeartbeats 16000000 in
theorem ct_J8_setScale_2 {g : GG} {l : Launch} (M : Nat → Option PV) (q : Nat) (u : Int) (s : Int) (o : Option Nat) (n : Int) (m : Int) (hx : at_ g M q (vD u s o)) (hbv : u.natAbs < bw 4) (hs : -1000 ≤ s ∧ s ≤ 1000) (hn : -1000 ≤ n ∧ n ≤ 1000) (hsn : -18 ≤ s - n ∧ s - n ≤ 18) (hm : 0 ≤ m ∧ m ≤ 7) : Ct g l yJ8_setScale_2 (ws_ yJ8_setScale_2 cJ8_setScale_2 8 (Option.some (Jvm.ClassFile.FieldType.object "java/math/BigDecimal"))) 9 183 12 66 [.ref q, .int (jI n), .int (jI m)] [pl g M] (fun v9 Ws9 => ∃ M1 : Nat → Option PV, ∃ r1 : Nat, ∃ o1 : Option Nat, v9 = some (.ref r1) ∧ (le_ M M1) ∧ (at_ g M1 r1 (vD (ssV u s n m) n o1)) ∧ (ssF u s n m = false) ∧ Ws9 = [pl g M1]) (fun E9 Ws9 => (E9 = "java/lang/ArithmeticException" ∧ (ssF u s n m = true) ∧ Ws9 = [pl g M])) := by
  refine Ct.of (cc := cJ8_setScale_2) (nL := 8) (ret := (Option.some (Jvm.ClassFile.FieldType.object "java/math/BigDecimal"))) (by decide) rfl (Nat.le_of_ble_eq_true rfl) ?_
  intro x hg hl hPo hPx hmc hms F
  subst hg; subst hl
  refine SW.cast (L' := [(0, .ref q), (1, .int (jI n)), (2, .int (jI m))]) ?_ rfl rfl rfl
  refine sw_factD 0 rfl hx (fun hfo hfb => ?_)
  have hcr_u := cpt_rng u
  have hcc_u := cpt_cases u
  have hdg9 : dgc u.natAbs ≤ 39 := dgc_le 38 _ (Nat.lt_trans hbv (by decide))
  have hs9 := sgI_cases u
  have htp := tn_pos (s - n)
  have htp2 := tn_pos (n - s)
  refine sw_iload_n (n := 1) F 2 rfl rfl dJ8_setScale_2_0 rfl ?_
  refine sw_if_lt (n := 4) F (by omega) (tgt := 10) dJ8_setScale_2_1 (by decide) rfl (fun c_1 => ?_) (fun c_1 => ?_)
  · exfalso; omega
  ·
    refine sw_iload_n (n := 5) F 2 rfl rfl dJ8_setScale_2_4 rfl ?_
    refine sw_bipush (n := 7) F (7) (by decide) dJ8_setScale_2_5 rfl ?_
    refine sw_icmp_le (n := 10) F (by omega) (by decide) (tgt := 21) dJ8_setScale_2_7 (by decide) rfl (fun c_7 => ?_) (fun c_7 => ?_)
    ·
      refine sw_aload_n (n := 22) F 0 (some q) rfl rfl rfl dJ8_setScale_2_21 rfl ?_
      refine sw_getD (n := 25) F 0 rfl hx (k := 1) ⟨(RJ8, TJ8, 5), rfl, by decide, q261, in_J8, Or.inl rfl⟩ (.int (jI s)) (fun _ => rfl) dJ8_setScale_2_22 rfl ?_
      refine sw_istore_n (n := 26) F (L2 := [(3, .int (jI s)), (0, .ref q), (1, .int (jI n)), (2, .int (jI m))]) rfl (by decide) rfl dJ8_setScale_2_25 rfl ?_
      refine sw_iload_n (n := 27) F 2 rfl rfl dJ8_setScale_2_26 rfl ?_
      refine sw_iload_n (n := 28) F 0 rfl rfl dJ8_setScale_2_27 rfl ?_
      refine sw_icmp_ne (n := 31) F (by omega) (by omega) (tgt := 33) dJ8_setScale_2_28 (by decide) rfl (fun c_28 => ?_) (fun c_28 => ?_)
      ·
        refine sw_aload_n (n := 34) F 1 (some q) rfl rfl rfl dJ8_setScale_2_33 rfl ?_
        refine sw_callV (n := 37) F (ct_J8_signum (g := xg x) (l := xl x) M q u s o hx) (rcvD F 0 rfl hx) q1512 q1513 q1514 q112 q1515 nd_J8_signum rfl (by decide) [0] rfl [] rfl 12 66 ⟨by omega, by omega⟩ [] rfl (Nat.le_of_ble_eq_true rfl) dJ8_setScale_2_34 rfl (fun _ _ h => h.elim) (fun v Ws h => ?_)
        obtain ⟨rfl, rfl⟩ := h
        show SW x [pl (xg x) M] _ _ _ _ [.int (jI (sgI u))]
        refine sw_if_ne (n := 40) F (by omega) (tgt := 45) dJ8_setScale_2_37 (by decide) rfl (fun c_37 => ?_) (fun c_37 => ?_)
        ·
          refine sw_aload_n (n := 46) F 1 (some q) rfl rfl rfl dJ8_setScale_2_45 rfl ?_
          refine sw_getD (n := 49) F 0 rfl hx (k := 4) ⟨(RJ8, TJ8, 5), rfl, by decide, q264, in_J8, Or.inl rfl⟩ (.long (jL (cpt u))) (fun _ => rfl) dJ8_setScale_2_46 rfl ?_
          refine sw_ldc2 (n := 52) F (-9223372036854775808) q250 (by decide) dJ8_setScale_2_49 rfl ?_
          refine sw_lcmp (n := 53) F (by omega) (by decide) dJ8_setScale_2_52 rfl ?_
          refine sw_if_eq (n := 56) F (lc_rng _ _) (tgt := 193) dJ8_setScale_2_53 (by decide) rfl (fun c_53 => ?_) (fun c_53 => ?_)
          ·
            have c_53 := lc_eq c_53
            have hnf_u : ¬ fit u := cpt_y c_53
            obtain ⟨b9, hb9⟩ : ∃ b, o = some b := by cases o9_ : o with | none => exact absurd (hfo o9_) hnf_u | some b => exact ⟨b, rfl⟩
            obtain ⟨a9, ha9⟩ := hfb b9 hb9
            subst hb9
            refine sw_iload_n (n := 194) F 2 rfl rfl dJ8_setScale_2_193 rfl ?_
            refine sw_iload_n (n := 195) F 0 rfl rfl dJ8_setScale_2_194 rfl ?_
            refine sw_icmp_le (n := 198) F (by omega) (by omega) (tgt := 252) dJ8_setScale_2_195 (by decide) rfl (fun c_195 => ?_) (fun c_195 => ?_)
            ·
              refine sw_aload_n (n := 253) F 1 (some q) rfl rfl rfl dJ8_setScale_2_252 rfl ?_
              refine sw_iload_n (n := 254) F 0 rfl rfl dJ8_setScale_2_253 rfl ?_
              refine sw_i2l (n := 255) F (by omega) dJ8_setScale_2_254 rfl ?_
              refine sw_iload_n (n := 256) F 2 rfl rfl dJ8_setScale_2_255 rfl ?_
              refine sw_i2l (n := 257) F (by omega) dJ8_setScale_2_256 rfl ?_
              refine sw_lsub (n := 258) F dJ8_setScale_2_257 rfl ?_
              refine sw_callV (n := 261) F (ct_J8_checkScale_3 (g := xg x) (l := xl x) q (s - n) (by first | omega | assumption)) (rcvD F 0 rfl hx) q2566 q2568 qs41 q112 q2569 nd_J8_checkScale_3 rfl (by decide) [0] rfl [pl (xg x) M] rfl 12 66 ⟨by omega, by omega⟩ [] rfl (Nat.le_of_ble_eq_true rfl) dJ8_setScale_2_258 rfl (fun _ _ h => h.elim) (fun v Ws h => ?_)
              obtain ⟨rfl, rfl⟩ := h
              show SW x [pl (xg x) M] _ _ _ _ [.int (jI (s - n))]
              refine sw_istore (n := 263) F (L2 := [(4, .int (jI (s - n))), (3, .int (jI s)), (0, .ref q), (1, .int (jI n)), (2, .int (jI m))]) rfl (by decide) dJ8_setScale_2_261 rfl ?_
              refine sw_iload (n := 265) F 0 rfl dJ8_setScale_2_263 rfl ?_
              refine sw_gets (n := 268) F (kLTP F.gx.1).1 q1299 (Or.inl rfl) dJ8_setScale_2_265 rfl ?_
              refine sw_alenK (n := 269) F ((kLTP F.gx.1).2.A F) dJ8_setScale_2_268 rfl ?_
              show SW x _ _ _ _ _ [.int (jI 19), .int (jI (s - n))]
              refine sw_icmp_ge (n := 272) F (by omega) (by decide) (tgt := 289) dJ8_setScale_2_269 (by decide) rfl (fun c_269 => ?_) (fun c_269 => ?_)
              · exfalso; omega
              ·
                refine sw_aload_n (n := 273) F 2 (some q) rfl rfl rfl dJ8_setScale_2_272 rfl ?_
                refine sw_getD (n := 276) F 0 rfl hx (k := 0) ⟨(RJ8, TJ8, 5), rfl, by decide, q260, in_J8, Or.inl rfl⟩ (.ref b9) (fun _ => rfl) dJ8_setScale_2_273 rfl ?_
                refine sw_gets (n := 279) F (kLTP F.gx.1).1 q1299 (Or.inl rfl) dJ8_setScale_2_276 rfl ?_
                refine sw_iload (n := 281) F 0 rfl dJ8_setScale_2_279 rfl ?_
                refine sw_laloadK (n := 282) F ((kLTP F.gx.1).2.A F) ((s - n : Int).toNat) (by omega) (by omega) dJ8_setScale_2_281 rfl ?_
                show SW x _ _ _ _ _ [.long (jL ((10 ^ ((s - n : Int).toNat) : Nat) : Int)), .ref b9]
                refine sw_top (topL (show (((10 ^ ((s - n : Int).toNat) : Nat) : Int) : Int) = tn (s - n) by rfl)) ?_
                have ht18 := tn_18 (k := s - n) (by omega)
                have hbv6 := Nat.lt_of_lt_of_le hbv (bw_mono (show 4 ≤ 6 by decide))
                refine sw_iload_n (n := 283) F 3 rfl rfl dJ8_setScale_2_282 rfl ?_
                refine sw_iload_n (n := 284) F 4 rfl rfl dJ8_setScale_2_283 rfl ?_
                refine sw_iload_n (n := 285) F 3 rfl rfl dJ8_setScale_2_284 rfl ?_
                refine sw_callS (n := 288) F (ct_J8_divideAndRound_6 (g := xg x) (l := xl x) M b9 u a9 (tn (s - n)) n m ha9 hnf_u (by first | omega | assumption) (by first | omega | assumption) (by first | omega | assumption) hm (by first | omega | assumption)) q2680 q2681 q112 q2682 nd_J8_divideAndRound_6 rfl (by decide) [0] rfl [] rfl 0 0 ⟨by omega, by omega⟩ [] rfl (Nat.le_of_ble_eq_true rfl) dJ8_setScale_2_285 rfl (fun E Ws h => ?_) (fun v Ws h => ?_)
                ·
                  obtain ⟨rfl, hrf_7, rfl⟩ := h
                  show SX x [pl (xg x) M] _ _ _ _ _
                  exact sx_out F (by rw [hPx]; exact ⟨rfl, (by rw [(ss_d (by omega)).2]; assumption), rfl⟩)
                ·
                  obtain ⟨M1_1, r1_2, o1_3, rfl, hle_4, hat_5, hrf_6, rfl⟩ := h
                  show SW x [pl (xg x) M1_1] _ _ _ _ [.ref r1_2]
                  exact sw_aret F (some r1_2) _ rfl rfl (by first | exact Or.inl ⟨_, rfl⟩ | exact Or.inr ⟨_, rfl⟩) dJ8_setScale_2_288 (by rw [hPo]; exact ⟨M1_1, r1_2, o1_3, rfl, hle_4, (by rw [(ss_d (by omega)).1]; assumption), (by rw [(ss_d (by omega)).2]; assumption), rfl⟩)
            ·
              have hnfS : ¬ fit (ssV u s n m) := by rw [(ss_u (by omega)).1]; exact nofit_mul hnf_u
              refine sw_aload_n (n := 199) F 1 (some q) rfl rfl rfl dJ8_setScale_2_198 rfl ?_
              refine sw_iload_n (n := 200) F 2 rfl rfl dJ8_setScale_2_199 rfl ?_
              refine sw_i2l (n := 201) F (by omega) dJ8_setScale_2_200 rfl ?_
              refine sw_iload_n (n := 202) F 0 rfl rfl dJ8_setScale_2_201 rfl ?_
              refine sw_i2l (n := 203) F (by omega) dJ8_setScale_2_202 rfl ?_
              refine sw_lsub (n := 204) F dJ8_setScale_2_203 rfl ?_
              refine sw_callV (n := 207) F (ct_J8_checkScale_3 (g := xg x) (l := xl x) q (n - s) (by first | omega | assumption)) (rcvD F 0 rfl hx) q2566 q2568 qs41 q112 q2569 nd_J8_checkScale_3 rfl (by decide) [0] rfl [pl (xg x) M] rfl 12 66 ⟨by omega, by omega⟩ [] rfl (Nat.le_of_ble_eq_true rfl) dJ8_setScale_2_204 rfl (fun _ _ h => h.elim) (fun v Ws h => ?_)
              obtain ⟨rfl, rfl⟩ := h
              show SW x [pl (xg x) M] _ _ _ _ [.int (jI (n - s))]
              refine sw_istore (n := 209) F (L2 := [(4, .int (jI (n - s))), (3, .int (jI s)), (0, .ref q), (1, .int (jI n)), (2, .int (jI m))]) rfl (by decide) dJ8_setScale_2_207 rfl ?_
              refine sw_aload_n (n := 210) F 2 (some q) rfl rfl rfl dJ8_setScale_2_209 rfl ?_
              refine sw_getD (n := 213) F 0 rfl hx (k := 0) ⟨(RJ8, TJ8, 5), rfl, by decide, q260, in_J8, Or.inl rfl⟩ (.ref b9) (fun _ => rfl) dJ8_setScale_2_210 rfl ?_
              refine sw_iload (n := 215) F 0 rfl dJ8_setScale_2_213 rfl ?_
              refine sw_callS (n := 218) F (ct_J8_bigMultiplyPowerTen_2 (g := xg x) (l := xl x) M b9 u a9 (n - s) ha9 hbv (by first | omega | assumption)) q1500 q1501 q112 q1502 nd_J8_bigMultiplyPowerTen_2 rfl (by decide) [0] rfl [] rfl 9 46 ⟨by omega, by omega⟩ [] rfl (Nat.le_of_ble_eq_true rfl) dJ8_setScale_2_215 rfl (fun _ _ h => h.elim) (fun v Ws h => ?_)
              obtain ⟨M1_8, r1_9, a1_10, rfl, hle_11, hat_12, rfl⟩ := h
              show SW x [pl (xg x) M1_8] _ _ _ _ [.ref r1_9]
              refine sw_astore (n := 220) F (some r1_9) (L2 := [(5, .ref r1_9), (4, .int (jI (n - s))), (3, .int (jI s)), (0, .ref q), (1, .int (jI n)), (2, .int (jI m))]) rfl rfl (by decide) dJ8_setScale_2_218 rfl ?_
              refine sw_new (n := 223) F (ci := 13) (N := 5) RJ8 TJ8 tyJ8 rfl q251 q252 q112 in_J8 tyJ8_ok (fs := [.null, .int (jI 0), .int (jI 0), .null, .long (jL 0)]) rfl 8 41 ⟨by omega, by omega⟩ dJ8_setScale_2_220 rfl (fun q_13 => ?_)
              refine sw_dup (n := 224) F rfl dJ8_setScale_2_223 rfl ?_
              refine sw_aload (n := 226) F 0 (some r1_9) rfl rfl dJ8_setScale_2_224 rfl ?_
              refine sw_ldc2 (n := 229) F (-9223372036854775808) q250 (by decide) dJ8_setScale_2_226 rfl ?_
              refine sw_iload_n (n := 230) F 4 rfl rfl dJ8_setScale_2_229 rfl ?_
              rcases Nat.lt_or_ge q (gB (xg x)) with hgq | hgq
              ·
                refine sw_aload_n (n := 231) F 3 (some q) rfl rfl rfl dJ8_setScale_2_230 rfl ?_
                refine sw_getDp (n := 234) F 1 rfl (at_.up hx hle_11) ⟨(RJ8, TJ8, 5), rfl, by decide, q262, in_J8, Or.inl rfl⟩ dJ8_setScale_2_231 rfl (fun p_14 hp_15 => ?_)
                refine sw_if_le (n := 237) F (by omega) (tgt := 247) dJ8_setScale_2_234 (by decide) rfl (fun c_234 => ?_) (fun c_234 => ?_)
                ·
                  refine sw_iconst (n := 248) F (0) (by decide) dJ8_setScale_2_247 rfl ?_
                  refine sw_callI (n := 251) F (ct_J8_init (g := xg x) (l := xl x) q_13 (some r1_9) (-9223372036854775808) n 0 ) q253 q254 q112 q255 rfl nd_J8_init rfl (by decide) [0, 1] rfl [pl (xg x) M1_8] rfl 8 41 ⟨by omega, by omega⟩ [.ref q_13] rfl (Nat.le_of_ble_eq_true rfl) dJ8_setScale_2_248 rfl (fun _ _ h => h.elim) (fun v Ws h => ?_)
                  obtain ⟨rfl, rfl⟩ := h
                  show SW x [ob (xg x) q_13 13 [va_rf (some r1_9), .int (jI n), .int (jI 0), .null, .long (jL (-9223372036854775808))], pl (xg x) M1_8] _ _ _ _ [.ref q_13]
                  refine SW.cast (Ps' := ob (xg x) q_13 13 (flD (ssV u s n m) n (some r1_9) 0) :: [pl (xg x) M1_8]) ?_ (by simp only [flD, cpt_0 hnfS] <;> rfl) rfl rfl
                  refine sw_absD F ((by first | exact Or.inr rfl | (left; rw [(ss_u (by omega)).1, dgc_tn (by omega) (by omega)]; omega))) (fun h => by cases h) (fun b h => by cases h; exact ⟨_, by rw [(ss_u (by omega)).1]; exact hat_12⟩) (fun M_16 hle_17 hat_18 => ?_)
                  show SW x [pl (xg x) M_16] _ _ _ _ [.ref q_13]
                  exact sw_aret F (some q_13) _ rfl rfl (by first | exact Or.inl ⟨_, rfl⟩ | exact Or.inr ⟨_, rfl⟩) dJ8_setScale_2_251 (by rw [hPo]; exact ⟨M_16, q_13, some r1_9, rfl, (le_.tr hle_11 hle_17), hat_18, (by exact (ss_u (by omega)).2), rfl⟩)
                ·
                  refine sw_aload_n (n := 238) F 3 (some q) rfl rfl rfl dJ8_setScale_2_237 rfl ?_
                  refine sw_getDp (n := 241) F 1 rfl (at_.up hx hle_11) ⟨(RJ8, TJ8, 5), rfl, by decide, q262, in_J8, Or.inl rfl⟩ dJ8_setScale_2_238 rfl (fun p_19 hp_20 => ?_)
                  refine sw_iload (n := 243) F 1 rfl dJ8_setScale_2_241 rfl ?_
                  refine sw_iadd (n := 244) F dJ8_setScale_2_243 rfl ?_
                  refine sw_goto F (n := 248) dJ8_setScale_2_244 (by decide) ?_
                  refine sw_callI (n := 251) F (ct_J8_init (g := xg x) (l := xl x) q_13 (some r1_9) (-9223372036854775808) n (p_19 + (n - s)) ) q253 q254 q112 q255 rfl nd_J8_init rfl (by decide) [0, 1] rfl [pl (xg x) M1_8] rfl 8 41 ⟨by omega, by omega⟩ [.ref q_13] rfl (Nat.le_of_ble_eq_true rfl) dJ8_setScale_2_248 rfl (fun _ _ h => h.elim) (fun v Ws h => ?_)
                  obtain ⟨rfl, rfl⟩ := h
                  show SW x [ob (xg x) q_13 13 [va_rf (some r1_9), .int (jI n), .int (jI (p_19 + (n - s))), .null, .long (jL (-9223372036854775808))], pl (xg x) M1_8] _ _ _ _ [.ref q_13]
                  refine SW.cast (Ps' := ob (xg x) q_13 13 (flD (ssV u s n m) n (some r1_9) (p_19 + (n - s))) :: [pl (xg x) M1_8]) ?_ (by simp only [flD, cpt_0 hnfS] <;> rfl) rfl rfl
                  refine sw_absD F ((by first | exact Or.inr rfl | (left; rw [(ss_u (by omega)).1, dgc_tn (by omega) (by omega)]; omega))) (fun h => by cases h) (fun b h => by cases h; exact ⟨_, by rw [(ss_u (by omega)).1]; exact hat_12⟩) (fun M_21 hle_22 hat_23 => ?_)
                  show SW x [pl (xg x) M_21] _ _ _ _ [.ref q_13]
                  exact sw_aret F (some q_13) _ rfl rfl (by first | exact Or.inl ⟨_, rfl⟩ | exact Or.inr ⟨_, rfl⟩) dJ8_setScale_2_251 (by rw [hPo]; exact ⟨M_21, q_13, some r1_9, rfl, (le_.tr hle_11 hle_22), hat_23, (by exact (ss_u (by omega)).2), rfl⟩)
              ·
                refine sw_perm [1, 0] rfl [pl (xg x) M1_8, ob (xg x) q_13 13 [.null, .int (jI 0), .int (jI 0), .null, .long (jL 0)]] rfl ?_
                refine sw_takeDp hgq (at_.up hx hle_11) (fun pp_24 hpp_25 => ?_)
                show SW x [ob (xg x) q 13 [.ref b9, .int (jI s), .int (jI pp_24), .null, .long (jL (cpt u))], plH (xg x) M1_8 q, ob (xg x) q_13 13 [.null, .int (jI 0), .int (jI 0), .null, .long (jL 0)]] _ _ _ _ [.int (jI n), .long (jL (-9223372036854775808)), .ref r1_9, .ref q_13, .ref q_13]
                refine sw_aload_n (n := 231) F 3 (some q) rfl rfl rfl dJ8_setScale_2_230 rfl ?_
                refine sw_get (n := 234) F 0 rfl (k := 2) ⟨(RJ8, TJ8, 5), rfl, by decide, q262, in_J8, Or.inl rfl⟩ rfl dJ8_setScale_2_231 rfl ?_
                refine sw_if_le (n := 237) F (by omega) (tgt := 247) dJ8_setScale_2_234 (by decide) rfl (fun c_234 => ?_) (fun c_234 => ?_)
                ·
                  refine sw_iconst (n := 248) F (0) (by decide) dJ8_setScale_2_247 rfl ?_
                  refine SW.cast (Ps' := ob (xg x) q 13 (flD u s (some b9) pp_24) :: [plH (xg x) M1_8 q, ob (xg x) q_13 13 [.null, .int (jI 0), .int (jI 0), .null, .long (jL 0)]]) ?_ (by rfl) rfl rfl
                  refine sw_backD hgq (at_.up hx hle_11) ((by omega)) hfo (fun b9_ h9_ => (hfb b9_ h9_).imp fun _ k9_ => k9_.up hle_11) ?_
                  show SW x [pl (xg x) M1_8, ob (xg x) q_13 13 [.null, .int (jI 0), .int (jI 0), .null, .long (jL 0)]] _ _ _ _ [.int (jI 0), .int (jI n), .long (jL (-9223372036854775808)), .ref r1_9, .ref q_13, .ref q_13]
                  refine sw_callI (n := 251) F (ct_J8_init (g := xg x) (l := xl x) q_13 (some r1_9) (-9223372036854775808) n 0 ) q253 q254 q112 q255 rfl nd_J8_init rfl (by decide) [1, 0] rfl [pl (xg x) M1_8] rfl 8 41 ⟨by omega, by omega⟩ [.ref q_13] rfl (Nat.le_of_ble_eq_true rfl) dJ8_setScale_2_248 rfl (fun _ _ h => h.elim) (fun v Ws h => ?_)
                  obtain ⟨rfl, rfl⟩ := h
                  show SW x [ob (xg x) q_13 13 [va_rf (some r1_9), .int (jI n), .int (jI 0), .null, .long (jL (-9223372036854775808))], pl (xg x) M1_8] _ _ _ _ [.ref q_13]
                  refine SW.cast (Ps' := ob (xg x) q_13 13 (flD (ssV u s n m) n (some r1_9) 0) :: [pl (xg x) M1_8]) ?_ (by simp only [flD, cpt_0 hnfS] <;> rfl) rfl rfl
                  refine sw_absD F ((by first | exact Or.inr rfl | (left; rw [(ss_u (by omega)).1, dgc_tn (by omega) (by omega)]; omega))) (fun h => by cases h) (fun b h => by cases h; exact ⟨_, by rw [(ss_u (by omega)).1]; exact hat_12⟩) (fun M_26 hle_27 hat_28 => ?_)
                  show SW x [pl (xg x) M_26] _ _ _ _ [.ref q_13]
                  exact sw_aret F (some q_13) _ rfl rfl (by first | exact Or.inl ⟨_, rfl⟩ | exact Or.inr ⟨_, rfl⟩) dJ8_setScale_2_251 (by rw [hPo]; exact ⟨M_26, q_13, some r1_9, rfl, (le_.tr hle_11 hle_27), hat_28, (by exact (ss_u (by omega)).2), rfl⟩)
                ·
                  refine sw_aload_n (n := 238) F 3 (some q) rfl rfl rfl dJ8_setScale_2_237 rfl ?_
                  refine sw_get (n := 241) F 0 rfl (k := 2) ⟨(RJ8, TJ8, 5), rfl, by decide, q262, in_J8, Or.inl rfl⟩ rfl dJ8_setScale_2_238 rfl ?_
                  refine sw_iload (n := 243) F 1 rfl dJ8_setScale_2_241 rfl ?_
                  refine sw_iadd (n := 244) F dJ8_setScale_2_243 rfl ?_
                  refine sw_goto F (n := 248) dJ8_setScale_2_244 (by decide) ?_
                  refine SW.cast (Ps' := ob (xg x) q 13 (flD u s (some b9) pp_24) :: [plH (xg x) M1_8 q, ob (xg x) q_13 13 [.null, .int (jI 0), .int (jI 0), .null, .long (jL 0)]]) ?_ (by rfl) rfl rfl
                  refine sw_backD hgq (at_.up hx hle_11) ((by omega)) hfo (fun b9_ h9_ => (hfb b9_ h9_).imp fun _ k9_ => k9_.up hle_11) ?_
                  show SW x [pl (xg x) M1_8, ob (xg x) q_13 13 [.null, .int (jI 0), .int (jI 0), .null, .long (jL 0)]] _ _ _ _ [.int (jI (pp_24 + (n - s))), .int (jI n), .long (jL (-9223372036854775808)), .ref r1_9, .ref q_13, .ref q_13]
                  refine sw_callI (n := 251) F (ct_J8_init (g := xg x) (l := xl x) q_13 (some r1_9) (-9223372036854775808) n (pp_24 + (n - s)) ) q253 q254 q112 q255 rfl nd_J8_init rfl (by decide) [1, 0] rfl [pl (xg x) M1_8] rfl 8 41 ⟨by omega, by omega⟩ [.ref q_13] rfl (Nat.le_of_ble_eq_true rfl) dJ8_setScale_2_248 rfl (fun _ _ h => h.elim) (fun v Ws h => ?_)
                  obtain ⟨rfl, rfl⟩ := h
                  show SW x [ob (xg x) q_13 13 [va_rf (some r1_9), .int (jI n), .int (jI (pp_24 + (n - s))), .null, .long (jL (-9223372036854775808))], pl (xg x) M1_8] _ _ _ _ [.ref q_13]
                  refine SW.cast (Ps' := ob (xg x) q_13 13 (flD (ssV u s n m) n (some r1_9) (pp_24 + (n - s))) :: [pl (xg x) M1_8]) ?_ (by simp only [flD, cpt_0 hnfS] <;> rfl) rfl rfl
                  refine sw_absD F ((by first | exact Or.inr rfl | (left; rw [(ss_u (by omega)).1, dgc_tn (by omega) (by omega)]; omega))) (fun h => by cases h) (fun b h => by cases h; exact ⟨_, by rw [(ss_u (by omega)).1]; exact hat_12⟩) (fun M_29 hle_30 hat_31 => ?_)
                  show SW x [pl (xg x) M_29] _ _ _ _ [.ref q_13]
                  exact sw_aret F (some q_13) _ rfl rfl (by first | exact Or.inl ⟨_, rfl⟩ | exact Or.inr ⟨_, rfl⟩) dJ8_setScale_2_251 (by rw [hPo]; exact ⟨M_29, q_13, some r1_9, rfl, (le_.tr hle_11 hle_30), hat_31, (by exact (ss_u (by omega)).2), rfl⟩)
          ·
            have c_53 := lc_ne c_53
            have hfit_u : fit u := cpt_n c_53
            have hfr_u := hfit_u
            unfold fit at hfr_u
            have hsu := fun (h : s < n) => (ss_u (u := u) (m := m) h).1
            refine sw_aload_n (n := 57) F 1 (some q) rfl rfl rfl dJ8_setScale_2_56 rfl ?_
            refine sw_getD (n := 60) F 0 rfl hx (k := 4) ⟨(RJ8, TJ8, 5), rfl, by decide, q264, in_J8, Or.inl rfl⟩ (.long (jL (cpt u))) (fun _ => rfl) dJ8_setScale_2_57 rfl ?_
            refine SW.cast (st' := [.long (jL u)]) ?_ rfl rfl (by rw [cpt_1 hfit_u])
            refine sw_lstore (n := 62) F (L2 := [(4, .long (jL u)), (3, .int (jI s)), (0, .ref q), (1, .int (jI n)), (2, .int (jI m))]) rfl (by decide) dJ8_setScale_2_60 rfl ?_
            refine sw_iload_n (n := 63) F 3 rfl rfl dJ8_setScale_2_62 rfl ?_
            refine sw_iload_n (n := 64) F 1 rfl rfl dJ8_setScale_2_63 rfl ?_
            refine sw_icmp_le (n := 67) F (by omega) (by omega) (tgt := 142) dJ8_setScale_2_64 (by decide) rfl (fun c_64 => ?_) (fun c_64 => ?_)
            ·
              refine sw_aload_n (n := 143) F 2 (some q) rfl rfl rfl dJ8_setScale_2_142 rfl ?_
              refine sw_iload_n (n := 144) F 1 rfl rfl dJ8_setScale_2_143 rfl ?_
              refine sw_i2l (n := 145) F (by omega) dJ8_setScale_2_144 rfl ?_
              refine sw_iload_n (n := 146) F 3 rfl rfl dJ8_setScale_2_145 rfl ?_
              refine sw_i2l (n := 147) F (by omega) dJ8_setScale_2_146 rfl ?_
              refine sw_lsub (n := 148) F dJ8_setScale_2_147 rfl ?_
              refine sw_callV (n := 151) F (ct_J8_checkScale_3 (g := xg x) (l := xl x) q (s - n) (by first | omega | assumption)) (rcvD F 0 rfl hx) q2566 q2568 qs41 q112 q2569 nd_J8_checkScale_3 rfl (by decide) [0] rfl [pl (xg x) M] rfl 12 66 ⟨by omega, by omega⟩ [] rfl (Nat.le_of_ble_eq_true rfl) dJ8_setScale_2_148 rfl (fun _ _ h => h.elim) (fun v Ws h => ?_)
              obtain ⟨rfl, rfl⟩ := h
              show SW x [pl (xg x) M] _ _ _ _ [.int (jI (s - n))]
              refine sw_istore (n := 153) F (L2 := [(6, .int (jI (s - n))), (4, .long (jL u)), (3, .int (jI s)), (0, .ref q), (1, .int (jI n)), (2, .int (jI m))]) rfl (by decide) dJ8_setScale_2_151 rfl ?_
              refine sw_iload (n := 155) F 0 rfl dJ8_setScale_2_153 rfl ?_
              refine sw_gets (n := 158) F (kLTP F.gx.1).1 q1299 (Or.inl rfl) dJ8_setScale_2_155 rfl ?_
              refine sw_alenK (n := 159) F ((kLTP F.gx.1).2.A F) dJ8_setScale_2_158 rfl ?_
              show SW x _ _ _ _ _ [.int (jI 19), .int (jI (s - n))]
              refine sw_icmp_ge (n := 162) F (by omega) (by decide) (tgt := 177) dJ8_setScale_2_159 (by decide) rfl (fun c_159 => ?_) (fun c_159 => ?_)
              · exfalso; omega
              ·
                refine sw_lload (n := 164) F 1 rfl dJ8_setScale_2_162 rfl ?_
                refine sw_gets (n := 167) F (kLTP F.gx.1).1 q1299 (Or.inl rfl) dJ8_setScale_2_164 rfl ?_
                refine sw_iload (n := 169) F 0 rfl dJ8_setScale_2_167 rfl ?_
                refine sw_laloadK (n := 170) F ((kLTP F.gx.1).2.A F) ((s - n : Int).toNat) (by omega) (by omega) dJ8_setScale_2_169 rfl ?_
                show SW x _ _ _ _ _ [.long (jL ((10 ^ ((s - n : Int).toNat) : Nat) : Int)), .long (jL u)]
                refine sw_top (topL (show (((10 ^ ((s - n : Int).toNat) : Nat) : Int) : Int) = tn (s - n) by rfl)) ?_
                have ht18 := tn_18 (k := s - n) (by omega)
                refine sw_iload_n (n := 171) F 4 rfl rfl dJ8_setScale_2_170 rfl ?_
                refine sw_iload_n (n := 172) F 5 rfl rfl dJ8_setScale_2_171 rfl ?_
                refine sw_iload_n (n := 173) F 4 rfl rfl dJ8_setScale_2_172 rfl ?_
                refine sw_callS (n := 176) F (ct_J8_divideAndRound_4 (g := xg x) (l := xl x) M u (tn (s - n)) n m (by first | omega | assumption) (by first | omega | assumption) (by first | omega | assumption) hm (by first | omega | assumption)) q2662 q2663 q112 q2664 nd_J8_divideAndRound_4 rfl (by decide) [0] rfl [] rfl 10 55 ⟨by omega, by omega⟩ [] rfl (Nat.le_of_ble_eq_true rfl) dJ8_setScale_2_173 rfl (fun E Ws h => ?_) (fun v Ws h => ?_)
                ·
                  obtain ⟨rfl, hrf_38, rfl⟩ := h
                  show SX x [pl (xg x) M] _ _ _ _ _
                  exact sx_out F (by rw [hPx]; exact ⟨rfl, (by rw [(ss_d (by omega)).2]; assumption), rfl⟩)
                ·
                  obtain ⟨M1_32, r1_33, o1_34, rfl, hle_35, hat_36, hrf_37, rfl⟩ := h
                  show SW x [pl (xg x) M1_32] _ _ _ _ [.ref r1_33]
                  exact sw_aret F (some r1_33) _ rfl rfl (by first | exact Or.inl ⟨_, rfl⟩ | exact Or.inr ⟨_, rfl⟩) dJ8_setScale_2_176 (by rw [hPo]; exact ⟨M1_32, r1_33, o1_34, rfl, hle_35, (by rw [(ss_d (by omega)).1]; assumption), (by rw [(ss_d (by omega)).2]; assumption), rfl⟩)
            ·
              refine sw_aload_n (n := 68) F 2 (some q) rfl rfl rfl dJ8_setScale_2_67 rfl ?_
              refine sw_iload_n (n := 69) F 3 rfl rfl dJ8_setScale_2_68 rfl ?_
              refine sw_i2l (n := 70) F (by omega) dJ8_setScale_2_69 rfl ?_
              refine sw_iload_n (n := 71) F 1 rfl rfl dJ8_setScale_2_70 rfl ?_
              refine sw_i2l (n := 72) F (by omega) dJ8_setScale_2_71 rfl ?_
              refine sw_lsub (n := 73) F dJ8_setScale_2_72 rfl ?_
              refine sw_callV (n := 76) F (ct_J8_checkScale_3 (g := xg x) (l := xl x) q (n - s) (by first | omega | assumption)) (rcvD F 0 rfl hx) q2566 q2568 qs41 q112 q2569 nd_J8_checkScale_3 rfl (by decide) [0] rfl [pl (xg x) M] rfl 12 66 ⟨by omega, by omega⟩ [] rfl (Nat.le_of_ble_eq_true rfl) dJ8_setScale_2_73 rfl (fun _ _ h => h.elim) (fun v Ws h => ?_)
              obtain ⟨rfl, rfl⟩ := h
              show SW x [pl (xg x) M] _ _ _ _ [.int (jI (n - s))]
              refine sw_istore (n := 78) F (L2 := [(6, .int (jI (n - s))), (4, .long (jL u)), (3, .int (jI s)), (0, .ref q), (1, .int (jI n)), (2, .int (jI m))]) rfl (by decide) dJ8_setScale_2_76 rfl ?_
              refine sw_lload (n := 80) F 1 rfl dJ8_setScale_2_78 rfl ?_
              refine sw_iload (n := 82) F 0 rfl dJ8_setScale_2_80 rfl ?_
              refine sw_callS (n := 85) F (ct_J8_longMultiplyPowerTen (g := xg x) (l := xl x) u (n - s) (by first | omega | assumption) (by first | omega | assumption)) q1296 q1297 q112 q1298 nd_J8_longMultiplyPowerTen rfl (by decide) [0] rfl [pl (xg x) M] rfl 12 66 ⟨by omega, by omega⟩ [] rfl (Nat.le_of_ble_eq_true rfl) dJ8_setScale_2_82 rfl (fun _ _ h => h.elim) (fun v Ws h => ?_)
              obtain ⟨rfl, rfl⟩ := h
              show SW x [pl (xg x) M] _ _ _ _ [.long (jL (cpt (u * ((10 ^ (n - s).toNat : Nat) : Int))))]
              have hcc := cpt_cases (u * tn (n - s))
              refine sw_top (topL (show (cpt (u * ((10 ^ (n - s).toNat : Nat) : Int)) : Int) = cpt (u * tn (n - s)) by rfl)) ?_
              refine sw_dup2 (n := 86) F rfl dJ8_setScale_2_85 rfl ?_
              refine sw_lstore (n := 88) F (L2 := [(4, .long (jL (cpt (u * tn (n - s))))), (6, .int (jI (n - s))), (3, .int (jI s)), (0, .ref q), (1, .int (jI n)), (2, .int (jI m))]) rfl (by decide) dJ8_setScale_2_86 rfl ?_
              refine sw_ldc2 (n := 91) F (-9223372036854775808) q250 (by decide) dJ8_setScale_2_88 rfl ?_
              refine sw_lcmp (n := 92) F (by omega) (by decide) dJ8_setScale_2_91 rfl ?_
              refine sw_if_eq (n := 95) F (lc_rng _ _) (tgt := 102) dJ8_setScale_2_92 (by decide) rfl (fun c_92 => ?_) (fun c_92 => ?_)
              ·
                have c_92 := lc_eq c_92
                have hnfS : ¬ fit (ssV u s n m) := by rw [(ss_u (by omega)).1]; exact cpt_y c_92
                refine sw_aload_n (n := 103) F 3 (some q) rfl rfl rfl dJ8_setScale_2_102 rfl ?_
                refine sw_iload (n := 105) F 1 rfl dJ8_setScale_2_103 rfl ?_
                refine sw_callV (n := 108) F (ct_J8_bigMultiplyPowerTen_3 (g := xg x) (l := xl x) M q u s o (n - s) hx hfit_u (by first | omega | assumption)) (rcvD F 0 rfl hx) q1541 q1543 qs13 q112 q1544 nd_J8_bigMultiplyPowerTen_3 rfl (by decide) [0] rfl [] rfl 9 46 ⟨by omega, by omega⟩ [] rfl (Nat.le_of_ble_eq_true rfl) dJ8_setScale_2_105 rfl (fun _ _ h => h.elim) (fun v Ws h => ?_)
                obtain ⟨M1_39, r1_40, a1_41, rfl, hle_42, hat_43, rfl⟩ := h
                show SW x [pl (xg x) M1_39] _ _ _ _ [.ref r1_40]
                refine sw_astore (n := 110) F (some r1_40) (L2 := [(7, .ref r1_40), (4, .long (jL (cpt (u * tn (n - s))))), (6, .int (jI (n - s))), (3, .int (jI s)), (0, .ref q), (1, .int (jI n)), (2, .int (jI m))]) rfl rfl (by decide) dJ8_setScale_2_108 rfl ?_
                refine sw_new (n := 113) F (ci := 13) (N := 5) RJ8 TJ8 tyJ8 rfl q251 q252 q112 in_J8 tyJ8_ok (fs := [.null, .int (jI 0), .int (jI 0), .null, .long (jL 0)]) rfl 8 41 ⟨by omega, by omega⟩ dJ8_setScale_2_110 rfl (fun q_44 => ?_)
                refine sw_dup (n := 114) F rfl dJ8_setScale_2_113 rfl ?_
                refine sw_aload (n := 116) F 0 (some r1_40) rfl rfl dJ8_setScale_2_114 rfl ?_
                refine sw_ldc2 (n := 119) F (-9223372036854775808) q250 (by decide) dJ8_setScale_2_116 rfl ?_
                refine sw_iload_n (n := 120) F 5 rfl rfl dJ8_setScale_2_119 rfl ?_
                rcases Nat.lt_or_ge q (gB (xg x)) with hgq | hgq
                ·
                  refine sw_aload_n (n := 121) F 4 (some q) rfl rfl rfl dJ8_setScale_2_120 rfl ?_
                  refine sw_getDp (n := 124) F 1 rfl (at_.up hx hle_42) ⟨(RJ8, TJ8, 5), rfl, by decide, q262, in_J8, Or.inl rfl⟩ dJ8_setScale_2_121 rfl (fun p_45 hp_46 => ?_)
                  refine sw_if_le (n := 127) F (by omega) (tgt := 137) dJ8_setScale_2_124 (by decide) rfl (fun c_124 => ?_) (fun c_124 => ?_)
                  ·
                    refine sw_iconst (n := 138) F (0) (by decide) dJ8_setScale_2_137 rfl ?_
                    refine sw_callI (n := 141) F (ct_J8_init (g := xg x) (l := xl x) q_44 (some r1_40) (-9223372036854775808) n 0 ) q253 q254 q112 q255 rfl nd_J8_init rfl (by decide) [0, 1] rfl [pl (xg x) M1_39] rfl 8 41 ⟨by omega, by omega⟩ [.ref q_44] rfl (Nat.le_of_ble_eq_true rfl) dJ8_setScale_2_138 rfl (fun _ _ h => h.elim) (fun v Ws h => ?_)
                    obtain ⟨rfl, rfl⟩ := h
                    show SW x [ob (xg x) q_44 13 [va_rf (some r1_40), .int (jI n), .int (jI 0), .null, .long (jL (-9223372036854775808))], pl (xg x) M1_39] _ _ _ _ [.ref q_44]
                    refine SW.cast (Ps' := ob (xg x) q_44 13 (flD (ssV u s n m) n (some r1_40) 0) :: [pl (xg x) M1_39]) ?_ (by simp only [flD, cpt_0 hnfS] <;> rfl) rfl rfl
                    refine sw_absD F ((by first | exact Or.inr rfl | (left; rw [(ss_u (by omega)).1, dgc_tn (by omega) (by omega)]; omega))) (fun h => by cases h) (fun b h => by cases h; exact ⟨_, by rw [(ss_u (by omega)).1]; exact hat_43⟩) (fun M_47 hle_48 hat_49 => ?_)
                    show SW x [pl (xg x) M_47] _ _ _ _ [.ref q_44]
                    exact sw_aret F (some q_44) _ rfl rfl (by first | exact Or.inl ⟨_, rfl⟩ | exact Or.inr ⟨_, rfl⟩) dJ8_setScale_2_141 (by rw [hPo]; exact ⟨M_47, q_44, some r1_40, rfl, (le_.tr hle_42 hle_48), hat_49, (by exact (ss_u (by omega)).2), rfl⟩)
                  ·
                    refine sw_aload_n (n := 128) F 4 (some q) rfl rfl rfl dJ8_setScale_2_127 rfl ?_
                    refine sw_getDp (n := 131) F 1 rfl (at_.up hx hle_42) ⟨(RJ8, TJ8, 5), rfl, by decide, q262, in_J8, Or.inl rfl⟩ dJ8_setScale_2_128 rfl (fun p_50 hp_51 => ?_)
                    refine sw_iload (n := 133) F 2 rfl dJ8_setScale_2_131 rfl ?_
                    refine sw_iadd (n := 134) F dJ8_setScale_2_133 rfl ?_
                    refine sw_goto F (n := 138) dJ8_setScale_2_134 (by decide) ?_
                    refine sw_callI (n := 141) F (ct_J8_init (g := xg x) (l := xl x) q_44 (some r1_40) (-9223372036854775808) n (p_50 + (n - s)) ) q253 q254 q112 q255 rfl nd_J8_init rfl (by decide) [0, 1] rfl [pl (xg x) M1_39] rfl 8 41 ⟨by omega, by omega⟩ [.ref q_44] rfl (Nat.le_of_ble_eq_true rfl) dJ8_setScale_2_138 rfl (fun _ _ h => h.elim) (fun v Ws h => ?_)
                    obtain ⟨rfl, rfl⟩ := h
                    show SW x [ob (xg x) q_44 13 [va_rf (some r1_40), .int (jI n), .int (jI (p_50 + (n - s))), .null, .long (jL (-9223372036854775808))], pl (xg x) M1_39] _ _ _ _ [.ref q_44]
                    refine SW.cast (Ps' := ob (xg x) q_44 13 (flD (ssV u s n m) n (some r1_40) (p_50 + (n - s))) :: [pl (xg x) M1_39]) ?_ (by simp only [flD, cpt_0 hnfS] <;> rfl) rfl rfl
                    refine sw_absD F ((by first | exact Or.inr rfl | (left; rw [(ss_u (by omega)).1, dgc_tn (by omega) (by omega)]; omega))) (fun h => by cases h) (fun b h => by cases h; exact ⟨_, by rw [(ss_u (by omega)).1]; exact hat_43⟩) (fun M_52 hle_53 hat_54 => ?_)
                    show SW x [pl (xg x) M_52] _ _ _ _ [.ref q_44]
                    exact sw_aret F (some q_44) _ rfl rfl (by first | exact Or.inl ⟨_, rfl⟩ | exact Or.inr ⟨_, rfl⟩) dJ8_setScale_2_141 (by rw [hPo]; exact ⟨M_52, q_44, some r1_40, rfl, (le_.tr hle_42 hle_53), hat_54, (by exact (ss_u (by omega)).2), rfl⟩)
                ·
                  refine sw_perm [1, 0] rfl [pl (xg x) M1_39, ob (xg x) q_44 13 [.null, .int (jI 0), .int (jI 0), .null, .long (jL 0)]] rfl ?_
                  refine sw_takeDp hgq (at_.up hx hle_42) (fun pp_55 hpp_56 => ?_)
                  show SW x [ob (xg x) q 13 [va_rf o, .int (jI s), .int (jI pp_55), .null, .long (jL (cpt u))], plH (xg x) M1_39 q, ob (xg x) q_44 13 [.null, .int (jI 0), .int (jI 0), .null, .long (jL 0)]] _ _ _ _ [.int (jI n), .long (jL (-9223372036854775808)), .ref r1_40, .ref q_44, .ref q_44]
                  refine sw_aload_n (n := 121) F 4 (some q) rfl rfl rfl dJ8_setScale_2_120 rfl ?_
                  refine sw_get (n := 124) F 0 rfl (k := 2) ⟨(RJ8, TJ8, 5), rfl, by decide, q262, in_J8, Or.inl rfl⟩ rfl dJ8_setScale_2_121 rfl ?_
                  refine sw_if_le (n := 127) F (by omega) (tgt := 137) dJ8_setScale_2_124 (by decide) rfl (fun c_124 => ?_) (fun c_124 => ?_)
                  ·
                    refine sw_iconst (n := 138) F (0) (by decide) dJ8_setScale_2_137 rfl ?_
                    refine SW.cast (Ps' := ob (xg x) q 13 (flD u s o pp_55) :: [plH (xg x) M1_39 q, ob (xg x) q_44 13 [.null, .int (jI 0), .int (jI 0), .null, .long (jL 0)]]) ?_ (by rfl) rfl rfl
                    refine sw_backD hgq (at_.up hx hle_42) ((by omega)) hfo (fun b9_ h9_ => (hfb b9_ h9_).imp fun _ k9_ => k9_.up hle_42) ?_
                    show SW x [pl (xg x) M1_39, ob (xg x) q_44 13 [.null, .int (jI 0), .int (jI 0), .null, .long (jL 0)]] _ _ _ _ [.int (jI 0), .int (jI n), .long (jL (-9223372036854775808)), .ref r1_40, .ref q_44, .ref q_44]
                    refine sw_callI (n := 141) F (ct_J8_init (g := xg x) (l := xl x) q_44 (some r1_40) (-9223372036854775808) n 0 ) q253 q254 q112 q255 rfl nd_J8_init rfl (by decide) [1, 0] rfl [pl (xg x) M1_39] rfl 8 41 ⟨by omega, by omega⟩ [.ref q_44] rfl (Nat.le_of_ble_eq_true rfl) dJ8_setScale_2_138 rfl (fun _ _ h => h.elim) (fun v Ws h => ?_)
                    obtain ⟨rfl, rfl⟩ := h
                    show SW x [ob (xg x) q_44 13 [va_rf (some r1_40), .int (jI n), .int (jI 0), .null, .long (jL (-9223372036854775808))], pl (xg x) M1_39] _ _ _ _ [.ref q_44]
                    refine SW.cast (Ps' := ob (xg x) q_44 13 (flD (ssV u s n m) n (some r1_40) 0) :: [pl (xg x) M1_39]) ?_ (by simp only [flD, cpt_0 hnfS] <;> rfl) rfl rfl
                    refine sw_absD F ((by first | exact Or.inr rfl | (left; rw [(ss_u (by omega)).1, dgc_tn (by omega) (by omega)]; omega))) (fun h => by cases h) (fun b h => by cases h; exact ⟨_, by rw [(ss_u (by omega)).1]; exact hat_43⟩) (fun M_57 hle_58 hat_59 => ?_)
                    show SW x [pl (xg x) M_57] _ _ _ _ [.ref q_44]
                    exact sw_aret F (some q_44) _ rfl rfl (by first | exact Or.inl ⟨_, rfl⟩ | exact Or.inr ⟨_, rfl⟩) dJ8_setScale_2_141 (by rw [hPo]; exact ⟨M_57, q_44, some r1_40, rfl, (le_.tr hle_42 hle_58), hat_59, (by exact (ss_u (by omega)).2), rfl⟩)
                  ·
                    refine sw_aload_n (n := 128) F 4 (some q) rfl rfl rfl dJ8_setScale_2_127 rfl ?_
                    refine sw_get (n := 131) F 0 rfl (k := 2) ⟨(RJ8, TJ8, 5), rfl, by decide, q262, in_J8, Or.inl rfl⟩ rfl dJ8_setScale_2_128 rfl ?_
                    refine sw_iload (n := 133) F 2 rfl dJ8_setScale_2_131 rfl ?_
                    refine sw_iadd (n := 134) F dJ8_setScale_2_133 rfl ?_
                    refine sw_goto F (n := 138) dJ8_setScale_2_134 (by decide) ?_
                    refine SW.cast (Ps' := ob (xg x) q 13 (flD u s o pp_55) :: [plH (xg x) M1_39 q, ob (xg x) q_44 13 [.null, .int (jI 0), .int (jI 0), .null, .long (jL 0)]]) ?_ (by rfl) rfl rfl
                    refine sw_backD hgq (at_.up hx hle_42) ((by omega)) hfo (fun b9_ h9_ => (hfb b9_ h9_).imp fun _ k9_ => k9_.up hle_42) ?_
                    show SW x [pl (xg x) M1_39, ob (xg x) q_44 13 [.null, .int (jI 0), .int (jI 0), .null, .long (jL 0)]] _ _ _ _ [.int (jI (pp_55 + (n - s))), .int (jI n), .long (jL (-9223372036854775808)), .ref r1_40, .ref q_44, .ref q_44]
                    refine sw_callI (n := 141) F (ct_J8_init (g := xg x) (l := xl x) q_44 (some r1_40) (-9223372036854775808) n (pp_55 + (n - s)) ) q253 q254 q112 q255 rfl nd_J8_init rfl (by decide) [1, 0] rfl [pl (xg x) M1_39] rfl 8 41 ⟨by omega, by omega⟩ [.ref q_44] rfl (Nat.le_of_ble_eq_true rfl) dJ8_setScale_2_138 rfl (fun _ _ h => h.elim) (fun v Ws h => ?_)
                    obtain ⟨rfl, rfl⟩ := h
                    show SW x [ob (xg x) q_44 13 [va_rf (some r1_40), .int (jI n), .int (jI (pp_55 + (n - s))), .null, .long (jL (-9223372036854775808))], pl (xg x) M1_39] _ _ _ _ [.ref q_44]
                    refine SW.cast (Ps' := ob (xg x) q_44 13 (flD (ssV u s n m) n (some r1_40) (pp_55 + (n - s))) :: [pl (xg x) M1_39]) ?_ (by simp only [flD, cpt_0 hnfS] <;> rfl) rfl rfl
                    refine sw_absD F ((by first | exact Or.inr rfl | (left; rw [(ss_u (by omega)).1, dgc_tn (by omega) (by omega)]; omega))) (fun h => by cases h) (fun b h => by cases h; exact ⟨_, by rw [(ss_u (by omega)).1]; exact hat_43⟩) (fun M_60 hle_61 hat_62 => ?_)
                    show SW x [pl (xg x) M_60] _ _ _ _ [.ref q_44]
                    exact sw_aret F (some q_44) _ rfl rfl (by first | exact Or.inl ⟨_, rfl⟩ | exact Or.inr ⟨_, rfl⟩) dJ8_setScale_2_141 (by rw [hPo]; exact ⟨M_60, q_44, some r1_40, rfl, (le_.tr hle_42 hle_61), hat_62, (by exact (ss_u (by omega)).2), rfl⟩)
              ·
                have c_92 := lc_ne c_92
                refine SW.cast (L' := [(4, .long (jL (u * tn (n - s)))), (6, .int (jI (n - s))), (3, .int (jI s)), (0, .ref q), (1, .int (jI n)), (2, .int (jI m))]) ?_ rfl (by rw [show Value.long (jL (cpt (u * tn (n - s)))) = Value.long (jL (u * tn (n - s))) from topL (by omega)]) rfl
                refine sw_lload (n := 97) F 0 rfl dJ8_setScale_2_95 rfl ?_
                refine sw_iload_n (n := 98) F 4 rfl rfl dJ8_setScale_2_97 rfl ?_
                refine sw_callS (n := 101) F (ct_J8_valueOf_2 (g := xg x) (l := xl x) M (u * tn (n - s)) n (by first | omega | assumption) (by first | omega | assumption)) q1043 q1044 q112 q1045 nd_J8_valueOf_2 rfl (by decide) [0] rfl [] rfl 11 61 ⟨by omega, by omega⟩ [] rfl (Nat.le_of_ble_eq_true rfl) dJ8_setScale_2_98 rfl (fun _ _ h => h.elim) (fun v Ws h => ?_)
                obtain ⟨M1_63, r1_64, o1_65, rfl, hle_66, hat_67, rfl⟩ := h
                show SW x [pl (xg x) M1_63] _ _ _ _ [.ref r1_64]
                exact sw_aret F (some r1_64) _ rfl rfl (by first | exact Or.inl ⟨_, rfl⟩ | exact Or.inr ⟨_, rfl⟩) dJ8_setScale_2_101 (by rw [hPo]; exact ⟨M1_63, r1_64, o1_65, rfl, hle_66, (by rw [(ss_u (by omega)).1]; assumption), (by exact (ss_u (by omega)).2), rfl⟩)
        ·
          refine sw_iload_n (n := 41) F 2 rfl rfl dJ8_setScale_2_40 rfl ?_
          refine sw_callS (n := 44) F (ct_J8_zeroValueOf (g := xg x) (l := xl x) M n (by first | omega | assumption)) q1047 q1048 q112 q1049 nd_J8_zeroValueOf rfl (by decide) [0] rfl [] rfl 11 61 ⟨by omega, by omega⟩ [] rfl (Nat.le_of_ble_eq_true rfl) dJ8_setScale_2_41 rfl (fun _ _ h => h.elim) (fun v Ws h => ?_)
          obtain ⟨M1_68, r1_69, o1_70, rfl, hle_71, hat_72, rfl⟩ := h
          show SW x [pl (xg x) M1_68] _ _ _ _ [.ref r1_69]
          exact sw_aret F (some r1_69) _ rfl rfl (by first | exact Or.inl ⟨_, rfl⟩ | exact Or.inr ⟨_, rfl⟩) dJ8_setScale_2_44 (by rw [hPo]; exact ⟨M1_68, r1_69, o1_70, rfl, hle_71, (by rw [show u = 0 by omega, ss_z.1]; assumption), (by rw [show u = 0 by omega]; exact ss_z.2), rfl⟩)
      ·
        refine sw_aload_n (n := 32) F 1 (some q) rfl rfl rfl dJ8_setScale_2_31 rfl ?_
        exact sw_aret F (some q) _ rfl rfl (by first | exact Or.inl ⟨_, rfl⟩ | exact Or.inr ⟨_, rfl⟩) dJ8_setScale_2_32 (by rw [hPo]; exact ⟨M, q, o, rfl, le_.rf, (by rw [(ss_e (by omega)).1, show n = s by omega]; exact hx), (by exact (ss_e (by omega)).2), rfl⟩)
    · exfalso; omega
theorem nd_J8_setScale : yJ8_setScale.cls ≠ "java/lang/invoke/MethodHandle" ∧ yJ8_setScale.cls ≠ "java/lang/invoke/VarHandle" ∧ (parseMethodDescriptor yJ8_setScale.desc).map (fun d => d.parameters.length) = some 2 := by decide +kernel
set_option maxRecDepth 100000 in
set_option maxHeartbeats 16000000 in
theorem ct_J8_setScale {g : GG} {l : Launch} (M : Nat → Option PV) (q : Nat) (u : Int) (s : Int) (o : Option Nat) (n : Int) (a : Nat) (m : Int) (hx : at_ g M q (vD u s o)) (hbv : u.natAbs < bw 4) (hs : -1000 ≤ s ∧ s ≤ 1000) (hn : -1000 ≤ n ∧ n ≤ 1000) (hsn : -18 ≤ s - n ∧ s - n ≤ 18) (hm : 0 ≤ m ∧ m ≤ 7) (hrm : rM g a m) : Ct g l yJ8_setScale (ws_ yJ8_setScale cJ8_setScale 3 (Option.some (Jvm.ClassFile.FieldType.object "java/math/BigDecimal"))) 10 210 12 66 [.ref q, .int (jI n), .ref a] [pl g M] (fun v9 Ws9 => ∃ M1 : Nat → Option PV, ∃ r1 : Nat, ∃ o1 : Option Nat, v9 = some (.ref r1) ∧ (le_ M M1) ∧ (at_ g M1 r1 (vD (ssV u s n m) n o1)) ∧ (ssF u s n m = false) ∧ Ws9 = [pl g M1]) (fun E9 Ws9 => (E9 = "java/lang/ArithmeticException" ∧ (ssF u s n m = true) ∧ Ws9 = [pl g M])) := by
  refine Ct.of (cc := cJ8_setScale) (nL := 3) (ret := (Option.some (Jvm.ClassFile.FieldType.object "java/math/BigDecimal"))) (by decide) rfl (Nat.le_of_ble_eq_true rfl) ?_
  intro x hg hl hPo hPx hmc hms F
  subst hg; subst hl
  refine SW.cast (L' := [(0, .ref q), (1, .int (jI n)), (2, .ref a)]) ?_ rfl rfl rfl
  refine sw_aload_n (n := 1) F 0 (some q) rfl rfl rfl dJ8_setScale_0 rfl ?_
  refine sw_iload_n (n := 2) F 1 rfl rfl dJ8_setScale_1 rfl ?_
  refine sw_aload_n (n := 3) F 2 (some a) rfl rfl rfl dJ8_setScale_2 rfl ?_
  refine sw_getRM (n := 6) F hrm q4419 dJ8_setScale_3 rfl ?_
  refine sw_callV (n := 9) F (ct_J8_setScale_2 (g := xg x) (l := xl x) M q u s o n m hx hbv hs hn hsn hm) (rcvD F 0 rfl hx) q2655 q2656 q2657 q112 q2658 nd_J8_setScale_2 rfl (by decide) [0] rfl [] rfl 0 0 ⟨by omega, by omega⟩ [] rfl (Nat.le_of_ble_eq_true rfl) dJ8_setScale_6 rfl (fun E Ws h => ?_) (fun v Ws h => ?_)
  ·
    obtain ⟨rfl, hrf_7, rfl⟩ := h
    show SX x [pl (xg x) M] _ _ _ _ _
    exact sx_out F (by rw [hPx]; exact ⟨rfl, hrf_7, rfl⟩)
  ·
    obtain ⟨M1_1, r1_2, o1_3, rfl, hle_4, hat_5, hrf_6, rfl⟩ := h
    show SW x [pl (xg x) M1_1] _ _ _ _ [.ref r1_2]
    exact sw_aret F (some r1_2) _ rfl rfl (by first | exact Or.inl ⟨_, rfl⟩ | exact Or.inr ⟨_, rfl⟩) dJ8_setScale_9 (by rw [hPo]; exact ⟨M1_1, r1_2, o1_3, rfl, hle_4, hat_5, hrf_6, rfl⟩)
theorem nd_J8_setScale_3 : yJ8_setScale_3.cls ≠ "java/lang/invoke/MethodHandle" ∧ yJ8_setScale_3.cls ≠ "java/lang/invoke/VarHandle" ∧ (parseMethodDescriptor yJ8_setScale_3.desc).map (fun d => d.parameters.length) = some 1 := by decide +kernel
set_option maxRecDepth 100000 in
set_option maxHeartbeats 16000000 in
theorem ct_J8_setScale_3 {g : GG} {l : Launch} (M : Nat → Option PV) (q : Nat) (u : Int) (s : Int) (o : Option Nat) (n : Int) (hx : at_ g M q (vD u s o)) (hbv : u.natAbs < bw 4) (hs : -1000 ≤ s ∧ s ≤ 1000) (hn : -1000 ≤ n ∧ n ≤ 1000) (hsn : -18 ≤ s - n ∧ s - n ≤ 18) : Ct g l yJ8_setScale_3 (ws_ yJ8_setScale_3 cJ8_setScale_3 2 (Option.some (Jvm.ClassFile.FieldType.object "java/math/BigDecimal"))) 10 210 12 66 [.ref q, .int (jI n)] [pl g M] (fun v9 Ws9 => ∃ M1 : Nat → Option PV, ∃ r1 : Nat, ∃ o1 : Option Nat, v9 = some (.ref r1) ∧ (le_ M M1) ∧ (at_ g M1 r1 (vD (ssV u s n 7) n o1)) ∧ (ssF u s n 7 = false) ∧ Ws9 = [pl g M1]) (fun E9 Ws9 => (E9 = "java/lang/ArithmeticException" ∧ (ssF u s n 7 = true) ∧ Ws9 = [pl g M])) := by
  refine Ct.of (cc := cJ8_setScale_3) (nL := 2) (ret := (Option.some (Jvm.ClassFile.FieldType.object "java/math/BigDecimal"))) (by decide) rfl (Nat.le_of_ble_eq_true rfl) ?_
  intro x hg hl hPo hPx hmc hms F
  subst hg; subst hl
  refine SW.cast (L' := [(0, .ref q), (1, .int (jI n))]) ?_ rfl rfl rfl
  refine sw_aload_n (n := 1) F 0 (some q) rfl rfl rfl dJ8_setScale_3_0 rfl ?_
  refine sw_iload_n (n := 2) F 1 rfl rfl dJ8_setScale_3_1 rfl ?_
  refine sw_bipush (n := 4) F (7) (by decide) dJ8_setScale_3_2 rfl ?_
  refine sw_callV (n := 7) F (ct_J8_setScale_2 (g := xg x) (l := xl x) M q u s o n 7 hx hbv hs hn hsn (by decide)) (rcvD F 0 rfl hx) q2655 q2656 q2657 q112 q2658 nd_J8_setScale_2 rfl (by decide) [0] rfl [] rfl 0 0 ⟨by omega, by omega⟩ [] rfl (Nat.le_of_ble_eq_true rfl) dJ8_setScale_3_4 rfl (fun E Ws h => ?_) (fun v Ws h => ?_)
  ·
    obtain ⟨rfl, hrf_7, rfl⟩ := h
    show SX x [pl (xg x) M] _ _ _ _ _
    exact sx_out F (by rw [hPx]; exact ⟨rfl, hrf_7, rfl⟩)
  ·
    obtain ⟨M1_1, r1_2, o1_3, rfl, hle_4, hat_5, hrf_6, rfl⟩ := h
    show SW x [pl (xg x) M1_1] _ _ _ _ [.ref r1_2]
    exact sw_aret F (some r1_2) _ rfl rfl (by first | exact Or.inl ⟨_, rfl⟩ | exact Or.inr ⟨_, rfl⟩) dJ8_setScale_3_7 (by rw [hPo]; exact ⟨M1_1, r1_2, o1_3, rfl, hle_4, hat_5, hrf_6, rfl⟩)
