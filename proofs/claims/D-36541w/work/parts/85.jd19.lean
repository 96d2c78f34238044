set_option maxRecDepth 100000
def dkwJ8_round_0 : List UInt8 := [42, 43, 182, 2, 78, 176]
abbrev dktJ8_round_0 : List UInt8 := dkwJ8_round_0 ++ []
theorem dksJ8_round_0 : cJ8_round.data.toList.drop 0 = dktJ8_round_0 := by decide +kernel
theorem dJ8_round_0 : decode cJ8_round 0 = .ok (.aload_n 0, 1) := dk_42 (dk_at dksJ8_round_0 0 rfl rfl)
theorem dJ8_round_1 : decode cJ8_round 1 = .ok (.aload_n 1, 1) := dk_43 (dk_at dksJ8_round_0 1 rfl rfl)
theorem dJ8_round_2 : decode cJ8_round 2 = .ok (.invokevirtual 590, 3) := dk_182 2 78 (dk_at dksJ8_round_0 2 rfl rfl)
theorem dJ8_round_5 : decode cJ8_round 5 = .ok (.areturn, 1) := dk_176 (dk_at dksJ8_round_0 5 rfl rfl)
def dkwJ8_plus_0 : List UInt8 := [43, 180, 0, 94, 154, 0, 5, 42, 176, 42, 43, 184, 1, 25, 176]
abbrev dktJ8_plus_0 : List UInt8 := dkwJ8_plus_0 ++ []
theorem dksJ8_plus_0 : cJ8_plus.data.toList.drop 0 = dktJ8_plus_0 := by decide +kernel
theorem dJ8_plus_0 : decode cJ8_plus 0 = .ok (.aload_n 1, 1) := dk_43 (dk_at dksJ8_plus_0 0 rfl rfl)
theorem dJ8_plus_1 : decode cJ8_plus 1 = .ok (.getfield 94, 3) := dk_180 0 94 (dk_at dksJ8_plus_0 1 rfl rfl)
theorem dJ8_plus_4 : decode cJ8_plus 4 = .ok (.ifCond .ne 5, 3) := dk_154 0 5 (dk_at dksJ8_plus_0 4 rfl rfl)
theorem dJ8_plus_7 : decode cJ8_plus 7 = .ok (.aload_n 0, 1) := dk_42 (dk_at dksJ8_plus_0 7 rfl rfl)
theorem dJ8_plus_8 : decode cJ8_plus 8 = .ok (.areturn, 1) := dk_176 (dk_at dksJ8_plus_0 8 rfl rfl)
theorem dJ8_plus_9 : decode cJ8_plus 9 = .ok (.aload_n 0, 1) := dk_42 (dk_at dksJ8_plus_0 9 rfl rfl)
theorem dJ8_plus_10 : decode cJ8_plus 10 = .ok (.aload_n 1, 1) := dk_43 (dk_at dksJ8_plus_0 10 rfl rfl)
theorem dJ8_plus_11 : decode cJ8_plus 11 = .ok (.invokestatic 281, 3) := dk_184 1 25 (dk_at dksJ8_plus_0 11 rfl rfl)
theorem dJ8_plus_14 : decode cJ8_plus 14 = .ok (.areturn, 1) := dk_176 (dk_at dksJ8_plus_0 14 rfl rfl)
def dkwJ8_doRound_9 : List UInt8 := [89, 25, 4, 22, 5, 21, 7, 21, 8, 183, 0, 243, 167, 0, 4, 42, 176, 42, 176]
abbrev dktJ8_doRound_9 : List UInt8 := dkwJ8_doRound_9 ++ []
def dkwJ8_doRound_8 : List UInt8 := [184, 0, 112, 54, 8, 21, 8, 28, 100, 54, 10, 1, 58, 4, 167, 255, 201, 29, 153, 0, 21, 187, 0, 3]
abbrev dktJ8_doRound_8 : List UInt8 := dkwJ8_doRound_8 ++ dktJ8_doRound_9
def dkwJ8_doRound_7 : List UInt8 := [22, 5, 178, 0, 95, 21, 10, 47, 43, 180, 0, 99, 180, 0, 103, 184, 0, 108, 55, 5, 4, 62, 22, 5]
abbrev dktJ8_doRound_7 : List UInt8 := dkwJ8_doRound_7 ++ dktJ8_doRound_8
def dkwJ8_doRound_6 : List UInt8 := [21, 8, 28, 100, 54, 10, 21, 10, 158, 0, 56, 21, 7, 133, 21, 10, 133, 101, 184, 0, 207, 54, 7]
abbrev dktJ8_doRound_6 : List UInt8 := dkwJ8_doRound_6 ++ dktJ8_doRound_7
def dkwJ8_doRound_5 : List UInt8 := [184, 0, 131, 54, 8, 21, 8, 28, 100, 54, 10, 167, 255, 187, 22, 5, 20, 0, 125, 148, 153, 0, 67]
abbrev dktJ8_doRound_5 : List UInt8 := dkwJ8_doRound_5 ++ dktJ8_doRound_6
def dkwJ8_doRound_4 : List UInt8 := [55, 5, 22, 5, 20, 0, 125, 148, 153, 0, 13, 22, 5, 184, 0, 112, 54, 8, 167, 0, 19, 25, 4]
abbrev dktJ8_doRound_4 : List UInt8 := dkwJ8_doRound_4 ++ dktJ8_doRound_5
def dkwJ8_doRound_3 : List UInt8 := [101, 184, 0, 207, 54, 7, 25, 4, 21, 10, 21, 9, 184, 0, 127, 58, 4, 4, 62, 25, 4, 184, 0, 121]
abbrev dktJ8_doRound_3 : List UInt8 := dkwJ8_doRound_3 ++ dktJ8_doRound_4
def dkwJ8_doRound_2 : List UInt8 := [20, 0, 125, 148, 154, 0, 81, 21, 8, 28, 100, 54, 10, 21, 10, 158, 0, 70, 21, 7, 133, 21, 10, 133]
abbrev dktJ8_doRound_2 : List UInt8 := dkwJ8_doRound_2 ++ dktJ8_doRound_3
def dkwJ8_doRound_1 : List UInt8 := [180, 0, 17, 54, 7, 42, 182, 1, 33, 54, 8, 43, 180, 0, 99, 180, 0, 103, 54, 9, 22, 5]
abbrev dktJ8_doRound_1 : List UInt8 := dkwJ8_doRound_1 ++ dktJ8_doRound_2
def dkwJ8_doRound_0 : List UInt8 := [43, 180, 0, 94, 61, 3, 62, 28, 158, 0, 220, 42, 180, 0, 28, 58, 4, 42, 180, 0, 24, 55, 5, 42]
abbrev dktJ8_doRound_0 : List UInt8 := dkwJ8_doRound_0 ++ dktJ8_doRound_1
theorem dksJ8_doRound_0 : cJ8_doRound.data.toList.drop 0 = dktJ8_doRound_0 := by decide +kernel
theorem dksJ8_doRound_1 : cJ8_doRound.data.toList.drop 24 = dktJ8_doRound_1 := dk_seg dksJ8_doRound_0 24 rfl rfl
theorem dksJ8_doRound_2 : cJ8_doRound.data.toList.drop 46 = dktJ8_doRound_2 := dk_seg dksJ8_doRound_1 22 rfl rfl
theorem dksJ8_doRound_3 : cJ8_doRound.data.toList.drop 70 = dktJ8_doRound_3 := dk_seg dksJ8_doRound_2 24 rfl rfl
theorem dksJ8_doRound_4 : cJ8_doRound.data.toList.drop 94 = dktJ8_doRound_4 := dk_seg dksJ8_doRound_3 24 rfl rfl
theorem dksJ8_doRound_5 : cJ8_doRound.data.toList.drop 117 = dktJ8_doRound_5 := dk_seg dksJ8_doRound_4 23 rfl rfl
theorem dksJ8_doRound_6 : cJ8_doRound.data.toList.drop 140 = dktJ8_doRound_6 := dk_seg dksJ8_doRound_5 23 rfl rfl
theorem dksJ8_doRound_7 : cJ8_doRound.data.toList.drop 163 = dktJ8_doRound_7 := dk_seg dksJ8_doRound_6 23 rfl rfl
theorem dksJ8_doRound_8 : cJ8_doRound.data.toList.drop 187 = dktJ8_doRound_8 := dk_seg dksJ8_doRound_7 24 rfl rfl
theorem dksJ8_doRound_9 : cJ8_doRound.data.toList.drop 211 = dktJ8_doRound_9 := dk_seg dksJ8_doRound_8 24 rfl rfl
theorem dJ8_doRound_0 : decode cJ8_doRound 0 = .ok (.aload_n 1, 1) := dk_43 (dk_at dksJ8_doRound_0 0 rfl rfl)
theorem dJ8_doRound_1 : decode cJ8_doRound 1 = .ok (.getfield 94, 3) := dk_180 0 94 (dk_at dksJ8_doRound_0 1 rfl rfl)
theorem dJ8_doRound_4 : decode cJ8_doRound 4 = .ok (.istore_n 2, 1) := dk_61 (dk_at dksJ8_doRound_0 4 rfl rfl)
theorem dJ8_doRound_5 : decode cJ8_doRound 5 = .ok (.iconst 0, 1) := dk_3 (dk_at dksJ8_doRound_0 5 rfl rfl)
theorem dJ8_doRound_6 : decode cJ8_doRound 6 = .ok (.istore_n 3, 1) := dk_62 (dk_at dksJ8_doRound_0 6 rfl rfl)
theorem dJ8_doRound_7 : decode cJ8_doRound 7 = .ok (.iload_n 2, 1) := dk_28 (dk_at dksJ8_doRound_0 7 rfl rfl)
theorem dJ8_doRound_8 : decode cJ8_doRound 8 = .ok (.ifCond .le 220, 3) := dk_158 0 220 (dk_at dksJ8_doRound_0 8 rfl rfl)
theorem dJ8_doRound_11 : decode cJ8_doRound 11 = .ok (.aload_n 0, 1) := dk_42 (dk_at dksJ8_doRound_0 11 rfl rfl)
theorem dJ8_doRound_12 : decode cJ8_doRound 12 = .ok (.getfield 28, 3) := dk_180 0 28 (dk_at dksJ8_doRound_0 12 rfl rfl)
theorem dJ8_doRound_15 : decode cJ8_doRound 15 = .ok (.astore 4, 2) := dk_58 4 (dk_at dksJ8_doRound_0 15 rfl rfl)
theorem dJ8_doRound_17 : decode cJ8_doRound 17 = .ok (.aload_n 0, 1) := dk_42 (dk_at dksJ8_doRound_0 17 rfl rfl)
theorem dJ8_doRound_18 : decode cJ8_doRound 18 = .ok (.getfield 24, 3) := dk_180 0 24 (dk_at dksJ8_doRound_0 18 rfl rfl)
theorem dJ8_doRound_21 : decode cJ8_doRound 21 = .ok (.lstore 5, 2) := dk_55 5 (dk_at dksJ8_doRound_0 21 rfl rfl)
theorem dJ8_doRound_23 : decode cJ8_doRound 23 = .ok (.aload_n 0, 1) := dk_42 (dk_at dksJ8_doRound_0 23 rfl rfl)
theorem dJ8_doRound_24 : decode cJ8_doRound 24 = .ok (.getfield 17, 3) := dk_180 0 17 (dk_at dksJ8_doRound_1 0 rfl rfl)
theorem dJ8_doRound_27 : decode cJ8_doRound 27 = .ok (.istore 7, 2) := dk_54 7 (dk_at dksJ8_doRound_1 3 rfl rfl)
theorem dJ8_doRound_29 : decode cJ8_doRound 29 = .ok (.aload_n 0, 1) := dk_42 (dk_at dksJ8_doRound_1 5 rfl rfl)
theorem dJ8_doRound_30 : decode cJ8_doRound 30 = .ok (.invokevirtual 289, 3) := dk_182 1 33 (dk_at dksJ8_doRound_1 6 rfl rfl)
theorem dJ8_doRound_33 : decode cJ8_doRound 33 = .ok (.istore 8, 2) := dk_54 8 (dk_at dksJ8_doRound_1 9 rfl rfl)
theorem dJ8_doRound_35 : decode cJ8_doRound 35 = .ok (.aload_n 1, 1) := dk_43 (dk_at dksJ8_doRound_1 11 rfl rfl)
theorem dJ8_doRound_36 : decode cJ8_doRound 36 = .ok (.getfield 99, 3) := dk_180 0 99 (dk_at dksJ8_doRound_1 12 rfl rfl)
theorem dJ8_doRound_39 : decode cJ8_doRound 39 = .ok (.getfield 103, 3) := dk_180 0 103 (dk_at dksJ8_doRound_1 15 rfl rfl)
theorem dJ8_doRound_42 : decode cJ8_doRound 42 = .ok (.istore 9, 2) := dk_54 9 (dk_at dksJ8_doRound_1 18 rfl rfl)
theorem dJ8_doRound_44 : decode cJ8_doRound 44 = .ok (.lload 5, 2) := dk_22 5 (dk_at dksJ8_doRound_1 20 rfl rfl)
theorem dJ8_doRound_46 : decode cJ8_doRound 46 = .ok (.ldc2_w 125, 3) := dk_20 0 125 (dk_at dksJ8_doRound_2 0 rfl rfl)
theorem dJ8_doRound_49 : decode cJ8_doRound 49 = .ok (.lcmp, 1) := dk_148 (dk_at dksJ8_doRound_2 3 rfl rfl)
theorem dJ8_doRound_50 : decode cJ8_doRound 50 = .ok (.ifCond .ne 81, 3) := dk_154 0 81 (dk_at dksJ8_doRound_2 4 rfl rfl)
theorem dJ8_doRound_53 : decode cJ8_doRound 53 = .ok (.iload 8, 2) := dk_21 8 (dk_at dksJ8_doRound_2 7 rfl rfl)
theorem dJ8_doRound_55 : decode cJ8_doRound 55 = .ok (.iload_n 2, 1) := dk_28 (dk_at dksJ8_doRound_2 9 rfl rfl)
theorem dJ8_doRound_56 : decode cJ8_doRound 56 = .ok (.isub, 1) := dk_100 (dk_at dksJ8_doRound_2 10 rfl rfl)
theorem dJ8_doRound_57 : decode cJ8_doRound 57 = .ok (.istore 10, 2) := dk_54 10 (dk_at dksJ8_doRound_2 11 rfl rfl)
theorem dJ8_doRound_59 : decode cJ8_doRound 59 = .ok (.iload 10, 2) := dk_21 10 (dk_at dksJ8_doRound_2 13 rfl rfl)
theorem dJ8_doRound_61 : decode cJ8_doRound 61 = .ok (.ifCond .le 70, 3) := dk_158 0 70 (dk_at dksJ8_doRound_2 15 rfl rfl)
theorem dJ8_doRound_64 : decode cJ8_doRound 64 = .ok (.iload 7, 2) := dk_21 7 (dk_at dksJ8_doRound_2 18 rfl rfl)
theorem dJ8_doRound_66 : decode cJ8_doRound 66 = .ok (.i2l, 1) := dk_133 (dk_at dksJ8_doRound_2 20 rfl rfl)
theorem dJ8_doRound_67 : decode cJ8_doRound 67 = .ok (.iload 10, 2) := dk_21 10 (dk_at dksJ8_doRound_2 21 rfl rfl)
theorem dJ8_doRound_69 : decode cJ8_doRound 69 = .ok (.i2l, 1) := dk_133 (dk_at dksJ8_doRound_2 23 rfl rfl)
theorem dJ8_doRound_70 : decode cJ8_doRound 70 = .ok (.lsub, 1) := dk_101 (dk_at dksJ8_doRound_3 0 rfl rfl)
theorem dJ8_doRound_71 : decode cJ8_doRound 71 = .ok (.invokestatic 207, 3) := dk_184 0 207 (dk_at dksJ8_doRound_3 1 rfl rfl)
theorem dJ8_doRound_74 : decode cJ8_doRound 74 = .ok (.istore 7, 2) := dk_54 7 (dk_at dksJ8_doRound_3 4 rfl rfl)
theorem dJ8_doRound_76 : decode cJ8_doRound 76 = .ok (.aload 4, 2) := dk_25 4 (dk_at dksJ8_doRound_3 6 rfl rfl)
theorem dJ8_doRound_78 : decode cJ8_doRound 78 = .ok (.iload 10, 2) := dk_21 10 (dk_at dksJ8_doRound_3 8 rfl rfl)
theorem dJ8_doRound_80 : decode cJ8_doRound 80 = .ok (.iload 9, 2) := dk_21 9 (dk_at dksJ8_doRound_3 10 rfl rfl)
theorem dJ8_doRound_82 : decode cJ8_doRound 82 = .ok (.invokestatic 127, 3) := dk_184 0 127 (dk_at dksJ8_doRound_3 12 rfl rfl)
theorem dJ8_doRound_85 : decode cJ8_doRound 85 = .ok (.astore 4, 2) := dk_58 4 (dk_at dksJ8_doRound_3 15 rfl rfl)
theorem dJ8_doRound_87 : decode cJ8_doRound 87 = .ok (.iconst 1, 1) := dk_4 (dk_at dksJ8_doRound_3 17 rfl rfl)
theorem dJ8_doRound_88 : decode cJ8_doRound 88 = .ok (.istore_n 3, 1) := dk_62 (dk_at dksJ8_doRound_3 18 rfl rfl)
theorem dJ8_doRound_89 : decode cJ8_doRound 89 = .ok (.aload 4, 2) := dk_25 4 (dk_at dksJ8_doRound_3 19 rfl rfl)
theorem dJ8_doRound_91 : decode cJ8_doRound 91 = .ok (.invokestatic 121, 3) := dk_184 0 121 (dk_at dksJ8_doRound_3 21 rfl rfl)
theorem dJ8_doRound_94 : decode cJ8_doRound 94 = .ok (.lstore 5, 2) := dk_55 5 (dk_at dksJ8_doRound_4 0 rfl rfl)
theorem dJ8_doRound_96 : decode cJ8_doRound 96 = .ok (.lload 5, 2) := dk_22 5 (dk_at dksJ8_doRound_4 2 rfl rfl)
theorem dJ8_doRound_98 : decode cJ8_doRound 98 = .ok (.ldc2_w 125, 3) := dk_20 0 125 (dk_at dksJ8_doRound_4 4 rfl rfl)
theorem dJ8_doRound_101 : decode cJ8_doRound 101 = .ok (.lcmp, 1) := dk_148 (dk_at dksJ8_doRound_4 7 rfl rfl)
theorem dJ8_doRound_102 : decode cJ8_doRound 102 = .ok (.ifCond .eq 13, 3) := dk_153 0 13 (dk_at dksJ8_doRound_4 8 rfl rfl)
theorem dJ8_doRound_105 : decode cJ8_doRound 105 = .ok (.lload 5, 2) := dk_22 5 (dk_at dksJ8_doRound_4 11 rfl rfl)
theorem dJ8_doRound_107 : decode cJ8_doRound 107 = .ok (.invokestatic 112, 3) := dk_184 0 112 (dk_at dksJ8_doRound_4 13 rfl rfl)
theorem dJ8_doRound_110 : decode cJ8_doRound 110 = .ok (.istore 8, 2) := dk_54 8 (dk_at dksJ8_doRound_4 16 rfl rfl)
theorem dJ8_doRound_112 : decode cJ8_doRound 112 = .ok (.goto 19, 3) := dk_167 0 19 (dk_at dksJ8_doRound_4 18 rfl rfl)
theorem dJ8_doRound_115 : decode cJ8_doRound 115 = .ok (.aload 4, 2) := dk_25 4 (dk_at dksJ8_doRound_4 21 rfl rfl)
theorem dJ8_doRound_117 : decode cJ8_doRound 117 = .ok (.invokestatic 131, 3) := dk_184 0 131 (dk_at dksJ8_doRound_5 0 rfl rfl)
theorem dJ8_doRound_120 : decode cJ8_doRound 120 = .ok (.istore 8, 2) := dk_54 8 (dk_at dksJ8_doRound_5 3 rfl rfl)
theorem dJ8_doRound_122 : decode cJ8_doRound 122 = .ok (.iload 8, 2) := dk_21 8 (dk_at dksJ8_doRound_5 5 rfl rfl)
theorem dJ8_doRound_124 : decode cJ8_doRound 124 = .ok (.iload_n 2, 1) := dk_28 (dk_at dksJ8_doRound_5 7 rfl rfl)
theorem dJ8_doRound_125 : decode cJ8_doRound 125 = .ok (.isub, 1) := dk_100 (dk_at dksJ8_doRound_5 8 rfl rfl)
theorem dJ8_doRound_126 : decode cJ8_doRound 126 = .ok (.istore 10, 2) := dk_54 10 (dk_at dksJ8_doRound_5 9 rfl rfl)
theorem dJ8_doRound_128 : decode cJ8_doRound 128 = .ok (.goto (-69), 3) := dk_167 255 187 (dk_at dksJ8_doRound_5 11 rfl rfl)
theorem dJ8_doRound_131 : decode cJ8_doRound 131 = .ok (.lload 5, 2) := dk_22 5 (dk_at dksJ8_doRound_5 14 rfl rfl)
theorem dJ8_doRound_133 : decode cJ8_doRound 133 = .ok (.ldc2_w 125, 3) := dk_20 0 125 (dk_at dksJ8_doRound_5 16 rfl rfl)
theorem dJ8_doRound_136 : decode cJ8_doRound 136 = .ok (.lcmp, 1) := dk_148 (dk_at dksJ8_doRound_5 19 rfl rfl)
theorem dJ8_doRound_137 : decode cJ8_doRound 137 = .ok (.ifCond .eq 67, 3) := dk_153 0 67 (dk_at dksJ8_doRound_5 20 rfl rfl)
theorem dJ8_doRound_140 : decode cJ8_doRound 140 = .ok (.iload 8, 2) := dk_21 8 (dk_at dksJ8_doRound_6 0 rfl rfl)
theorem dJ8_doRound_142 : decode cJ8_doRound 142 = .ok (.iload_n 2, 1) := dk_28 (dk_at dksJ8_doRound_6 2 rfl rfl)
theorem dJ8_doRound_143 : decode cJ8_doRound 143 = .ok (.isub, 1) := dk_100 (dk_at dksJ8_doRound_6 3 rfl rfl)
theorem dJ8_doRound_144 : decode cJ8_doRound 144 = .ok (.istore 10, 2) := dk_54 10 (dk_at dksJ8_doRound_6 4 rfl rfl)
theorem dJ8_doRound_146 : decode cJ8_doRound 146 = .ok (.iload 10, 2) := dk_21 10 (dk_at dksJ8_doRound_6 6 rfl rfl)
theorem dJ8_doRound_148 : decode cJ8_doRound 148 = .ok (.ifCond .le 56, 3) := dk_158 0 56 (dk_at dksJ8_doRound_6 8 rfl rfl)
theorem dJ8_doRound_151 : decode cJ8_doRound 151 = .ok (.iload 7, 2) := dk_21 7 (dk_at dksJ8_doRound_6 11 rfl rfl)
theorem dJ8_doRound_153 : decode cJ8_doRound 153 = .ok (.i2l, 1) := dk_133 (dk_at dksJ8_doRound_6 13 rfl rfl)
theorem dJ8_doRound_154 : decode cJ8_doRound 154 = .ok (.iload 10, 2) := dk_21 10 (dk_at dksJ8_doRound_6 14 rfl rfl)
theorem dJ8_doRound_156 : decode cJ8_doRound 156 = .ok (.i2l, 1) := dk_133 (dk_at dksJ8_doRound_6 16 rfl rfl)
theorem dJ8_doRound_157 : decode cJ8_doRound 157 = .ok (.lsub, 1) := dk_101 (dk_at dksJ8_doRound_6 17 rfl rfl)
theorem dJ8_doRound_158 : decode cJ8_doRound 158 = .ok (.invokestatic 207, 3) := dk_184 0 207 (dk_at dksJ8_doRound_6 18 rfl rfl)
theorem dJ8_doRound_161 : decode cJ8_doRound 161 = .ok (.istore 7, 2) := dk_54 7 (dk_at dksJ8_doRound_6 21 rfl rfl)
theorem dJ8_doRound_163 : decode cJ8_doRound 163 = .ok (.lload 5, 2) := dk_22 5 (dk_at dksJ8_doRound_7 0 rfl rfl)
theorem dJ8_doRound_165 : decode cJ8_doRound 165 = .ok (.getstatic 95, 3) := dk_178 0 95 (dk_at dksJ8_doRound_7 2 rfl rfl)
theorem dJ8_doRound_168 : decode cJ8_doRound 168 = .ok (.iload 10, 2) := dk_21 10 (dk_at dksJ8_doRound_7 5 rfl rfl)
theorem dJ8_doRound_170 : decode cJ8_doRound 170 = .ok (.laload, 1) := dk_47 (dk_at dksJ8_doRound_7 7 rfl rfl)
theorem dJ8_doRound_171 : decode cJ8_doRound 171 = .ok (.aload_n 1, 1) := dk_43 (dk_at dksJ8_doRound_7 8 rfl rfl)
theorem dJ8_doRound_172 : decode cJ8_doRound 172 = .ok (.getfield 99, 3) := dk_180 0 99 (dk_at dksJ8_doRound_7 9 rfl rfl)
theorem dJ8_doRound_175 : decode cJ8_doRound 175 = .ok (.getfield 103, 3) := dk_180 0 103 (dk_at dksJ8_doRound_7 12 rfl rfl)
theorem dJ8_doRound_178 : decode cJ8_doRound 178 = .ok (.invokestatic 108, 3) := dk_184 0 108 (dk_at dksJ8_doRound_7 15 rfl rfl)
theorem dJ8_doRound_181 : decode cJ8_doRound 181 = .ok (.lstore 5, 2) := dk_55 5 (dk_at dksJ8_doRound_7 18 rfl rfl)
theorem dJ8_doRound_183 : decode cJ8_doRound 183 = .ok (.iconst 1, 1) := dk_4 (dk_at dksJ8_doRound_7 20 rfl rfl)
theorem dJ8_doRound_184 : decode cJ8_doRound 184 = .ok (.istore_n 3, 1) := dk_62 (dk_at dksJ8_doRound_7 21 rfl rfl)
theorem dJ8_doRound_185 : decode cJ8_doRound 185 = .ok (.lload 5, 2) := dk_22 5 (dk_at dksJ8_doRound_7 22 rfl rfl)
theorem dJ8_doRound_187 : decode cJ8_doRound 187 = .ok (.invokestatic 112, 3) := dk_184 0 112 (dk_at dksJ8_doRound_8 0 rfl rfl)
theorem dJ8_doRound_190 : decode cJ8_doRound 190 = .ok (.istore 8, 2) := dk_54 8 (dk_at dksJ8_doRound_8 3 rfl rfl)
theorem dJ8_doRound_192 : decode cJ8_doRound 192 = .ok (.iload 8, 2) := dk_21 8 (dk_at dksJ8_doRound_8 5 rfl rfl)
theorem dJ8_doRound_194 : decode cJ8_doRound 194 = .ok (.iload_n 2, 1) := dk_28 (dk_at dksJ8_doRound_8 7 rfl rfl)
theorem dJ8_doRound_195 : decode cJ8_doRound 195 = .ok (.isub, 1) := dk_100 (dk_at dksJ8_doRound_8 8 rfl rfl)
theorem dJ8_doRound_196 : decode cJ8_doRound 196 = .ok (.istore 10, 2) := dk_54 10 (dk_at dksJ8_doRound_8 9 rfl rfl)
theorem dJ8_doRound_198 : decode cJ8_doRound 198 = .ok (.aconst_null, 1) := dk_1 (dk_at dksJ8_doRound_8 11 rfl rfl)
theorem dJ8_doRound_199 : decode cJ8_doRound 199 = .ok (.astore 4, 2) := dk_58 4 (dk_at dksJ8_doRound_8 12 rfl rfl)
theorem dJ8_doRound_201 : decode cJ8_doRound 201 = .ok (.goto (-55), 3) := dk_167 255 201 (dk_at dksJ8_doRound_8 14 rfl rfl)
theorem dJ8_doRound_204 : decode cJ8_doRound 204 = .ok (.iload_n 3, 1) := dk_29 (dk_at dksJ8_doRound_8 17 rfl rfl)
theorem dJ8_doRound_205 : decode cJ8_doRound 205 = .ok (.ifCond .eq 21, 3) := dk_153 0 21 (dk_at dksJ8_doRound_8 18 rfl rfl)
theorem dJ8_doRound_208 : decode cJ8_doRound 208 = .ok (.new 3, 3) := dk_187 0 3 (dk_at dksJ8_doRound_8 21 rfl rfl)
theorem dJ8_doRound_211 : decode cJ8_doRound 211 = .ok (.dup, 1) := dk_89 (dk_at dksJ8_doRound_9 0 rfl rfl)
theorem dJ8_doRound_212 : decode cJ8_doRound 212 = .ok (.aload 4, 2) := dk_25 4 (dk_at dksJ8_doRound_9 1 rfl rfl)
theorem dJ8_doRound_214 : decode cJ8_doRound 214 = .ok (.lload 5, 2) := dk_22 5 (dk_at dksJ8_doRound_9 3 rfl rfl)
theorem dJ8_doRound_216 : decode cJ8_doRound 216 = .ok (.iload 7, 2) := dk_21 7 (dk_at dksJ8_doRound_9 5 rfl rfl)
theorem dJ8_doRound_218 : decode cJ8_doRound 218 = .ok (.iload 8, 2) := dk_21 8 (dk_at dksJ8_doRound_9 7 rfl rfl)
theorem dJ8_doRound_220 : decode cJ8_doRound 220 = .ok (.invokespecial 243, 3) := dk_183 0 243 (dk_at dksJ8_doRound_9 9 rfl rfl)
theorem dJ8_doRound_223 : decode cJ8_doRound 223 = .ok (.goto 4, 3) := dk_167 0 4 (dk_at dksJ8_doRound_9 12 rfl rfl)
theorem dJ8_doRound_226 : decode cJ8_doRound 226 = .ok (.aload_n 0, 1) := dk_42 (dk_at dksJ8_doRound_9 15 rfl rfl)
theorem dJ8_doRound_227 : decode cJ8_doRound 227 = .ok (.areturn, 1) := dk_176 (dk_at dksJ8_doRound_9 16 rfl rfl)
theorem dJ8_doRound_228 : decode cJ8_doRound 228 = .ok (.aload_n 0, 1) := dk_42 (dk_at dksJ8_doRound_9 17 rfl rfl)
theorem dJ8_doRound_229 : decode cJ8_doRound 229 = .ok (.areturn, 1) := dk_176 (dk_at dksJ8_doRound_9 18 rfl rfl)
def dkwJ8_checkScaleNonZero_1 : List UInt8 := [19, 2, 182, 183, 1, 132, 191, 28, 172]
abbrev dktJ8_checkScaleNonZero_1 : List UInt8 := dkwJ8_checkScaleNonZero_1 ++ []
def dkwJ8_checkScaleNonZero_0 : List UInt8 := [30, 136, 61, 28, 133, 30, 148, 153, 0, 24, 187, 1, 128, 89, 28, 158, 0, 9, 19, 3, 108, 167, 0, 6]
abbrev dktJ8_checkScaleNonZero_0 : List UInt8 := dkwJ8_checkScaleNonZero_0 ++ dktJ8_checkScaleNonZero_1
theorem dksJ8_checkScaleNonZero_0 : cJ8_checkScaleNonZero.data.toList.drop 0 = dktJ8_checkScaleNonZero_0 := by decide +kernel
theorem dksJ8_checkScaleNonZero_1 : cJ8_checkScaleNonZero.data.toList.drop 24 = dktJ8_checkScaleNonZero_1 := dk_seg dksJ8_checkScaleNonZero_0 24 rfl rfl
theorem dJ8_checkScaleNonZero_0 : decode cJ8_checkScaleNonZero 0 = .ok (.lload_n 0, 1) := dk_30 (dk_at dksJ8_checkScaleNonZero_0 0 rfl rfl)
theorem dJ8_checkScaleNonZero_1 : decode cJ8_checkScaleNonZero 1 = .ok (.l2i, 1) := dk_136 (dk_at dksJ8_checkScaleNonZero_0 1 rfl rfl)
theorem dJ8_checkScaleNonZero_2 : decode cJ8_checkScaleNonZero 2 = .ok (.istore_n 2, 1) := dk_61 (dk_at dksJ8_checkScaleNonZero_0 2 rfl rfl)
theorem dJ8_checkScaleNonZero_3 : decode cJ8_checkScaleNonZero 3 = .ok (.iload_n 2, 1) := dk_28 (dk_at dksJ8_checkScaleNonZero_0 3 rfl rfl)
theorem dJ8_checkScaleNonZero_4 : decode cJ8_checkScaleNonZero 4 = .ok (.i2l, 1) := dk_133 (dk_at dksJ8_checkScaleNonZero_0 4 rfl rfl)
theorem dJ8_checkScaleNonZero_5 : decode cJ8_checkScaleNonZero 5 = .ok (.lload_n 0, 1) := dk_30 (dk_at dksJ8_checkScaleNonZero_0 5 rfl rfl)
theorem dJ8_checkScaleNonZero_6 : decode cJ8_checkScaleNonZero 6 = .ok (.lcmp, 1) := dk_148 (dk_at dksJ8_checkScaleNonZero_0 6 rfl rfl)
theorem dJ8_checkScaleNonZero_7 : decode cJ8_checkScaleNonZero 7 = .ok (.ifCond .eq 24, 3) := dk_153 0 24 (dk_at dksJ8_checkScaleNonZero_0 7 rfl rfl)
theorem dJ8_checkScaleNonZero_10 : decode cJ8_checkScaleNonZero 10 = .ok (.new 384, 3) := dk_187 1 128 (dk_at dksJ8_checkScaleNonZero_0 10 rfl rfl)
theorem dJ8_checkScaleNonZero_13 : decode cJ8_checkScaleNonZero 13 = .ok (.dup, 1) := dk_89 (dk_at dksJ8_checkScaleNonZero_0 13 rfl rfl)
theorem dJ8_checkScaleNonZero_14 : decode cJ8_checkScaleNonZero 14 = .ok (.iload_n 2, 1) := dk_28 (dk_at dksJ8_checkScaleNonZero_0 14 rfl rfl)
theorem dJ8_checkScaleNonZero_15 : decode cJ8_checkScaleNonZero 15 = .ok (.ifCond .le 9, 3) := dk_158 0 9 (dk_at dksJ8_checkScaleNonZero_0 15 rfl rfl)
theorem dJ8_checkScaleNonZero_18 : decode cJ8_checkScaleNonZero 18 = .ok (.ldc_w 876, 3) := dk_19 3 108 (dk_at dksJ8_checkScaleNonZero_0 18 rfl rfl)
theorem dJ8_checkScaleNonZero_21 : decode cJ8_checkScaleNonZero 21 = .ok (.goto 6, 3) := dk_167 0 6 (dk_at dksJ8_checkScaleNonZero_0 21 rfl rfl)
theorem dJ8_checkScaleNonZero_24 : decode cJ8_checkScaleNonZero 24 = .ok (.ldc_w 694, 3) := dk_19 2 182 (dk_at dksJ8_checkScaleNonZero_1 0 rfl rfl)
theorem dJ8_checkScaleNonZero_27 : decode cJ8_checkScaleNonZero 27 = .ok (.invokespecial 388, 3) := dk_183 1 132 (dk_at dksJ8_checkScaleNonZero_1 3 rfl rfl)
theorem dJ8_checkScaleNonZero_30 : decode cJ8_checkScaleNonZero 30 = .ok (.athrow, 1) := dk_191 (dk_at dksJ8_checkScaleNonZero_1 6 rfl rfl)
theorem dJ8_checkScaleNonZero_31 : decode cJ8_checkScaleNonZero 31 = .ok (.iload_n 2, 1) := dk_28 (dk_at dksJ8_checkScaleNonZero_1 7 rfl rfl)
theorem dJ8_checkScaleNonZero_32 : decode cJ8_checkScaleNonZero 32 = .ok (.ireturn, 1) := dk_172 (dk_at dksJ8_checkScaleNonZero_1 8 rfl rfl)
def dkwJ30_init_1 : List UInt8 := [187, 0, 23, 89, 18, 25, 183, 0, 27, 191, 42, 27, 181, 0, 28, 42, 44, 181, 0, 32, 177]
abbrev dktJ30_init_1 : List UInt8 := dkwJ30_init_1 ++ []
def dkwJ30_init_0 : List UInt8 := [42, 183, 0, 11, 27, 156, 0, 13, 187, 0, 16, 89, 18, 18, 183, 0, 20, 191, 44, 199, 0, 13]
abbrev dktJ30_init_0 : List UInt8 := dkwJ30_init_0 ++ dktJ30_init_1
theorem dksJ30_init_0 : cJ30_init.data.toList.drop 0 = dktJ30_init_0 := by decide +kernel
theorem dksJ30_init_1 : cJ30_init.data.toList.drop 22 = dktJ30_init_1 := dk_seg dksJ30_init_0 22 rfl rfl
theorem dJ30_init_0 : decode cJ30_init 0 = .ok (.aload_n 0, 1) := dk_42 (dk_at dksJ30_init_0 0 rfl rfl)
theorem dJ30_init_1 : decode cJ30_init 1 = .ok (.invokespecial 11, 3) := dk_183 0 11 (dk_at dksJ30_init_0 1 rfl rfl)
theorem dJ30_init_4 : decode cJ30_init 4 = .ok (.iload_n 1, 1) := dk_27 (dk_at dksJ30_init_0 4 rfl rfl)
theorem dJ30_init_5 : decode cJ30_init 5 = .ok (.ifCond .ge 13, 3) := dk_156 0 13 (dk_at dksJ30_init_0 5 rfl rfl)
theorem dJ30_init_8 : decode cJ30_init 8 = .ok (.new 16, 3) := dk_187 0 16 (dk_at dksJ30_init_0 8 rfl rfl)
theorem dJ30_init_11 : decode cJ30_init 11 = .ok (.dup, 1) := dk_89 (dk_at dksJ30_init_0 11 rfl rfl)
theorem dJ30_init_12 : decode cJ30_init 12 = .ok (.ldc 18, 2) := dk_18 18 (dk_at dksJ30_init_0 12 rfl rfl)
theorem dJ30_init_14 : decode cJ30_init 14 = .ok (.invokespecial 20, 3) := dk_183 0 20 (dk_at dksJ30_init_0 14 rfl rfl)
theorem dJ30_init_17 : decode cJ30_init 17 = .ok (.athrow, 1) := dk_191 (dk_at dksJ30_init_0 17 rfl rfl)
theorem dJ30_init_18 : decode cJ30_init 18 = .ok (.aload_n 2, 1) := dk_44 (dk_at dksJ30_init_0 18 rfl rfl)
theorem dJ30_init_19 : decode cJ30_init 19 = .ok (.ifnonnull 13, 3) := dk_199 0 13 (dk_at dksJ30_init_0 19 rfl rfl)
theorem dJ30_init_22 : decode cJ30_init 22 = .ok (.new 23, 3) := dk_187 0 23 (dk_at dksJ30_init_1 0 rfl rfl)
theorem dJ30_init_25 : decode cJ30_init 25 = .ok (.dup, 1) := dk_89 (dk_at dksJ30_init_1 3 rfl rfl)
theorem dJ30_init_26 : decode cJ30_init 26 = .ok (.ldc 25, 2) := dk_18 25 (dk_at dksJ30_init_1 4 rfl rfl)
theorem dJ30_init_28 : decode cJ30_init 28 = .ok (.invokespecial 27, 3) := dk_183 0 27 (dk_at dksJ30_init_1 6 rfl rfl)
theorem dJ30_init_31 : decode cJ30_init 31 = .ok (.athrow, 1) := dk_191 (dk_at dksJ30_init_1 9 rfl rfl)
theorem dJ30_init_32 : decode cJ30_init 32 = .ok (.aload_n 0, 1) := dk_42 (dk_at dksJ30_init_1 10 rfl rfl)
theorem dJ30_init_33 : decode cJ30_init 33 = .ok (.iload_n 1, 1) := dk_27 (dk_at dksJ30_init_1 11 rfl rfl)
theorem dJ30_init_34 : decode cJ30_init 34 = .ok (.putfield 28, 3) := dk_181 0 28 (dk_at dksJ30_init_1 12 rfl rfl)
theorem dJ30_init_37 : decode cJ30_init 37 = .ok (.aload_n 0, 1) := dk_42 (dk_at dksJ30_init_1 15 rfl rfl)
theorem dJ30_init_38 : decode cJ30_init 38 = .ok (.aload_n 2, 1) := dk_44 (dk_at dksJ30_init_1 16 rfl rfl)
theorem dJ30_init_39 : decode cJ30_init 39 = .ok (.putfield 32, 3) := dk_181 0 32 (dk_at dksJ30_init_1 17 rfl rfl)
theorem dJ30_init_42 : decode cJ30_init 42 = .ok (.return_, 1) := dk_177 (dk_at dksJ30_init_1 20 rfl rfl)
def rqD (u p : Int) : Int := (dgc u.natAbs : Int) - p
def rqV1 (u p m : Int) : Int := rdV u (tn (rqD u p)) m
def rqV (u p m : Int) : Int := if rqD u p ≤ 0 then u else if rqD (rqV1 u p m) p ≤ 0 then rqV1 u p m else rqV1 (rqV1 u p m) p m
def rqS (u s p m : Int) : Int := if rqD u p ≤ 0 then s else if rqD (rqV1 u p m) p ≤ 0 then s - rqD u p else s - rqD u p - rqD (rqV1 u p m) p
def rqF (u p m : Int) : Bool := if rqD u p ≤ 0 then false else rdF u (tn (rqD u p)) m
theorem rd_abs (u d m : Int) : (rdV u d m).natAbs ≤ u.natAbs / d.natAbs + 1 := by
  have h : (rdV u d m).natAbs = rnd (mcO m) (xrI u d) u.natAbs d.natAbs := by
    unfold rdV
    rcases xrI_1o u d with e | e <;> rw [e]
    · rw [sgn_z]; omega
    · rw [sgn_o]; omega
  rw [h]
  unfold rnd
  split
  · omega
  · have h2 := upI_rng (m := mcO m) (neg := xrI u d) (q := u.natAbs / d.natAbs) (r := u.natAbs % d.natAbs) (v := d.natAbs) (xrI_1o u d)
    omega
theorem tn_abs (k : Int) : (tn k).natAbs = 10 ^ k.toNat := rfl
/-- what is rounded to p digits has p, or is a one and p noughts -/
theorem rz_1 {u p m : Int} (hp : 1 ≤ p) (h : 0 < rqD u p) : (rqV1 u p m).natAbs ≤ 10 ^ p.toNat := by
  have h1 := rd_abs u (tn (rqD u p)) m
  rw [tn_abs] at h1
  have h2 := dgc_lt u.natAbs
  unfold rqD at h h1
  have e : 10 ^ dgc u.natAbs = 10 ^ p.toNat * 10 ^ ((dgc u.natAbs : Int) - p).toNat := by rw [← Nat.pow_add]; congr 1; omega
  have h3 : u.natAbs / 10 ^ ((dgc u.natAbs : Int) - p).toNat < 10 ^ p.toNat := Nat.div_lt_of_lt_mul (by rw [Nat.mul_comm, ← e]; exact h2)
  unfold rqV1 rqD
  omega
theorem rz_2 {v p : Int} (hp : 1 ≤ p) (h : v.natAbs ≤ 10 ^ p.toNat) (h2 : 0 < rqD v p) : v.natAbs = 10 ^ p.toNat ∧ rqD v p = 1 := by
  unfold rqD at *
  have h0 : 0 < 10 ^ p.toNat := Nat.pow_pos (by decide)
  rcases Nat.lt_or_ge v.natAbs (10 ^ p.toNat) with c | c
  · have h3 : dgc v.natAbs ≤ p.toNat := by
      obtain ⟨k, hk⟩ : ∃ k, p.toNat = k + 1 := ⟨p.toNat - 1, by omega⟩
      rw [hk] at c ⊢; exact dgc_le k _ c
    omega
  · have e : v.natAbs = 10 ^ p.toNat := by omega
    refine ⟨e, ?_⟩
    have h4 := dgc_of (d := p.toNat) (n := v.natAbs) (Or.inl (by omega)) (by rw [e, Nat.pow_succ]; omega)
    omega
theorem rz_3 {v p m : Int} (hp : 1 ≤ p) (h : v.natAbs = 10 ^ p.toNat) (hd : rqD v p = 1) : rdF v (tn (rqD v p)) m = false ∧ (rqV1 v p m).natAbs = 10 ^ (p.toNat - 1) ∧ rqD (rqV1 v p m) p = 0 := by
  have e : (tn (1 : Int)).natAbs = 10 := rfl
  have hm : v.natAbs % (tn (rqD v p)).natAbs = 0 := by
    rw [hd, e, h, show p.toNat = (p.toNat - 1) + 1 by omega, Nat.pow_succ, Nat.mul_mod_left]
  have hq : v.natAbs / (tn (rqD v p)).natAbs = 10 ^ (p.toNat - 1) := by
    rw [hd, e, h, show p.toNat = (p.toNat - 1) + 1 by omega, Nat.pow_succ, Nat.mul_div_cancel _ (by decide)]; rfl
  have h5 : (rqV1 v p m).natAbs = 10 ^ (p.toNat - 1) := by
    unfold rqV1 rdV
    rw [rnd_0 hm, hq]
    rcases xrI_1o v (tn (rqD v p)) with e | e <;> rw [e]
    · rw [sgn_z, Int.natAbs_natCast]
    · rw [sgn_o, Int.natAbs_neg, Int.natAbs_natCast]
  refine ⟨by unfold rdF rfd; simp [hm], h5, ?_⟩
  have h6 := dgc_of (d := p.toNat - 1) (n := (rqV1 v p m).natAbs) (by rw [h5]; left; exact Nat.le_refl _) (by rw [h5, Nat.pow_succ]; have : 0 < 10 ^ (p.toNat - 1) := Nat.pow_pos (by decide); omega)
  unfold rqD at *
  omega
theorem rz_a {u s p m : Int} (h : rqD u p ≤ 0) : rqV u p m = u ∧ rqS u s p m = s ∧ rqF u p m = false := by unfold rqV rqS rqF; rw [if_pos h, if_pos h, if_pos h]; exact ⟨rfl, rfl, rfl⟩
theorem rz_b {u s p m : Int} (h : 0 < rqD u p) (h2 : rqD (rqV1 u p m) p ≤ 0) : rqV u p m = rqV1 u p m ∧ rqS u s p m = s - rqD u p ∧ rqF u p m = rdF u (tn (rqD u p)) m := by
  have n1 : ¬ rqD u p ≤ 0 := by omega
  refine ⟨?_, ?_, ?_⟩
  · unfold rqV; rw [if_neg n1, if_pos h2]
  · unfold rqS; rw [if_neg n1, if_pos h2]
  · unfold rqF; rw [if_neg n1]
theorem rz_c {u s p m : Int} (h : 0 < rqD u p) (h2 : 0 < rqD (rqV1 u p m) p) : rqV u p m = rqV1 (rqV1 u p m) p m ∧ rqS u s p m = s - rqD u p - rqD (rqV1 u p m) p ∧ rqF u p m = rdF u (tn (rqD u p)) m := by
  unfold rqV rqS rqF; rw [if_neg (by omega), if_neg (by omega), if_neg (by omega), if_neg (by omega), if_neg (by omega)]; exact ⟨rfl, rfl, rfl⟩
theorem rz_f {u p m : Int} (h : 0 < rqD u p) : rqF u p m = rdF u (tn (rqD u p)) m := by unfold rqF; rw [if_neg (by omega)]
theorem nd_J30_init : yJ30_init.cls ≠ "java/lang/invoke/MethodHandle" ∧ yJ30_init.cls ≠ "java/lang/invoke/VarHandle" ∧ (parseMethodDescriptor yJ30_init.desc).map (fun d => d.parameters.length) = some 2 := by decide +kernel
set_option maxRecDepth 100000 in
set_option maxHeartbeats 16000000 in
theorem ct_J30_init {g : GG} {l : Launch} (q : Nat) (p : Int) (a : Nat) (hp : 0 ≤ p ∧ p ≤ 100) : Ct g l yJ30_init (ws_ yJ30_init cJ30_init 3 (Option.none : Option Jvm.ClassFile.FieldType)) 1 12 0 0 [.ref q, .int (jI p), .ref a] [ob g q 18 [.int (jI 0), .null]] (fun v9 Ws9 => v9 = none ∧ Ws9 = [ob g q 18 [.int (jI p), .ref a]]) (nox) := by
  refine Ct.of (cc := cJ30_init) (nL := 3) (ret := (Option.none : Option Jvm.ClassFile.FieldType)) (by decide) rfl (Nat.le_of_ble_eq_true rfl) ?_
  intro x hg hl hPo hPx hmc hms F
  subst hg; subst hl
  refine SW.cast (L' := [(0, .ref q), (1, .int (jI p)), (2, .ref a)]) ?_ rfl rfl rfl
  refine sw_aload_n (n := 1) F 0 (some q) rfl rfl rfl dJ30_init_0 rfl ?_
  refine sw_objInit (n := 4) F q2724 q_oi q_oc (by decide) dJ30_init_1 rfl ?_
  refine sw_iload_n (n := 5) F 1 rfl rfl dJ30_init_4 rfl ?_
  refine sw_if_ge (n := 8) F (by omega) (tgt := 18) dJ30_init_5 (by decide) rfl (fun c_5 => ?_) (fun c_5 => ?_)
  ·
    refine sw_aload_n (n := 19) F 2 (some a) rfl rfl rfl dJ30_init_18 rfl ?_
    refine sw_ifnonnull (n := 22) F (o := (some a)) rfl (tgt := 32) dJ30_init_19 (by decide) rfl (fun _ _ => ?_) (fun c_19 => ?_)
    ·
      refine sw_aload_n (n := 33) F 0 (some q) rfl rfl rfl dJ30_init_32 rfl ?_
      refine sw_iload_n (n := 34) F 1 rfl rfl dJ30_init_33 rfl ?_
      refine sw_putF (n := 37) F rfl 0 rfl (k := 0) ⟨(RJ30, TJ30, 2), rfl, by decide, q2728, in_J30, Or.inl rfl⟩ .int ⟨(RJ30, TJ30, 2), rfl, rfl, rfl, tyJ30_ok 0 (by decide), nmJ30, tyJ30, tyJ30_ok⟩ rfl rfl (Nat.le_of_ble_eq_true rfl) rfl [ob (xg x) q 18 [.int (jI p), .null]] rfl dJ30_init_34 rfl ?_
      refine sw_aload_n (n := 38) F 0 (some q) rfl rfl rfl dJ30_init_37 rfl ?_
      refine sw_aload_n (n := 39) F 2 (some a) rfl rfl rfl dJ30_init_38 rfl ?_
      refine sw_putF (n := 42) F rfl 0 rfl (k := 1) ⟨(RJ30, TJ30, 2), rfl, by decide, q2730, in_J30, Or.inl rfl⟩ (tyJ30 1) ⟨(RJ30, TJ30, 2), rfl, rfl, rfl, tyJ30_ok 1 (by decide), nmJ30, tyJ30, tyJ30_ok⟩ rfl rfl (Nat.le_of_ble_eq_true rfl) rfl [ob (xg x) q 18 [.int (jI p), .ref a]] rfl dJ30_init_39 rfl ?_
      exact sw_vret F rfl dJ30_init_42 (by rw [hPo]; exact ⟨rfl, rfl⟩)
    · cases c_19
  · exfalso; omega
theorem nd_J8_checkScaleNonZero : yJ8_checkScaleNonZero.cls ≠ "java/lang/invoke/MethodHandle" ∧ yJ8_checkScaleNonZero.cls ≠ "java/lang/invoke/VarHandle" ∧ (parseMethodDescriptor yJ8_checkScaleNonZero.desc).map (fun d => d.parameters.length) = some 1 := by decide +kernel
set_option maxRecDepth 100000 in
set_option maxHeartbeats 16000000 in
theorem ct_J8_checkScaleNonZero {g : GG} {l : Launch} (s : Int) (hs : -2147483648 ≤ s ∧ s ≤ 2147483647) : Ct g l yJ8_checkScaleNonZero (ws_ yJ8_checkScaleNonZero cJ8_checkScaleNonZero 3 (Option.some Jvm.ClassFile.FieldType.int)) 1 12 0 0 [.long (jL s)] [] (fun v9 Ws9 => v9 = some (.int (jI s)) ∧ Ws9 = []) (nox) := by
  refine Ct.of (cc := cJ8_checkScaleNonZero) (nL := 3) (ret := (Option.some Jvm.ClassFile.FieldType.int)) (by decide) rfl (Nat.le_of_ble_eq_true rfl) ?_
  intro x hg hl hPo hPx hmc hms F
  subst hg; subst hl
  refine SW.cast (L' := [(0, .long (jL s))]) ?_ rfl rfl rfl
  refine sw_lload_n (n := 1) F 0 rfl rfl dJ8_checkScaleNonZero_0 rfl ?_
  refine sw_l2i (n := 2) F dJ8_checkScaleNonZero_1 rfl ?_
  refine sw_istore_n (n := 3) F (L2 := [(2, .int (jI s)), (0, .long (jL s))]) rfl (by decide) rfl dJ8_checkScaleNonZero_2 rfl ?_
  refine sw_iload_n (n := 4) F 0 rfl rfl dJ8_checkScaleNonZero_3 rfl ?_
  refine sw_i2l (n := 5) F (by omega) dJ8_checkScaleNonZero_4 rfl ?_
  refine sw_lload_n (n := 6) F 1 rfl rfl dJ8_checkScaleNonZero_5 rfl ?_
  refine sw_lcmp (n := 7) F (by omega) (by omega) dJ8_checkScaleNonZero_6 rfl ?_
  refine sw_if_eq (n := 10) F (lc_rng _ _) (tgt := 31) dJ8_checkScaleNonZero_7 (by decide) rfl (fun c_7 => ?_) (fun c_7 => ?_)
  ·
    have c_7 := lc_eq c_7
    refine sw_iload_n (n := 32) F 0 rfl rfl dJ8_checkScaleNonZero_31 rfl ?_
    exact sw_iret F _ rfl (by first | rfl | exact jI_nz (by omega) | exact jI_nc (by omega)) dJ8_checkScaleNonZero_32 (by rw [hPo]; exact ⟨rfl, rfl⟩)
  · exfalso; revert c_7; (repeat' split) <;> omega
theorem nd_J8_doRound : yJ8_doRound.cls ≠ "java/lang/invoke/MethodHandle" ∧ yJ8_doRound.cls ≠ "java/lang/invoke/VarHandle" ∧ (parseMethodDescriptor yJ8_doRound.desc).map (fun d => d.parameters.length) = some 2 := by decide +kernel
set_option maxRecDepth 100000 in
set_option maxHeartbeats 16000000 in
theorem ct_J8_doRound {g : GG} {l : Launch} (M : Nat → Option PV) (q : Nat) (u : Int) (s : Int) (o : Option Nat) (mq : Nat) (p : Int) (a : Nat) (m : Int) (hx : at_ g M q (vD u s o)) (hfr : -999999999999999999 ≤ u ∧ u ≤ 999999999999999999) (hs : -1000 ≤ s ∧ s ≤ 1000) (hp : 1 ≤ p ∧ p ≤ 18) (hrm : rM g a m) (hm : 0 ≤ m ∧ m ≤ 7) : Ct g l yJ8_doRound (ws_ yJ8_doRound cJ8_doRound 11 (Option.some (Jvm.ClassFile.FieldType.object "java/math/BigDecimal"))) 9 163 3 17 [.ref q, .ref mq] [pl g M, ob g mq 18 [.int (jI p), .ref a]] (fun v9 Ws9 => ∃ M1 : Nat → Option PV, ∃ r1 : Nat, ∃ o1 : Option Nat, v9 = some (.ref r1) ∧ (le_ M M1) ∧ (at_ g M1 r1 (vD (rqV u p m) (rqS u s p m) o1)) ∧ (rqF u p m = false) ∧ Ws9 = [pl g M1, ob g mq 18 [.int (jI p), .ref a]]) (fun E9 Ws9 => (E9 = "java/lang/ArithmeticException" ∧ (rqF u p m = true) ∧ Ws9 = [pl g M, ob g mq 18 [.int (jI p), .ref a]])) := by
  refine Ct.of (cc := cJ8_doRound) (nL := 11) (ret := (Option.some (Jvm.ClassFile.FieldType.object "java/math/BigDecimal"))) (by decide) rfl (Nat.le_of_ble_eq_true rfl) ?_
  intro x hg hl hPo hPx hmc hms F
  subst hg; subst hl
  refine SW.cast (L' := [(0, .ref q), (1, .ref mq)]) ?_ rfl rfl rfl
  have hf : fit u := ⟨by omega, by omega⟩
  have hr9 := hf
  unfold fit at hr9
  have hcu := cpt_1 hf
  have hd18 := dgc_18 hfr
  have hrd : rqD u p ≤ 17 := by unfold rqD; omega
  refine sw_factD 0 rfl hx (fun hfo hfb => ?_)
  refine sw_aload_n (n := 1) F 1 (some mq) rfl rfl rfl dJ8_doRound_0 rfl ?_
  refine sw_get (n := 4) F 1 rfl (k := 0) ⟨(RJ30, TJ30, 2), rfl, by decide, q2729, in_J30, Or.inl rfl⟩ rfl dJ8_doRound_1 rfl ?_
  refine sw_istore_n (n := 5) F (L2 := [(2, .int (jI p)), (0, .ref q), (1, .ref mq)]) rfl (by decide) rfl dJ8_doRound_4 rfl ?_
  refine sw_iconst (n := 6) F (0) (by decide) dJ8_doRound_5 rfl ?_
  refine sw_istore_n (n := 7) F (L2 := [(3, .int (jI 0)), (2, .int (jI p)), (0, .ref q), (1, .ref mq)]) rfl (by decide) rfl dJ8_doRound_6 rfl ?_
  refine sw_iload_n (n := 8) F 1 rfl rfl dJ8_doRound_7 rfl ?_
  refine sw_if_le (n := 11) F (by omega) (tgt := 228) dJ8_doRound_8 (by decide) rfl (fun c_8 => ?_) (fun c_8 => ?_)
  · exfalso; omega
  ·
    refine sw_aload_n (n := 12) F 2 (some q) rfl rfl rfl dJ8_doRound_11 rfl ?_
    refine sw_getD (n := 15) F 0 rfl hx (k := 0) ⟨(RJ8, TJ8, 5), rfl, by decide, q260, in_J8, Or.inl rfl⟩ (va_rf o) (fun _ => rfl) dJ8_doRound_12 rfl ?_
    refine sw_astore (n := 17) F o (L2 := [(4, va_rf o), (3, .int (jI 0)), (2, .int (jI p)), (0, .ref q), (1, .ref mq)]) (by first | rfl | simp [va_rf_cat]) rfl (by decide) dJ8_doRound_15 rfl ?_
    refine sw_aload_n (n := 18) F 3 (some q) rfl rfl rfl dJ8_doRound_17 rfl ?_
    refine sw_getD (n := 21) F 0 rfl hx (k := 4) ⟨(RJ8, TJ8, 5), rfl, by decide, q264, in_J8, Or.inl rfl⟩ (.long (jL (cpt u))) (fun _ => rfl) dJ8_doRound_18 rfl ?_
    rw [cpt_1 hf]
    refine sw_lstore (n := 23) F (L2 := [(5, .long (jL u)), (4, va_rf o), (3, .int (jI 0)), (2, .int (jI p)), (0, .ref q), (1, .ref mq)]) (by first | rfl | simp [va_rf_cat]) (by decide) dJ8_doRound_21 rfl ?_
    refine sw_aload_n (n := 24) F 4 (some q) rfl rfl rfl dJ8_doRound_23 rfl ?_
    refine sw_getD (n := 27) F 0 rfl hx (k := 1) ⟨(RJ8, TJ8, 5), rfl, by decide, q261, in_J8, Or.inl rfl⟩ (.int (jI s)) (fun _ => rfl) dJ8_doRound_24 rfl ?_
    refine sw_istore (n := 29) F (L2 := [(7, .int (jI s)), (5, .long (jL u)), (4, va_rf o), (3, .int (jI 0)), (2, .int (jI p)), (0, .ref q), (1, .ref mq)]) (by first | rfl | simp [va_rf_cat]) (by decide) dJ8_doRound_27 rfl ?_
    refine sw_aload_n (n := 30) F 5 (some q) rfl rfl rfl dJ8_doRound_29 rfl ?_
    refine sw_callV (n := 33) F (ct_J8_precision (g := xg x) (l := xl x) M q u s o hx hf) (rcvD F 0 rfl hx) q1520 q1521 q1522 q112 q1523 nd_J8_precision rfl (by decide) [0, 1] rfl [ob (xg x) mq 18 [.int (jI p), .ref a]] rfl 3 17 ⟨by omega, by omega⟩ [] rfl (Nat.le_of_ble_eq_true rfl) dJ8_doRound_30 rfl (fun _ _ h => h.elim) (fun v Ws h => ?_)
    obtain ⟨rfl, rfl⟩ := h
    show SW x [pl (xg x) M, ob (xg x) mq 18 [.int (jI p), .ref a]] _ _ _ _ [.int (jI (↑(dgc u.natAbs)))]
    refine sw_istore (n := 35) F (L2 := [(8, .int (jI (↑(dgc u.natAbs)))), (7, .int (jI s)), (5, .long (jL u)), (4, va_rf o), (3, .int (jI 0)), (2, .int (jI p)), (0, .ref q), (1, .ref mq)]) (by first | rfl | simp [va_rf_cat]) (by decide) dJ8_doRound_33 rfl ?_
    refine sw_aload_n (n := 36) F 7 (some mq) rfl rfl rfl dJ8_doRound_35 rfl ?_
    refine sw_get (n := 39) F 1 rfl (k := 1) ⟨(RJ30, TJ30, 2), rfl, by decide, q2731, in_J30, Or.inl rfl⟩ rfl dJ8_doRound_36 rfl ?_
    refine sw_getRM (n := 42) F hrm q4419 dJ8_doRound_39 rfl ?_
    refine sw_istore (n := 44) F (L2 := [(9, .int (jI m)), (8, .int (jI (↑(dgc u.natAbs)))), (7, .int (jI s)), (5, .long (jL u)), (4, va_rf o), (3, .int (jI 0)), (2, .int (jI p)), (0, .ref q), (1, .ref mq)]) (by first | rfl | simp [va_rf_cat]) (by decide) dJ8_doRound_42 rfl ?_
    refine sw_lload (n := 46) F 3 rfl dJ8_doRound_44 rfl ?_
    refine sw_ldc2 (n := 49) F (-9223372036854775808) q250 (by decide) dJ8_doRound_46 rfl ?_
    refine sw_lcmp (n := 50) F (by omega) (by decide) dJ8_doRound_49 rfl ?_
    refine sw_if_ne (n := 53) F (lc_rng _ _) (tgt := 131) dJ8_doRound_50 (by decide) rfl (fun c_50 => ?_) (fun c_50 => ?_)
    ·
      have c_50 := lc_ne c_50
      refine sw_lload (n := 133) F 3 rfl dJ8_doRound_131 rfl ?_
      refine sw_ldc2 (n := 136) F (-9223372036854775808) q250 (by decide) dJ8_doRound_133 rfl ?_
      refine sw_lcmp (n := 137) F (by omega) (by decide) dJ8_doRound_136 rfl ?_
      refine sw_if_eq (n := 140) F (lc_rng _ _) (tgt := 204) dJ8_doRound_137 (by decide) rfl (fun c_137 => ?_) (fun c_137 => ?_)
      · exfalso; revert c_137; (repeat' split) <;> omega
      ·
        have c_137 := lc_ne c_137
        refine sw_iload (n := 142) F 1 rfl dJ8_doRound_140 rfl ?_
        refine sw_iload_n (n := 143) F 6 rfl rfl dJ8_doRound_142 rfl ?_
        refine sw_isub (n := 144) F dJ8_doRound_143 rfl ?_
        refine sw_istore (n := 146) F (L2 := [(10, .int (jI ((↑(dgc u.natAbs)) - p))), (9, .int (jI m)), (8, .int (jI (↑(dgc u.natAbs)))), (7, .int (jI s)), (5, .long (jL u)), (4, va_rf o), (3, .int (jI 0)), (2, .int (jI p)), (0, .ref q), (1, .ref mq)]) (by first | rfl | simp [va_rf_cat]) (by decide) dJ8_doRound_144 rfl ?_
        have K146 : ∀ N146 : Nat, ∀ (st : Nat) (c : Int) (sc : Int) (fl : Int) (o4 : Option Nat) (dg : Int), ((st = 0 ∧ fl = 0 ∧ c = u ∧ sc = s ∧ o4 = o) ∨ (st = 1 ∧ fl = 1 ∧ 0 < rqD u p ∧ rdF u (tn (rqD u p)) m = false ∧ c = rqV1 u p m ∧ sc = s - rqD u p ∧ o4 = none) ∨ (st = 2 ∧ fl = 1 ∧ 0 < rqD u p ∧ rdF u (tn (rqD u p)) m = false ∧ 0 < rqD (rqV1 u p m) p ∧ c = rqV1 (rqV1 u p m) p m ∧ sc = s - rqD u p - rqD (rqV1 u p m) p ∧ o4 = none ∧ rqD c p ≤ 0)) → (dg = ↑(dgc c.natAbs)) → (-999999999999999999 ≤ c ∧ c ≤ 999999999999999999) → (-1100 ≤ sc ∧ sc ≤ 1100) → ((3 - st) < N146) → SW x [pl (xg x) M, ob (xg x) mq 18 [.int (jI p), .ref a]] (1 + (2 - st)) (5 + 6 * (2 - st)) 146 [(0, .ref q), (1, .ref mq), (2, .int (jI p)), (3, .int (jI fl)), (4, va_rf o4), (5, .long (jL c)), (7, .int (jI sc)), (8, .int (jI dg)), (9, .int (jI m)), (10, .int (jI (dg - p)))] [] := by
          intro N146; induction N146 with
          | zero => intro st c sc fl o4 dg hst hdg hcr hsr hmu146; omega
          | succ N146 ih146 =>
            intro st c sc fl o4 dg hst hdg hcr hsr hmu146
            have hdc := dgc_18 hcr
            have hdp : dg - p = rqD c p := by unfold rqD; rw [hdg]
            refine sw_iload (n := 148) F 9 rfl dJ8_doRound_146 rfl ?_
            refine sw_if_le (n := 151) F (by omega) (tgt := 204) dJ8_doRound_148 (by decide) rfl (fun c_148 => ?_) (fun c_148 => ?_)
            ·
              refine sw_iload_n (n := 205) F 3 rfl rfl dJ8_doRound_204 rfl ?_
              refine sw_if_eq (n := 208) F (by omega) (tgt := 226) dJ8_doRound_205 (by decide) rfl (fun c_205 => ?_) (fun c_205 => ?_)
              ·
                have hz : rqD u p ≤ 0 := by rcases hst with ⟨e0, e1, e2, e3, e4⟩ | ⟨e0, e1, e2⟩ | ⟨e0, e1, e2⟩; (rw [e2] at hdp; omega); (exfalso; omega); (exfalso; omega)
                refine sw_aload_n (n := 227) F 0 (some q) rfl rfl rfl dJ8_doRound_226 rfl ?_
                exact sw_aret F (some q) _ rfl rfl (by first | exact Or.inl ⟨_, rfl⟩ | exact Or.inr ⟨_, rfl⟩) dJ8_doRound_227 (by rw [hPo]; exact ⟨M, q, o, rfl, le_.rf, (by first | assumption | (rw [(rz_a (s := s) (m := m) hz).1, (rz_a (s := s) (m := m) hz).2.1]; exact hx)), (by first | exact hall.2.2.1 | exact (rz_a (s := s) hz).2.2), rfl⟩)
              ·
                have hlast : rqD c p ≤ 0 := by omega
                have hall : c = rqV u p m ∧ sc = rqS u s p m ∧ rqF u p m = false ∧ o4 = none := by rcases hst with ⟨e0, e1, e2, e3, e4⟩ | ⟨e0, e1, e2, e3, e4, e5, e6⟩ | ⟨e0, e1, e2, e3, e4, e5, e6, e7, e8⟩; (exfalso; omega); (rw [e4] at hlast; have b := rz_b (s := s) (m := m) e2 hlast; exact ⟨by rw [b.1, e4], by rw [b.2.1, e5], by rw [b.2.2]; exact e3, e6⟩); (have b := rz_c (s := s) e2 e4; exact ⟨by rw [b.1, e5], by rw [b.2.1, e6], by rw [b.2.2]; exact e3, e7⟩)
                have hfc : fit c := ⟨by omega, by omega⟩
                refine sw_new (n := 211) F (ci := 13) (N := 5) RJ8 TJ8 tyJ8 rfl q251 q252 q112 in_J8 tyJ8_ok (fs := [.null, .int (jI 0), .int (jI 0), .null, .long (jL 0)]) rfl ((1 + (2 - st)) - 1) ((5 + 6 * (2 - st)) - 5) ⟨by omega, by omega⟩ dJ8_doRound_208 rfl (fun q_1 => ?_)
                refine sw_dup (n := 212) F rfl dJ8_doRound_211 rfl ?_
                refine sw_aload (n := 214) F 4 o4 rfl rfl dJ8_doRound_212 rfl ?_
                refine sw_lload (n := 216) F 5 rfl dJ8_doRound_214 rfl ?_
                refine sw_iload (n := 218) F 6 rfl dJ8_doRound_216 rfl ?_
                refine sw_iload (n := 220) F 7 rfl dJ8_doRound_218 rfl ?_
                refine sw_callI (n := 223) F (ct_J8_init (g := xg x) (l := xl x) q_1 o4 c sc dg ) q253 q254 q112 q255 rfl nd_J8_init rfl (by decide) [0, 1, 2] rfl [pl (xg x) M, ob (xg x) mq 18 [.int (jI p), .ref a]] rfl ((1 + (2 - st)) - 1) ((5 + 6 * (2 - st)) - 5) ⟨by omega, by omega⟩ [.ref q_1] rfl (Nat.le_of_ble_eq_true rfl) dJ8_doRound_220 rfl (fun _ _ h => h.elim) (fun v Ws h => ?_)
                obtain ⟨rfl, rfl⟩ := h
                show SW x [ob (xg x) q_1 13 [va_rf o4, .int (jI sc), .int (jI dg), .null, .long (jL c)], pl (xg x) M, ob (xg x) mq 18 [.int (jI p), .ref a]] _ _ _ _ [.ref q_1]
                refine sw_goto F (n := 227) dJ8_doRound_223 (by decide) ?_
                refine SW.cast (Ps' := ob (xg x) q_1 13 (flD (rqV u p m) (rqS u s p m) o4 dg) :: [pl (xg x) M, ob (xg x) mq 18 [.int (jI p), .ref a]]) ?_ (by rw [← hall.1, ← hall.2.1]; simp only [flD, cpt_1 hfc] <;> rfl) rfl rfl
                refine sw_absD F ((by left; rw [← hall.1]; exact hdg)) (fun _ => by rw [← hall.1]; exact hfc) (fun b h => by rw [hall.2.2.2] at h; cases h) (fun M_2 hle_3 hat_4 => ?_)
                show SW x [pl (xg x) M_2, ob (xg x) mq 18 [.int (jI p), .ref a]] _ _ _ _ [.ref q_1]
                exact sw_aret F (some q_1) _ rfl rfl (by first | exact Or.inl ⟨_, rfl⟩ | exact Or.inr ⟨_, rfl⟩) dJ8_doRound_227 (by rw [hPo]; exact ⟨M_2, q_1, o4, rfl, hle_3, hat_4, (by first | exact hall.2.2.1 | exact (rz_a (s := s) hz).2.2), rfl⟩)
            ·
              have hnr := rz_1 (u := u) (p := p) (m := m) hp.1
              have hra := rd_abs c (tn (rqD c p)) m
              have htw : 10 ^ 1 ≤ (tn (rqD c p)).natAbs := Nat.pow_le_pow_right (by decide) (by omega)
              have hcd := Nat.div_le_div_left (c := 10 ^ 1) (a := c.natAbs) htw (by decide)
              have hc10 : 10 ≤ c.natAbs := by rcases Nat.lt_or_ge c.natAbs 10 with k | k; rw [dgc, if_pos k] at hdg; omega; exact k
              refine sw_iload (n := 153) F 6 rfl dJ8_doRound_151 rfl ?_
              refine sw_i2l (n := 154) F (by omega) dJ8_doRound_153 rfl ?_
              refine sw_iload (n := 156) F 9 rfl dJ8_doRound_154 rfl ?_
              refine sw_i2l (n := 157) F (by omega) dJ8_doRound_156 rfl ?_
              refine sw_lsub (n := 158) F dJ8_doRound_157 rfl ?_
              refine sw_callS (n := 161) F (ct_J8_checkScaleNonZero (g := xg x) (l := xl x) (sc - (dg - p)) (by first | omega | assumption)) q2748 q2749 q112 q2750 nd_J8_checkScaleNonZero rfl (by decide) [0, 1] rfl [pl (xg x) M, ob (xg x) mq 18 [.int (jI p), .ref a]] rfl (1 + (2 - st)) (5 + 6 * (2 - st)) ⟨by omega, by omega⟩ [] rfl (Nat.le_of_ble_eq_true rfl) dJ8_doRound_158 rfl (fun _ _ h => h.elim) (fun v Ws h => ?_)
              obtain ⟨rfl, rfl⟩ := h
              show SW x [pl (xg x) M, ob (xg x) mq 18 [.int (jI p), .ref a]] _ _ _ _ [.int (jI (sc - (dg - p)))]
              refine sw_istore (n := 163) F (L2 := [(7, .int (jI (sc - (dg - p)))), (0, .ref q), (1, .ref mq), (2, .int (jI p)), (3, .int (jI fl)), (4, va_rf o4), (5, .long (jL c)), (8, .int (jI dg)), (9, .int (jI m)), (10, .int (jI (dg - p)))]) (by first | rfl | simp [va_rf_cat]) (by decide) dJ8_doRound_161 rfl ?_
              refine sw_lload (n := 165) F 6 rfl dJ8_doRound_163 rfl ?_
              refine sw_gets (n := 168) F (kLTP F.gx.1).1 q1299 (Or.inl rfl) dJ8_doRound_165 rfl ?_
              refine sw_iload (n := 170) F 9 rfl dJ8_doRound_168 rfl ?_
              refine sw_laloadK (n := 171) F ((kLTP F.gx.1).2.A F) ((dg - p : Int).toNat) (by omega) (by omega) dJ8_doRound_170 rfl ?_
              show SW x _ _ _ _ _ [.long (jL ((10 ^ ((dg - p : Int).toNat) : Nat) : Int)), .long (jL c)]
              refine sw_top (topL (show (((10 ^ ((dg - p : Int).toNat) : Nat) : Int) : Int) = tn (dg - p) by rfl)) ?_
              have htp := tn_pos (dg - p)
              have ht18 := tn_18 (k := dg - p) (by omega)
              refine sw_aload_n (n := 172) F 2 (some mq) rfl rfl rfl dJ8_doRound_171 rfl ?_
              refine sw_get (n := 175) F 1 rfl (k := 1) ⟨(RJ30, TJ30, 2), rfl, by decide, q2731, in_J30, Or.inl rfl⟩ rfl dJ8_doRound_172 rfl ?_
              refine sw_getRM (n := 178) F hrm q4419 dJ8_doRound_175 rfl ?_
              refine sw_callS (n := 181) F (ct_J8_divideAndRound (g := xg x) (l := xl x) c (tn (dg - p)) m (by first | omega | assumption) (by first | omega | assumption) (by first | omega | assumption) hm) q1772 q1773 q112 q1774 nd_J8_divideAndRound rfl (by decide) [0, 1] rfl [pl (xg x) M, ob (xg x) mq 18 [.int (jI p), .ref a]] rfl ((1 + (2 - st)) - 1) ((5 + 6 * (2 - st)) - 6) ⟨by omega, by omega⟩ [] rfl (Nat.le_of_ble_eq_true rfl) dJ8_doRound_178 rfl (fun E Ws h => ?_) (fun v Ws h => ?_)
              ·
                obtain ⟨rfl, hrf_6, rfl⟩ := h
                show SX x [pl (xg x) M, ob (xg x) mq 18 [.int (jI p), .ref a]] _ _ _ _ _
                exact sx_out F (by rw [hPx]; exact ⟨rfl, (by have h9 : rdF c (tn (dg - p)) m = true := (by assumption); rcases hst with ⟨e0, e1, e2, e3, e4⟩ | ⟨e0, e1, e2, e3, e4, e5, e6⟩ | ⟨e0, e1, e2, e3, e4, e5, e6, e7, e8⟩; (rw [hdp, e2] at h9; rw [e2] at hdp; rw [rz_f (by omega)]; exact h9); (exfalso; rw [hdp, e4] at h9; rw [e4] at hdp; have q2 := rz_2 hp.1 (hnr e2) (by omega); rw [(rz_3 (m := m) hp.1 q2.1 q2.2).1] at h9; cases h9); (exfalso; omega)), rfl⟩)
              ·
                obtain ⟨rfl, hrf_5, rfl⟩ := h
                show SW x [pl (xg x) M, ob (xg x) mq 18 [.int (jI p), .ref a]] _ _ _ _ [.long (jL (rdV c (tn (dg - p)) m))]
                skip
                refine sw_top (topL (show (rdV c (tn (dg - p)) m : Int) = rqV1 c p m by rw [hdp]; rfl)) ?_
                have hv1 : (rqV1 c p m).natAbs ≤ c.natAbs / (tn (rqD c p)).natAbs + 1 := hra
                have hvr : -999999999999999999 ≤ rqV1 c p m ∧ rqV1 c p m ≤ 999999999999999999 := by omega
                refine sw_lstore (n := 183) F (L2 := [(5, .long (jL (rqV1 c p m))), (7, .int (jI (sc - (dg - p)))), (0, .ref q), (1, .ref mq), (2, .int (jI p)), (3, .int (jI fl)), (4, va_rf o4), (8, .int (jI dg)), (9, .int (jI m)), (10, .int (jI (dg - p)))]) (by first | rfl | simp [va_rf_cat]) (by decide) dJ8_doRound_181 rfl ?_
                refine sw_iconst (n := 184) F (1) (by decide) dJ8_doRound_183 rfl ?_
                refine sw_istore_n (n := 185) F (L2 := [(3, .int (jI 1)), (5, .long (jL (rqV1 c p m))), (7, .int (jI (sc - (dg - p)))), (0, .ref q), (1, .ref mq), (2, .int (jI p)), (4, va_rf o4), (8, .int (jI dg)), (9, .int (jI m)), (10, .int (jI (dg - p)))]) (by first | rfl | simp [va_rf_cat]) (by decide) rfl dJ8_doRound_184 rfl ?_
                refine sw_lload (n := 187) F 1 rfl dJ8_doRound_185 rfl ?_
                refine sw_callS (n := 190) F (ct_J8_longDigitLength (g := xg x) (l := xl x) (rqV1 c p m) (by first | omega | assumption)) q1524 q1525 q112 q1526 nd_J8_longDigitLength rfl (by decide) [0, 1] rfl [pl (xg x) M, ob (xg x) mq 18 [.int (jI p), .ref a]] rfl ((1 + (2 - st)) - 1) ((5 + 6 * (2 - st)) - 6) ⟨by omega, by omega⟩ [] rfl (Nat.le_of_ble_eq_true rfl) dJ8_doRound_187 rfl (fun _ _ h => h.elim) (fun v Ws h => ?_)
                obtain ⟨rfl, rfl⟩ := h
                show SW x [pl (xg x) M, ob (xg x) mq 18 [.int (jI p), .ref a]] _ _ _ _ [.int (jI (↑(dgc (rqV1 c p m).natAbs)))]
                refine sw_istore (n := 192) F (L2 := [(8, .int (jI (↑(dgc (rqV1 c p m).natAbs)))), (3, .int (jI 1)), (5, .long (jL (rqV1 c p m))), (7, .int (jI (sc - (dg - p)))), (0, .ref q), (1, .ref mq), (2, .int (jI p)), (4, va_rf o4), (9, .int (jI m)), (10, .int (jI (dg - p)))]) (by first | rfl | simp [va_rf_cat]) (by decide) dJ8_doRound_190 rfl ?_
                refine sw_iload (n := 194) F 0 rfl dJ8_doRound_192 rfl ?_
                refine sw_iload_n (n := 195) F 6 rfl rfl dJ8_doRound_194 rfl ?_
                refine sw_isub (n := 196) F dJ8_doRound_195 rfl ?_
                refine sw_istore (n := 198) F (L2 := [(10, .int (jI ((↑(dgc (rqV1 c p m).natAbs)) - p))), (8, .int (jI (↑(dgc (rqV1 c p m).natAbs)))), (3, .int (jI 1)), (5, .long (jL (rqV1 c p m))), (7, .int (jI (sc - (dg - p)))), (0, .ref q), (1, .ref mq), (2, .int (jI p)), (4, va_rf o4), (9, .int (jI m))]) (by first | rfl | simp [va_rf_cat]) (by decide) dJ8_doRound_196 rfl ?_
                refine sw_null (n := 199) F dJ8_doRound_198 rfl ?_
                refine sw_astore (n := 201) F none (L2 := [(4, .null), (10, .int (jI ((↑(dgc (rqV1 c p m).natAbs)) - p))), (8, .int (jI (↑(dgc (rqV1 c p m).natAbs)))), (3, .int (jI 1)), (5, .long (jL (rqV1 c p m))), (7, .int (jI (sc - (dg - p)))), (0, .ref q), (1, .ref mq), (2, .int (jI p)), (9, .int (jI m))]) rfl rfl (by decide) dJ8_doRound_199 rfl ?_
                refine sw_goto F (n := 146) dJ8_doRound_201 (by decide) ?_
                refine sw_room (bc2 := (1 + (2 - (st + 1)))) (bs2 := (5 + 6 * (2 - (st + 1)))) ⟨by omega, by omega⟩ ?_
                refine sw_loc [6, 7, 8, 3, 0, 4, 5, 2, 9, 1] (L2 := [(0, .ref q), (1, .ref mq), (2, .int (jI p)), (3, .int (jI 1)), (4, .null), (5, .long (jL (rqV1 c p m))), (7, .int (jI (sc - (dg - p)))), (8, .int (jI (↑(dgc (rqV1 c p m).natAbs)))), (9, .int (jI m)), (10, .int (jI ((↑(dgc (rqV1 c p m).natAbs)) - p)))]) rfl ?_
                exact ih146 (st + 1) (rqV1 c p m) (sc - (dg - p)) 1 none (↑(dgc (rqV1 c p m).natAbs)) (by rcases hst with ⟨e0, e1, e2, e3, e4⟩ | ⟨e0, e1, e2, e3, e4, e5, e6⟩ | ⟨e0, e1, e2, e3, e4, e5, e6, e7, e8⟩; (right; left; have h9 : rdF c (tn (dg - p)) m = false := (by assumption); rw [hdp, e2] at h9; rw [e2] at hdp; refine ⟨by omega, rfl, by omega, h9, by rw [e2], by omega, rfl⟩); (right; right; rw [e4] at hdp; have q2 := rz_2 hp.1 (hnr e2) (by omega); have q3 := rz_3 (m := m) hp.1 q2.1 q2.2; refine ⟨by omega, rfl, e2, e3, by omega, by rw [e4], by omega, rfl, ?_⟩; rw [e4]; omega); (exfalso; omega)) (by rfl) hvr (by first | omega | assumption) (by omega)
        refine sw_room (bc2 := (1 + (2 - 0))) (bs2 := (5 + 6 * (2 - 0))) ⟨by omega, by omega⟩ ?_
        refine sw_loc [8, 9, 7, 6, 5, 4, 3, 2, 1, 0] (L2 := [(0, .ref q), (1, .ref mq), (2, .int (jI p)), (3, .int (jI 0)), (4, va_rf o), (5, .long (jL u)), (7, .int (jI s)), (8, .int (jI (↑(dgc u.natAbs)))), (9, .int (jI m)), (10, .int (jI ((↑(dgc u.natAbs)) - p)))]) rfl ?_
        exact K146 _ 0 u s 0 o (↑(dgc u.natAbs)) (by left; exact ⟨rfl, rfl, rfl, rfl, rfl⟩) (by rfl) hfr (by first | omega | assumption) (Nat.lt_succ_self _)
    · exfalso; revert c_50; (repeat' split) <;> omega
theorem nd_J8_plus : yJ8_plus.cls ≠ "java/lang/invoke/MethodHandle" ∧ yJ8_plus.cls ≠ "java/lang/invoke/VarHandle" ∧ (parseMethodDescriptor yJ8_plus.desc).map (fun d => d.parameters.length) = some 1 := by decide +kernel
set_option maxRecDepth 100000 in
set_option maxHeartbeats 16000000 in
theorem ct_J8_plus {g : GG} {l : Launch} (M : Nat → Option PV) (q : Nat) (u : Int) (s : Int) (o : Option Nat) (mq : Nat) (p : Int) (a : Nat) (m : Int) (hx : at_ g M q (vD u s o)) (hfr : -999999999999999999 ≤ u ∧ u ≤ 999999999999999999) (hs : -1000 ≤ s ∧ s ≤ 1000) (hp : 1 ≤ p ∧ p ≤ 18) (hrm : rM g a m) (hm : 0 ≤ m ∧ m ≤ 7) : Ct g l yJ8_plus (ws_ yJ8_plus cJ8_plus 2 (Option.some (Jvm.ClassFile.FieldType.object "java/math/BigDecimal"))) 10 193 3 17 [.ref q, .ref mq] [pl g M, ob g mq 18 [.int (jI p), .ref a]] (fun v9 Ws9 => ∃ M1 : Nat → Option PV, ∃ r1 : Nat, ∃ o1 : Option Nat, v9 = some (.ref r1) ∧ (le_ M M1) ∧ (at_ g M1 r1 (vD (rqV u p m) (rqS u s p m) o1)) ∧ (rqF u p m = false) ∧ Ws9 = [pl g M1, ob g mq 18 [.int (jI p), .ref a]]) (fun E9 Ws9 => (E9 = "java/lang/ArithmeticException" ∧ (rqF u p m = true) ∧ Ws9 = [pl g M, ob g mq 18 [.int (jI p), .ref a]])) := by
  refine Ct.of (cc := cJ8_plus) (nL := 2) (ret := (Option.some (Jvm.ClassFile.FieldType.object "java/math/BigDecimal"))) (by decide) rfl (Nat.le_of_ble_eq_true rfl) ?_
  intro x hg hl hPo hPx hmc hms F
  subst hg; subst hl
  refine SW.cast (L' := [(0, .ref q), (1, .ref mq)]) ?_ rfl rfl rfl
  refine sw_aload_n (n := 1) F 1 (some mq) rfl rfl rfl dJ8_plus_0 rfl ?_
  refine sw_get (n := 4) F 1 rfl (k := 0) ⟨(RJ30, TJ30, 2), rfl, by decide, q2729, in_J30, Or.inl rfl⟩ rfl dJ8_plus_1 rfl ?_
  refine sw_if_ne (n := 7) F (by omega) (tgt := 9) dJ8_plus_4 (by decide) rfl (fun c_4 => ?_) (fun c_4 => ?_)
  ·
    refine sw_aload_n (n := 10) F 0 (some q) rfl rfl rfl dJ8_plus_9 rfl ?_
    refine sw_aload_n (n := 11) F 1 (some mq) rfl rfl rfl dJ8_plus_10 rfl ?_
    refine sw_callS (n := 14) F (ct_J8_doRound (g := xg x) (l := xl x) M q u s o mq p a m hx hfr hs hp hrm hm) q2745 q2746 q112 q2747 nd_J8_doRound rfl (by decide) [0, 1] rfl [] rfl 0 0 ⟨by omega, by omega⟩ [] rfl (Nat.le_of_ble_eq_true rfl) dJ8_plus_11 rfl (fun E Ws h => ?_) (fun v Ws h => ?_)
    ·
      obtain ⟨rfl, hrf_7, rfl⟩ := h
      show SX x [pl (xg x) M, ob (xg x) mq 18 [.int (jI p), .ref a]] _ _ _ _ _
      exact sx_out F (by rw [hPx]; exact ⟨rfl, hrf_7, rfl⟩)
    ·
      obtain ⟨M1_1, r1_2, o1_3, rfl, hle_4, hat_5, hrf_6, rfl⟩ := h
      show SW x [pl (xg x) M1_1, ob (xg x) mq 18 [.int (jI p), .ref a]] _ _ _ _ [.ref r1_2]
      exact sw_aret F (some r1_2) _ rfl rfl (by first | exact Or.inl ⟨_, rfl⟩ | exact Or.inr ⟨_, rfl⟩) dJ8_plus_14 (by rw [hPo]; exact ⟨M1_1, r1_2, o1_3, rfl, hle_4, hat_5, hrf_6, rfl⟩)
  · exfalso; omega
theorem nd_J8_round : yJ8_round.cls ≠ "java/lang/invoke/MethodHandle" ∧ yJ8_round.cls ≠ "java/lang/invoke/VarHandle" ∧ (parseMethodDescriptor yJ8_round.desc).map (fun d => d.parameters.length) = some 1 := by decide +kernel
set_option maxRecDepth 100000 in
set_option maxHeartbeats 16000000 in
theorem ct_J8_round {g : GG} {l : Launch} (M : Nat → Option PV) (q : Nat) (u : Int) (s : Int) (o : Option Nat) (mq : Nat) (p : Int) (a : Nat) (m : Int) (hx : at_ g M q (vD u s o)) (hfr : -999999999999999999 ≤ u ∧ u ≤ 999999999999999999) (hs : -1000 ≤ s ∧ s ≤ 1000) (hp : 1 ≤ p ∧ p ≤ 18) (hrm : rM g a m) (hm : 0 ≤ m ∧ m ≤ 7) : Ct g l yJ8_round (ws_ yJ8_round cJ8_round 2 (Option.some (Jvm.ClassFile.FieldType.object "java/math/BigDecimal"))) 11 214 3 17 [.ref q, .ref mq] [pl g M, ob g mq 18 [.int (jI p), .ref a]] (fun v9 Ws9 => ∃ M1 : Nat → Option PV, ∃ r1 : Nat, ∃ o1 : Option Nat, v9 = some (.ref r1) ∧ (le_ M M1) ∧ (at_ g M1 r1 (vD (rqV u p m) (rqS u s p m) o1)) ∧ (rqF u p m = false) ∧ Ws9 = [pl g M1, ob g mq 18 [.int (jI p), .ref a]]) (fun E9 Ws9 => (E9 = "java/lang/ArithmeticException" ∧ (rqF u p m = true) ∧ Ws9 = [pl g M, ob g mq 18 [.int (jI p), .ref a]])) := by
  refine Ct.of (cc := cJ8_round) (nL := 2) (ret := (Option.some (Jvm.ClassFile.FieldType.object "java/math/BigDecimal"))) (by decide) rfl (Nat.le_of_ble_eq_true rfl) ?_
  intro x hg hl hPo hPx hmc hms F
  subst hg; subst hl
  refine SW.cast (L' := [(0, .ref q), (1, .ref mq)]) ?_ rfl rfl rfl
  refine sw_aload_n (n := 1) F 0 (some q) rfl rfl rfl dJ8_round_0 rfl ?_
  refine sw_aload_n (n := 2) F 1 (some mq) rfl rfl rfl dJ8_round_1 rfl ?_
  refine sw_callV (n := 5) F (ct_J8_plus (g := xg x) (l := xl x) M q u s o mq p a m hx hfr hs hp hrm hm) (rcvD F 0 rfl hx) q2741 q2742 q2743 q112 q2744 nd_J8_plus rfl (by decide) [0, 1] rfl [] rfl 0 0 ⟨by omega, by omega⟩ [] rfl (Nat.le_of_ble_eq_true rfl) dJ8_round_2 rfl (fun E Ws h => ?_) (fun v Ws h => ?_)
  ·
    obtain ⟨rfl, hrf_7, rfl⟩ := h
    show SX x [pl (xg x) M, ob (xg x) mq 18 [.int (jI p), .ref a]] _ _ _ _ _
    exact sx_out F (by rw [hPx]; exact ⟨rfl, hrf_7, rfl⟩)
  ·
    obtain ⟨M1_1, r1_2, o1_3, rfl, hle_4, hat_5, hrf_6, rfl⟩ := h
    show SW x [pl (xg x) M1_1, ob (xg x) mq 18 [.int (jI p), .ref a]] _ _ _ _ [.ref r1_2]
    exact sw_aret F (some r1_2) _ rfl rfl (by first | exact Or.inl ⟨_, rfl⟩ | exact Or.inr ⟨_, rfl⟩) dJ8_round_5 (by rw [hPo]; exact ⟨M1_1, r1_2, o1_3, rfl, hle_4, hat_5, hrf_6, rfl⟩)
