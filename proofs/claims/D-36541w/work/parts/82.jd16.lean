set_option maxRecDepth 100000
def dkwJ8_multiplyDivideAndRound_9 : List UInt8 := [21, 7, 21, 8, 184, 4, 5, 176]
abbrev dktJ8_multiplyDivideAndRound_9 : List UInt8 := dkwJ8_multiplyDivideAndRound_9 ++ []
def dkwJ8_multiplyDivideAndRound_8 : List UInt8 := [184, 4, 2, 55, 28, 22, 22, 22, 20, 184, 4, 2, 55, 30, 22, 28, 22, 30, 22, 4, 21, 9, 21, 6]
abbrev dktJ8_multiplyDivideAndRound_8 : List UInt8 := dkwJ8_multiplyDivideAndRound_8 ++ dktJ8_multiplyDivideAndRound_9
def dkwJ8_multiplyDivideAndRound_7 : List UInt8 := [20, 2, 124, 127, 55, 24, 22, 18, 16, 32, 125, 22, 26, 97, 20, 2, 124, 127, 55, 26, 22, 26, 22, 24]
abbrev dktJ8_multiplyDivideAndRound_7 : List UInt8 := dkwJ8_multiplyDivideAndRound_7 ++ dktJ8_multiplyDivideAndRound_8
def dkwJ8_multiplyDivideAndRound_6 : List UInt8 := [125, 55, 26, 22, 24, 20, 2, 124, 127, 55, 24, 22, 10, 22, 14, 105, 22, 24, 97, 55, 18, 22, 18]
abbrev dktJ8_multiplyDivideAndRound_6 : List UInt8 := dkwJ8_multiplyDivideAndRound_6 ++ dktJ8_multiplyDivideAndRound_7
def dkwJ8_multiplyDivideAndRound_5 : List UInt8 := [55, 18, 22, 18, 20, 2, 124, 127, 55, 22, 22, 24, 22, 18, 16, 32, 125, 97, 55, 24, 22, 24, 16, 32]
abbrev dktJ8_multiplyDivideAndRound_5 : List UInt8 := dkwJ8_multiplyDivideAndRound_5 ++ dktJ8_multiplyDivideAndRound_6
def dkwJ8_multiplyDivideAndRound_4 : List UInt8 := [22, 18, 20, 2, 124, 127, 55, 22, 22, 18, 16, 32, 125, 55, 24, 22, 12, 22, 14, 105, 22, 22, 97]
abbrev dktJ8_multiplyDivideAndRound_4 : List UInt8 := dkwJ8_multiplyDivideAndRound_4 ++ dktJ8_multiplyDivideAndRound_5
def dkwJ8_multiplyDivideAndRound_3 : List UInt8 := [20, 2, 124, 127, 55, 20, 22, 18, 16, 32, 125, 55, 22, 22, 10, 22, 16, 105, 22, 22, 97, 55, 18]
abbrev dktJ8_multiplyDivideAndRound_3 : List UInt8 := dkwJ8_multiplyDivideAndRound_3 ++ dktJ8_multiplyDivideAndRound_4
def dkwJ8_multiplyDivideAndRound_2 : List UInt8 := [32, 16, 32, 125, 55, 14, 32, 20, 2, 124, 127, 55, 16, 22, 12, 22, 16, 105, 55, 18, 22, 18]
abbrev dktJ8_multiplyDivideAndRound_2 : List UInt8 := dkwJ8_multiplyDivideAndRound_2 ++ dktJ8_multiplyDivideAndRound_3
def dkwJ8_multiplyDivideAndRound_1 : List UInt8 := [184, 1, 184, 65, 22, 4, 184, 1, 184, 55, 4, 30, 16, 32, 125, 55, 10, 30, 20, 2, 124, 127, 55, 12]
abbrev dktJ8_multiplyDivideAndRound_1 : List UInt8 := dkwJ8_multiplyDivideAndRound_1 ++ dktJ8_multiplyDivideAndRound_2
def dkwJ8_multiplyDivideAndRound_0 : List UInt8 := [30, 184, 2, 84, 32, 184, 2, 84, 104, 22, 4, 184, 2, 84, 104, 54, 9, 30, 184, 1, 184, 63, 32]
abbrev dktJ8_multiplyDivideAndRound_0 : List UInt8 := dkwJ8_multiplyDivideAndRound_0 ++ dktJ8_multiplyDivideAndRound_1
theorem dksJ8_multiplyDivideAndRound_0 : cJ8_multiplyDivideAndRound.data.toList.drop 0 = dktJ8_multiplyDivideAndRound_0 := by decide +kernel
theorem dksJ8_multiplyDivideAndRound_1 : cJ8_multiplyDivideAndRound.data.toList.drop 23 = dktJ8_multiplyDivideAndRound_1 := dk_seg dksJ8_multiplyDivideAndRound_0 23 rfl rfl
theorem dksJ8_multiplyDivideAndRound_2 : cJ8_multiplyDivideAndRound.data.toList.drop 47 = dktJ8_multiplyDivideAndRound_2 := dk_seg dksJ8_multiplyDivideAndRound_1 24 rfl rfl
theorem dksJ8_multiplyDivideAndRound_3 : cJ8_multiplyDivideAndRound.data.toList.drop 69 = dktJ8_multiplyDivideAndRound_3 := dk_seg dksJ8_multiplyDivideAndRound_2 22 rfl rfl
theorem dksJ8_multiplyDivideAndRound_4 : cJ8_multiplyDivideAndRound.data.toList.drop 92 = dktJ8_multiplyDivideAndRound_4 := dk_seg dksJ8_multiplyDivideAndRound_3 23 rfl rfl
theorem dksJ8_multiplyDivideAndRound_5 : cJ8_multiplyDivideAndRound.data.toList.drop 115 = dktJ8_multiplyDivideAndRound_5 := dk_seg dksJ8_multiplyDivideAndRound_4 23 rfl rfl
theorem dksJ8_multiplyDivideAndRound_6 : cJ8_multiplyDivideAndRound.data.toList.drop 139 = dktJ8_multiplyDivideAndRound_6 := dk_seg dksJ8_multiplyDivideAndRound_5 24 rfl rfl
theorem dksJ8_multiplyDivideAndRound_7 : cJ8_multiplyDivideAndRound.data.toList.drop 162 = dktJ8_multiplyDivideAndRound_7 := dk_seg dksJ8_multiplyDivideAndRound_6 23 rfl rfl
theorem dksJ8_multiplyDivideAndRound_8 : cJ8_multiplyDivideAndRound.data.toList.drop 186 = dktJ8_multiplyDivideAndRound_8 := dk_seg dksJ8_multiplyDivideAndRound_7 24 rfl rfl
theorem dksJ8_multiplyDivideAndRound_9 : cJ8_multiplyDivideAndRound.data.toList.drop 210 = dktJ8_multiplyDivideAndRound_9 := dk_seg dksJ8_multiplyDivideAndRound_8 24 rfl rfl
theorem dJ8_multiplyDivideAndRound_0 : decode cJ8_multiplyDivideAndRound 0 = .ok (.lload_n 0, 1) := dk_30 (dk_at dksJ8_multiplyDivideAndRound_0 0 rfl rfl)
theorem dJ8_multiplyDivideAndRound_1 : decode cJ8_multiplyDivideAndRound 1 = .ok (.invokestatic 596, 3) := dk_184 2 84 (dk_at dksJ8_multiplyDivideAndRound_0 1 rfl rfl)
theorem dJ8_multiplyDivideAndRound_4 : decode cJ8_multiplyDivideAndRound 4 = .ok (.lload_n 2, 1) := dk_32 (dk_at dksJ8_multiplyDivideAndRound_0 4 rfl rfl)
theorem dJ8_multiplyDivideAndRound_5 : decode cJ8_multiplyDivideAndRound 5 = .ok (.invokestatic 596, 3) := dk_184 2 84 (dk_at dksJ8_multiplyDivideAndRound_0 5 rfl rfl)
theorem dJ8_multiplyDivideAndRound_8 : decode cJ8_multiplyDivideAndRound 8 = .ok (.imul, 1) := dk_104 (dk_at dksJ8_multiplyDivideAndRound_0 8 rfl rfl)
theorem dJ8_multiplyDivideAndRound_9 : decode cJ8_multiplyDivideAndRound 9 = .ok (.lload 4, 2) := dk_22 4 (dk_at dksJ8_multiplyDivideAndRound_0 9 rfl rfl)
theorem dJ8_multiplyDivideAndRound_11 : decode cJ8_multiplyDivideAndRound 11 = .ok (.invokestatic 596, 3) := dk_184 2 84 (dk_at dksJ8_multiplyDivideAndRound_0 11 rfl rfl)
theorem dJ8_multiplyDivideAndRound_14 : decode cJ8_multiplyDivideAndRound 14 = .ok (.imul, 1) := dk_104 (dk_at dksJ8_multiplyDivideAndRound_0 14 rfl rfl)
theorem dJ8_multiplyDivideAndRound_15 : decode cJ8_multiplyDivideAndRound 15 = .ok (.istore 9, 2) := dk_54 9 (dk_at dksJ8_multiplyDivideAndRound_0 15 rfl rfl)
theorem dJ8_multiplyDivideAndRound_17 : decode cJ8_multiplyDivideAndRound 17 = .ok (.lload_n 0, 1) := dk_30 (dk_at dksJ8_multiplyDivideAndRound_0 17 rfl rfl)
theorem dJ8_multiplyDivideAndRound_18 : decode cJ8_multiplyDivideAndRound 18 = .ok (.invokestatic 440, 3) := dk_184 1 184 (dk_at dksJ8_multiplyDivideAndRound_0 18 rfl rfl)
theorem dJ8_multiplyDivideAndRound_21 : decode cJ8_multiplyDivideAndRound 21 = .ok (.lstore_n 0, 1) := dk_63 (dk_at dksJ8_multiplyDivideAndRound_0 21 rfl rfl)
theorem dJ8_multiplyDivideAndRound_22 : decode cJ8_multiplyDivideAndRound 22 = .ok (.lload_n 2, 1) := dk_32 (dk_at dksJ8_multiplyDivideAndRound_0 22 rfl rfl)
theorem dJ8_multiplyDivideAndRound_23 : decode cJ8_multiplyDivideAndRound 23 = .ok (.invokestatic 440, 3) := dk_184 1 184 (dk_at dksJ8_multiplyDivideAndRound_1 0 rfl rfl)
theorem dJ8_multiplyDivideAndRound_26 : decode cJ8_multiplyDivideAndRound 26 = .ok (.lstore_n 2, 1) := dk_65 (dk_at dksJ8_multiplyDivideAndRound_1 3 rfl rfl)
theorem dJ8_multiplyDivideAndRound_27 : decode cJ8_multiplyDivideAndRound 27 = .ok (.lload 4, 2) := dk_22 4 (dk_at dksJ8_multiplyDivideAndRound_1 4 rfl rfl)
theorem dJ8_multiplyDivideAndRound_29 : decode cJ8_multiplyDivideAndRound 29 = .ok (.invokestatic 440, 3) := dk_184 1 184 (dk_at dksJ8_multiplyDivideAndRound_1 6 rfl rfl)
theorem dJ8_multiplyDivideAndRound_32 : decode cJ8_multiplyDivideAndRound 32 = .ok (.lstore 4, 2) := dk_55 4 (dk_at dksJ8_multiplyDivideAndRound_1 9 rfl rfl)
theorem dJ8_multiplyDivideAndRound_34 : decode cJ8_multiplyDivideAndRound 34 = .ok (.lload_n 0, 1) := dk_30 (dk_at dksJ8_multiplyDivideAndRound_1 11 rfl rfl)
theorem dJ8_multiplyDivideAndRound_35 : decode cJ8_multiplyDivideAndRound 35 = .ok (.bipush 32, 2) := dk_16 32 (dk_at dksJ8_multiplyDivideAndRound_1 12 rfl rfl)
theorem dJ8_multiplyDivideAndRound_37 : decode cJ8_multiplyDivideAndRound 37 = .ok (.lushr, 1) := dk_125 (dk_at dksJ8_multiplyDivideAndRound_1 14 rfl rfl)
theorem dJ8_multiplyDivideAndRound_38 : decode cJ8_multiplyDivideAndRound 38 = .ok (.lstore 10, 2) := dk_55 10 (dk_at dksJ8_multiplyDivideAndRound_1 15 rfl rfl)
theorem dJ8_multiplyDivideAndRound_40 : decode cJ8_multiplyDivideAndRound 40 = .ok (.lload_n 0, 1) := dk_30 (dk_at dksJ8_multiplyDivideAndRound_1 17 rfl rfl)
theorem dJ8_multiplyDivideAndRound_41 : decode cJ8_multiplyDivideAndRound 41 = .ok (.ldc2_w 636, 3) := dk_20 2 124 (dk_at dksJ8_multiplyDivideAndRound_1 18 rfl rfl)
theorem dJ8_multiplyDivideAndRound_44 : decode cJ8_multiplyDivideAndRound 44 = .ok (.land, 1) := dk_127 (dk_at dksJ8_multiplyDivideAndRound_1 21 rfl rfl)
theorem dJ8_multiplyDivideAndRound_45 : decode cJ8_multiplyDivideAndRound 45 = .ok (.lstore 12, 2) := dk_55 12 (dk_at dksJ8_multiplyDivideAndRound_1 22 rfl rfl)
theorem dJ8_multiplyDivideAndRound_47 : decode cJ8_multiplyDivideAndRound 47 = .ok (.lload_n 2, 1) := dk_32 (dk_at dksJ8_multiplyDivideAndRound_2 0 rfl rfl)
theorem dJ8_multiplyDivideAndRound_48 : decode cJ8_multiplyDivideAndRound 48 = .ok (.bipush 32, 2) := dk_16 32 (dk_at dksJ8_multiplyDivideAndRound_2 1 rfl rfl)
theorem dJ8_multiplyDivideAndRound_50 : decode cJ8_multiplyDivideAndRound 50 = .ok (.lushr, 1) := dk_125 (dk_at dksJ8_multiplyDivideAndRound_2 3 rfl rfl)
theorem dJ8_multiplyDivideAndRound_51 : decode cJ8_multiplyDivideAndRound 51 = .ok (.lstore 14, 2) := dk_55 14 (dk_at dksJ8_multiplyDivideAndRound_2 4 rfl rfl)
theorem dJ8_multiplyDivideAndRound_53 : decode cJ8_multiplyDivideAndRound 53 = .ok (.lload_n 2, 1) := dk_32 (dk_at dksJ8_multiplyDivideAndRound_2 6 rfl rfl)
theorem dJ8_multiplyDivideAndRound_54 : decode cJ8_multiplyDivideAndRound 54 = .ok (.ldc2_w 636, 3) := dk_20 2 124 (dk_at dksJ8_multiplyDivideAndRound_2 7 rfl rfl)
theorem dJ8_multiplyDivideAndRound_57 : decode cJ8_multiplyDivideAndRound 57 = .ok (.land, 1) := dk_127 (dk_at dksJ8_multiplyDivideAndRound_2 10 rfl rfl)
theorem dJ8_multiplyDivideAndRound_58 : decode cJ8_multiplyDivideAndRound 58 = .ok (.lstore 16, 2) := dk_55 16 (dk_at dksJ8_multiplyDivideAndRound_2 11 rfl rfl)
theorem dJ8_multiplyDivideAndRound_60 : decode cJ8_multiplyDivideAndRound 60 = .ok (.lload 12, 2) := dk_22 12 (dk_at dksJ8_multiplyDivideAndRound_2 13 rfl rfl)
theorem dJ8_multiplyDivideAndRound_62 : decode cJ8_multiplyDivideAndRound 62 = .ok (.lload 16, 2) := dk_22 16 (dk_at dksJ8_multiplyDivideAndRound_2 15 rfl rfl)
theorem dJ8_multiplyDivideAndRound_64 : decode cJ8_multiplyDivideAndRound 64 = .ok (.lmul, 1) := dk_105 (dk_at dksJ8_multiplyDivideAndRound_2 17 rfl rfl)
theorem dJ8_multiplyDivideAndRound_65 : decode cJ8_multiplyDivideAndRound 65 = .ok (.lstore 18, 2) := dk_55 18 (dk_at dksJ8_multiplyDivideAndRound_2 18 rfl rfl)
theorem dJ8_multiplyDivideAndRound_67 : decode cJ8_multiplyDivideAndRound 67 = .ok (.lload 18, 2) := dk_22 18 (dk_at dksJ8_multiplyDivideAndRound_2 20 rfl rfl)
theorem dJ8_multiplyDivideAndRound_69 : decode cJ8_multiplyDivideAndRound 69 = .ok (.ldc2_w 636, 3) := dk_20 2 124 (dk_at dksJ8_multiplyDivideAndRound_3 0 rfl rfl)
theorem dJ8_multiplyDivideAndRound_72 : decode cJ8_multiplyDivideAndRound 72 = .ok (.land, 1) := dk_127 (dk_at dksJ8_multiplyDivideAndRound_3 3 rfl rfl)
theorem dJ8_multiplyDivideAndRound_73 : decode cJ8_multiplyDivideAndRound 73 = .ok (.lstore 20, 2) := dk_55 20 (dk_at dksJ8_multiplyDivideAndRound_3 4 rfl rfl)
theorem dJ8_multiplyDivideAndRound_75 : decode cJ8_multiplyDivideAndRound 75 = .ok (.lload 18, 2) := dk_22 18 (dk_at dksJ8_multiplyDivideAndRound_3 6 rfl rfl)
theorem dJ8_multiplyDivideAndRound_77 : decode cJ8_multiplyDivideAndRound 77 = .ok (.bipush 32, 2) := dk_16 32 (dk_at dksJ8_multiplyDivideAndRound_3 8 rfl rfl)
theorem dJ8_multiplyDivideAndRound_79 : decode cJ8_multiplyDivideAndRound 79 = .ok (.lushr, 1) := dk_125 (dk_at dksJ8_multiplyDivideAndRound_3 10 rfl rfl)
theorem dJ8_multiplyDivideAndRound_80 : decode cJ8_multiplyDivideAndRound 80 = .ok (.lstore 22, 2) := dk_55 22 (dk_at dksJ8_multiplyDivideAndRound_3 11 rfl rfl)
theorem dJ8_multiplyDivideAndRound_82 : decode cJ8_multiplyDivideAndRound 82 = .ok (.lload 10, 2) := dk_22 10 (dk_at dksJ8_multiplyDivideAndRound_3 13 rfl rfl)
theorem dJ8_multiplyDivideAndRound_84 : decode cJ8_multiplyDivideAndRound 84 = .ok (.lload 16, 2) := dk_22 16 (dk_at dksJ8_multiplyDivideAndRound_3 15 rfl rfl)
theorem dJ8_multiplyDivideAndRound_86 : decode cJ8_multiplyDivideAndRound 86 = .ok (.lmul, 1) := dk_105 (dk_at dksJ8_multiplyDivideAndRound_3 17 rfl rfl)
theorem dJ8_multiplyDivideAndRound_87 : decode cJ8_multiplyDivideAndRound 87 = .ok (.lload 22, 2) := dk_22 22 (dk_at dksJ8_multiplyDivideAndRound_3 18 rfl rfl)
theorem dJ8_multiplyDivideAndRound_89 : decode cJ8_multiplyDivideAndRound 89 = .ok (.ladd, 1) := dk_97 (dk_at dksJ8_multiplyDivideAndRound_3 20 rfl rfl)
theorem dJ8_multiplyDivideAndRound_90 : decode cJ8_multiplyDivideAndRound 90 = .ok (.lstore 18, 2) := dk_55 18 (dk_at dksJ8_multiplyDivideAndRound_3 21 rfl rfl)
theorem dJ8_multiplyDivideAndRound_92 : decode cJ8_multiplyDivideAndRound 92 = .ok (.lload 18, 2) := dk_22 18 (dk_at dksJ8_multiplyDivideAndRound_4 0 rfl rfl)
theorem dJ8_multiplyDivideAndRound_94 : decode cJ8_multiplyDivideAndRound 94 = .ok (.ldc2_w 636, 3) := dk_20 2 124 (dk_at dksJ8_multiplyDivideAndRound_4 2 rfl rfl)
theorem dJ8_multiplyDivideAndRound_97 : decode cJ8_multiplyDivideAndRound 97 = .ok (.land, 1) := dk_127 (dk_at dksJ8_multiplyDivideAndRound_4 5 rfl rfl)
theorem dJ8_multiplyDivideAndRound_98 : decode cJ8_multiplyDivideAndRound 98 = .ok (.lstore 22, 2) := dk_55 22 (dk_at dksJ8_multiplyDivideAndRound_4 6 rfl rfl)
theorem dJ8_multiplyDivideAndRound_100 : decode cJ8_multiplyDivideAndRound 100 = .ok (.lload 18, 2) := dk_22 18 (dk_at dksJ8_multiplyDivideAndRound_4 8 rfl rfl)
theorem dJ8_multiplyDivideAndRound_102 : decode cJ8_multiplyDivideAndRound 102 = .ok (.bipush 32, 2) := dk_16 32 (dk_at dksJ8_multiplyDivideAndRound_4 10 rfl rfl)
theorem dJ8_multiplyDivideAndRound_104 : decode cJ8_multiplyDivideAndRound 104 = .ok (.lushr, 1) := dk_125 (dk_at dksJ8_multiplyDivideAndRound_4 12 rfl rfl)
theorem dJ8_multiplyDivideAndRound_105 : decode cJ8_multiplyDivideAndRound 105 = .ok (.lstore 24, 2) := dk_55 24 (dk_at dksJ8_multiplyDivideAndRound_4 13 rfl rfl)
theorem dJ8_multiplyDivideAndRound_107 : decode cJ8_multiplyDivideAndRound 107 = .ok (.lload 12, 2) := dk_22 12 (dk_at dksJ8_multiplyDivideAndRound_4 15 rfl rfl)
theorem dJ8_multiplyDivideAndRound_109 : decode cJ8_multiplyDivideAndRound 109 = .ok (.lload 14, 2) := dk_22 14 (dk_at dksJ8_multiplyDivideAndRound_4 17 rfl rfl)
theorem dJ8_multiplyDivideAndRound_111 : decode cJ8_multiplyDivideAndRound 111 = .ok (.lmul, 1) := dk_105 (dk_at dksJ8_multiplyDivideAndRound_4 19 rfl rfl)
theorem dJ8_multiplyDivideAndRound_112 : decode cJ8_multiplyDivideAndRound 112 = .ok (.lload 22, 2) := dk_22 22 (dk_at dksJ8_multiplyDivideAndRound_4 20 rfl rfl)
theorem dJ8_multiplyDivideAndRound_114 : decode cJ8_multiplyDivideAndRound 114 = .ok (.ladd, 1) := dk_97 (dk_at dksJ8_multiplyDivideAndRound_4 22 rfl rfl)
theorem dJ8_multiplyDivideAndRound_115 : decode cJ8_multiplyDivideAndRound 115 = .ok (.lstore 18, 2) := dk_55 18 (dk_at dksJ8_multiplyDivideAndRound_5 0 rfl rfl)
theorem dJ8_multiplyDivideAndRound_117 : decode cJ8_multiplyDivideAndRound 117 = .ok (.lload 18, 2) := dk_22 18 (dk_at dksJ8_multiplyDivideAndRound_5 2 rfl rfl)
theorem dJ8_multiplyDivideAndRound_119 : decode cJ8_multiplyDivideAndRound 119 = .ok (.ldc2_w 636, 3) := dk_20 2 124 (dk_at dksJ8_multiplyDivideAndRound_5 4 rfl rfl)
theorem dJ8_multiplyDivideAndRound_122 : decode cJ8_multiplyDivideAndRound 122 = .ok (.land, 1) := dk_127 (dk_at dksJ8_multiplyDivideAndRound_5 7 rfl rfl)
theorem dJ8_multiplyDivideAndRound_123 : decode cJ8_multiplyDivideAndRound 123 = .ok (.lstore 22, 2) := dk_55 22 (dk_at dksJ8_multiplyDivideAndRound_5 8 rfl rfl)
theorem dJ8_multiplyDivideAndRound_125 : decode cJ8_multiplyDivideAndRound 125 = .ok (.lload 24, 2) := dk_22 24 (dk_at dksJ8_multiplyDivideAndRound_5 10 rfl rfl)
theorem dJ8_multiplyDivideAndRound_127 : decode cJ8_multiplyDivideAndRound 127 = .ok (.lload 18, 2) := dk_22 18 (dk_at dksJ8_multiplyDivideAndRound_5 12 rfl rfl)
theorem dJ8_multiplyDivideAndRound_129 : decode cJ8_multiplyDivideAndRound 129 = .ok (.bipush 32, 2) := dk_16 32 (dk_at dksJ8_multiplyDivideAndRound_5 14 rfl rfl)
theorem dJ8_multiplyDivideAndRound_131 : decode cJ8_multiplyDivideAndRound 131 = .ok (.lushr, 1) := dk_125 (dk_at dksJ8_multiplyDivideAndRound_5 16 rfl rfl)
theorem dJ8_multiplyDivideAndRound_132 : decode cJ8_multiplyDivideAndRound 132 = .ok (.ladd, 1) := dk_97 (dk_at dksJ8_multiplyDivideAndRound_5 17 rfl rfl)
theorem dJ8_multiplyDivideAndRound_133 : decode cJ8_multiplyDivideAndRound 133 = .ok (.lstore 24, 2) := dk_55 24 (dk_at dksJ8_multiplyDivideAndRound_5 18 rfl rfl)
theorem dJ8_multiplyDivideAndRound_135 : decode cJ8_multiplyDivideAndRound 135 = .ok (.lload 24, 2) := dk_22 24 (dk_at dksJ8_multiplyDivideAndRound_5 20 rfl rfl)
theorem dJ8_multiplyDivideAndRound_137 : decode cJ8_multiplyDivideAndRound 137 = .ok (.bipush 32, 2) := dk_16 32 (dk_at dksJ8_multiplyDivideAndRound_5 22 rfl rfl)
theorem dJ8_multiplyDivideAndRound_139 : decode cJ8_multiplyDivideAndRound 139 = .ok (.lushr, 1) := dk_125 (dk_at dksJ8_multiplyDivideAndRound_6 0 rfl rfl)
theorem dJ8_multiplyDivideAndRound_140 : decode cJ8_multiplyDivideAndRound 140 = .ok (.lstore 26, 2) := dk_55 26 (dk_at dksJ8_multiplyDivideAndRound_6 1 rfl rfl)
theorem dJ8_multiplyDivideAndRound_142 : decode cJ8_multiplyDivideAndRound 142 = .ok (.lload 24, 2) := dk_22 24 (dk_at dksJ8_multiplyDivideAndRound_6 3 rfl rfl)
theorem dJ8_multiplyDivideAndRound_144 : decode cJ8_multiplyDivideAndRound 144 = .ok (.ldc2_w 636, 3) := dk_20 2 124 (dk_at dksJ8_multiplyDivideAndRound_6 5 rfl rfl)
theorem dJ8_multiplyDivideAndRound_147 : decode cJ8_multiplyDivideAndRound 147 = .ok (.land, 1) := dk_127 (dk_at dksJ8_multiplyDivideAndRound_6 8 rfl rfl)
theorem dJ8_multiplyDivideAndRound_148 : decode cJ8_multiplyDivideAndRound 148 = .ok (.lstore 24, 2) := dk_55 24 (dk_at dksJ8_multiplyDivideAndRound_6 9 rfl rfl)
theorem dJ8_multiplyDivideAndRound_150 : decode cJ8_multiplyDivideAndRound 150 = .ok (.lload 10, 2) := dk_22 10 (dk_at dksJ8_multiplyDivideAndRound_6 11 rfl rfl)
theorem dJ8_multiplyDivideAndRound_152 : decode cJ8_multiplyDivideAndRound 152 = .ok (.lload 14, 2) := dk_22 14 (dk_at dksJ8_multiplyDivideAndRound_6 13 rfl rfl)
theorem dJ8_multiplyDivideAndRound_154 : decode cJ8_multiplyDivideAndRound 154 = .ok (.lmul, 1) := dk_105 (dk_at dksJ8_multiplyDivideAndRound_6 15 rfl rfl)
theorem dJ8_multiplyDivideAndRound_155 : decode cJ8_multiplyDivideAndRound 155 = .ok (.lload 24, 2) := dk_22 24 (dk_at dksJ8_multiplyDivideAndRound_6 16 rfl rfl)
theorem dJ8_multiplyDivideAndRound_157 : decode cJ8_multiplyDivideAndRound 157 = .ok (.ladd, 1) := dk_97 (dk_at dksJ8_multiplyDivideAndRound_6 18 rfl rfl)
theorem dJ8_multiplyDivideAndRound_158 : decode cJ8_multiplyDivideAndRound 158 = .ok (.lstore 18, 2) := dk_55 18 (dk_at dksJ8_multiplyDivideAndRound_6 19 rfl rfl)
theorem dJ8_multiplyDivideAndRound_160 : decode cJ8_multiplyDivideAndRound 160 = .ok (.lload 18, 2) := dk_22 18 (dk_at dksJ8_multiplyDivideAndRound_6 21 rfl rfl)
theorem dJ8_multiplyDivideAndRound_162 : decode cJ8_multiplyDivideAndRound 162 = .ok (.ldc2_w 636, 3) := dk_20 2 124 (dk_at dksJ8_multiplyDivideAndRound_7 0 rfl rfl)
theorem dJ8_multiplyDivideAndRound_165 : decode cJ8_multiplyDivideAndRound 165 = .ok (.land, 1) := dk_127 (dk_at dksJ8_multiplyDivideAndRound_7 3 rfl rfl)
theorem dJ8_multiplyDivideAndRound_166 : decode cJ8_multiplyDivideAndRound 166 = .ok (.lstore 24, 2) := dk_55 24 (dk_at dksJ8_multiplyDivideAndRound_7 4 rfl rfl)
theorem dJ8_multiplyDivideAndRound_168 : decode cJ8_multiplyDivideAndRound 168 = .ok (.lload 18, 2) := dk_22 18 (dk_at dksJ8_multiplyDivideAndRound_7 6 rfl rfl)
theorem dJ8_multiplyDivideAndRound_170 : decode cJ8_multiplyDivideAndRound 170 = .ok (.bipush 32, 2) := dk_16 32 (dk_at dksJ8_multiplyDivideAndRound_7 8 rfl rfl)
theorem dJ8_multiplyDivideAndRound_172 : decode cJ8_multiplyDivideAndRound 172 = .ok (.lushr, 1) := dk_125 (dk_at dksJ8_multiplyDivideAndRound_7 10 rfl rfl)
theorem dJ8_multiplyDivideAndRound_173 : decode cJ8_multiplyDivideAndRound 173 = .ok (.lload 26, 2) := dk_22 26 (dk_at dksJ8_multiplyDivideAndRound_7 11 rfl rfl)
theorem dJ8_multiplyDivideAndRound_175 : decode cJ8_multiplyDivideAndRound 175 = .ok (.ladd, 1) := dk_97 (dk_at dksJ8_multiplyDivideAndRound_7 13 rfl rfl)
theorem dJ8_multiplyDivideAndRound_176 : decode cJ8_multiplyDivideAndRound 176 = .ok (.ldc2_w 636, 3) := dk_20 2 124 (dk_at dksJ8_multiplyDivideAndRound_7 14 rfl rfl)
theorem dJ8_multiplyDivideAndRound_179 : decode cJ8_multiplyDivideAndRound 179 = .ok (.land, 1) := dk_127 (dk_at dksJ8_multiplyDivideAndRound_7 17 rfl rfl)
theorem dJ8_multiplyDivideAndRound_180 : decode cJ8_multiplyDivideAndRound 180 = .ok (.lstore 26, 2) := dk_55 26 (dk_at dksJ8_multiplyDivideAndRound_7 18 rfl rfl)
theorem dJ8_multiplyDivideAndRound_182 : decode cJ8_multiplyDivideAndRound 182 = .ok (.lload 26, 2) := dk_22 26 (dk_at dksJ8_multiplyDivideAndRound_7 20 rfl rfl)
theorem dJ8_multiplyDivideAndRound_184 : decode cJ8_multiplyDivideAndRound 184 = .ok (.lload 24, 2) := dk_22 24 (dk_at dksJ8_multiplyDivideAndRound_7 22 rfl rfl)
theorem dJ8_multiplyDivideAndRound_186 : decode cJ8_multiplyDivideAndRound 186 = .ok (.invokestatic 1026, 3) := dk_184 4 2 (dk_at dksJ8_multiplyDivideAndRound_8 0 rfl rfl)
theorem dJ8_multiplyDivideAndRound_189 : decode cJ8_multiplyDivideAndRound 189 = .ok (.lstore 28, 2) := dk_55 28 (dk_at dksJ8_multiplyDivideAndRound_8 3 rfl rfl)
theorem dJ8_multiplyDivideAndRound_191 : decode cJ8_multiplyDivideAndRound 191 = .ok (.lload 22, 2) := dk_22 22 (dk_at dksJ8_multiplyDivideAndRound_8 5 rfl rfl)
theorem dJ8_multiplyDivideAndRound_193 : decode cJ8_multiplyDivideAndRound 193 = .ok (.lload 20, 2) := dk_22 20 (dk_at dksJ8_multiplyDivideAndRound_8 7 rfl rfl)
theorem dJ8_multiplyDivideAndRound_195 : decode cJ8_multiplyDivideAndRound 195 = .ok (.invokestatic 1026, 3) := dk_184 4 2 (dk_at dksJ8_multiplyDivideAndRound_8 9 rfl rfl)
theorem dJ8_multiplyDivideAndRound_198 : decode cJ8_multiplyDivideAndRound 198 = .ok (.lstore 30, 2) := dk_55 30 (dk_at dksJ8_multiplyDivideAndRound_8 12 rfl rfl)
theorem dJ8_multiplyDivideAndRound_200 : decode cJ8_multiplyDivideAndRound 200 = .ok (.lload 28, 2) := dk_22 28 (dk_at dksJ8_multiplyDivideAndRound_8 14 rfl rfl)
theorem dJ8_multiplyDivideAndRound_202 : decode cJ8_multiplyDivideAndRound 202 = .ok (.lload 30, 2) := dk_22 30 (dk_at dksJ8_multiplyDivideAndRound_8 16 rfl rfl)
theorem dJ8_multiplyDivideAndRound_204 : decode cJ8_multiplyDivideAndRound 204 = .ok (.lload 4, 2) := dk_22 4 (dk_at dksJ8_multiplyDivideAndRound_8 18 rfl rfl)
theorem dJ8_multiplyDivideAndRound_206 : decode cJ8_multiplyDivideAndRound 206 = .ok (.iload 9, 2) := dk_21 9 (dk_at dksJ8_multiplyDivideAndRound_8 20 rfl rfl)
theorem dJ8_multiplyDivideAndRound_208 : decode cJ8_multiplyDivideAndRound 208 = .ok (.iload 6, 2) := dk_21 6 (dk_at dksJ8_multiplyDivideAndRound_8 22 rfl rfl)
theorem dJ8_multiplyDivideAndRound_210 : decode cJ8_multiplyDivideAndRound 210 = .ok (.iload 7, 2) := dk_21 7 (dk_at dksJ8_multiplyDivideAndRound_9 0 rfl rfl)
theorem dJ8_multiplyDivideAndRound_212 : decode cJ8_multiplyDivideAndRound 212 = .ok (.iload 8, 2) := dk_21 8 (dk_at dksJ8_multiplyDivideAndRound_9 2 rfl rfl)
theorem dJ8_multiplyDivideAndRound_214 : decode cJ8_multiplyDivideAndRound 214 = .ok (.invokestatic 1029, 3) := dk_184 4 5 (dk_at dksJ8_multiplyDivideAndRound_9 4 rfl rfl)
theorem dJ8_multiplyDivideAndRound_217 : decode cJ8_multiplyDivideAndRound 217 = .ok (.areturn, 1) := dk_176 (dk_at dksJ8_multiplyDivideAndRound_9 7 rfl rfl)
def dkwJ8_make64_0 : List UInt8 := [30, 16, 32, 121, 32, 129, 173]
abbrev dktJ8_make64_0 : List UInt8 := dkwJ8_make64_0 ++ []
theorem dksJ8_make64_0 : cJ8_make64.data.toList.drop 0 = dktJ8_make64_0 := by decide +kernel
theorem dJ8_make64_0 : decode cJ8_make64 0 = .ok (.lload_n 0, 1) := dk_30 (dk_at dksJ8_make64_0 0 rfl rfl)
theorem dJ8_make64_1 : decode cJ8_make64 1 = .ok (.bipush 32, 2) := dk_16 32 (dk_at dksJ8_make64_0 1 rfl rfl)
theorem dJ8_make64_3 : decode cJ8_make64 3 = .ok (.lshl, 1) := dk_121 (dk_at dksJ8_make64_0 3 rfl rfl)
theorem dJ8_make64_4 : decode cJ8_make64 4 = .ok (.lload_n 2, 1) := dk_32 (dk_at dksJ8_make64_0 4 rfl rfl)
theorem dJ8_make64_5 : decode cJ8_make64 5 = .ok (.lor, 1) := dk_129 (dk_at dksJ8_make64_0 5 rfl rfl)
theorem dJ8_make64_6 : decode cJ8_make64 6 = .ok (.lreturn, 1) := dk_173 (dk_at dksJ8_make64_0 6 rfl rfl)
def dkwJ8_divideAndRound128_26 : List UInt8 := [21, 7, 184, 1, 72, 176]
abbrev dktJ8_divideAndRound128_26 : List UInt8 := dkwJ8_divideAndRound128_26 ++ []
def dkwJ8_divideAndRound128_25 : List UInt8 := [184, 1, 72, 176, 21, 9, 21, 7, 159, 0, 14, 22, 29, 21, 7, 21, 9, 133, 184, 2, 109, 176, 22, 29]
abbrev dktJ8_divideAndRound128_25 : List UInt8 := dkwJ8_divideAndRound128_25 ++ dktJ8_divideAndRound128_26
def dkwJ8_divideAndRound128_24 : List UInt8 := [184, 3, 156, 54, 33, 21, 33, 153, 0, 12, 22, 29, 21, 6, 133, 97, 167, 0, 5, 22, 29, 21, 7]
abbrev dktJ8_divideAndRound128_24 : List UInt8 := dkwJ8_divideAndRound128_24 ++ dktJ8_divideAndRound128_25
def dkwJ8_divideAndRound128_23 : List UInt8 := [55, 31, 22, 31, 9, 148, 153, 0, 43, 22, 4, 21, 10, 125, 21, 8, 21, 6, 22, 29, 22, 31]
abbrev dktJ8_divideAndRound128_23 : List UInt8 := dkwJ8_divideAndRound128_23 ++ dktJ8_divideAndRound128_24
def dkwJ8_divideAndRound128_22 : List UInt8 := [22, 29, 21, 7, 184, 1, 72, 176, 22, 17, 22, 19, 22, 11, 22, 13, 22, 27, 184, 4, 19, 21, 10, 125]
abbrev dktJ8_divideAndRound128_22 : List UInt8 := dkwJ8_divideAndRound128_22 ++ dktJ8_divideAndRound128_23
def dkwJ8_divideAndRound128_21 : List UInt8 := [55, 29, 22, 29, 21, 6, 133, 105, 55, 29, 21, 8, 4, 160, 0, 18, 21, 7, 21, 9, 160, 0, 11]
abbrev dktJ8_divideAndRound128_21 : List UInt8 := dkwJ8_divideAndRound128_21 ++ dktJ8_divideAndRound128_22
def dkwJ8_divideAndRound128_20 : List UInt8 := [21, 9, 133, 184, 2, 113, 176, 25, 29, 21, 6, 21, 7, 182, 3, 193, 176, 22, 23, 22, 27, 184, 4, 2]
abbrev dktJ8_divideAndRound128_20 : List UInt8 := dkwJ8_divideAndRound128_20 ++ dktJ8_divideAndRound128_21
def dkwJ8_divideAndRound128_19 : List UInt8 := [182, 3, 193, 176, 21, 9, 21, 7, 159, 0, 23, 25, 29, 21, 6, 182, 3, 191, 58, 32, 25, 32, 21, 7]
abbrev dktJ8_divideAndRound128_19 : List UInt8 := dkwJ8_divideAndRound128_19 ++ dktJ8_divideAndRound128_20
def dkwJ8_divideAndRound128_18 : List UInt8 := [25, 29, 22, 30, 184, 3, 182, 153, 0, 11, 25, 29, 178, 3, 185, 182, 3, 188, 25, 29, 21, 6, 21, 7]
abbrev dktJ8_divideAndRound128_18 : List UInt8 := dkwJ8_divideAndRound128_18 ++ dktJ8_divideAndRound128_19
def dkwJ8_divideAndRound128_17 : List UInt8 := [184, 4, 19, 21, 10, 125, 55, 30, 22, 30, 9, 148, 153, 0, 40, 22, 4, 21, 10, 125, 21, 8, 21, 6]
abbrev dktJ8_divideAndRound128_17 : List UInt8 := dkwJ8_divideAndRound128_17 ++ dktJ8_divideAndRound128_18
def dkwJ8_divideAndRound128_16 : List UInt8 := [160, 0, 13, 25, 29, 21, 6, 21, 7, 182, 3, 193, 176, 22, 17, 22, 19, 22, 11, 22, 13, 22, 27]
abbrev dktJ8_divideAndRound128_16 : List UInt8 := dkwJ8_divideAndRound128_16 ++ dktJ8_divideAndRound128_17
def dkwJ8_divideAndRound128_15 : List UInt8 := [136, 79, 89, 4, 22, 27, 136, 79, 183, 3, 175, 58, 29, 21, 8, 4, 160, 0, 20, 21, 7, 21, 9]
abbrev dktJ8_divideAndRound128_15 : List UInt8 := dkwJ8_divideAndRound128_15 ++ dktJ8_divideAndRound128_16
def dkwJ8_divideAndRound128_14 : List UInt8 := [148, 155, 255, 210, 167, 0, 3, 22, 23, 136, 156, 0, 149, 187, 3, 173, 89, 5, 188, 10, 89, 3, 22, 23]
abbrev dktJ8_divideAndRound128_14 : List UInt8 := dkwJ8_divideAndRound128_14 ++ dktJ8_divideAndRound128_15
def dkwJ8_divideAndRound128_13 : List UInt8 := [184, 4, 15, 153, 0, 28, 22, 27, 10, 101, 55, 27, 22, 25, 22, 11, 97, 55, 25, 22, 25, 20, 4, 13]
abbrev dktJ8_divideAndRound128_13 : List UInt8 := dkwJ8_divideAndRound128_13 ++ dktJ8_divideAndRound128_14
def dkwJ8_divideAndRound128_12 : List UInt8 := [47, 55, 25, 22, 27, 20, 4, 13, 148, 156, 0, 21, 22, 27, 22, 13, 105, 22, 25, 22, 19, 184, 4, 2]
abbrev dktJ8_divideAndRound128_12 : List UInt8 := dkwJ8_divideAndRound128_12 ++ dktJ8_divideAndRound128_13
def dkwJ8_divideAndRound128_11 : List UInt8 := [101, 55, 25, 167, 0, 24, 22, 15, 22, 11, 184, 4, 9, 58, 29, 25, 29, 4, 47, 55, 27, 25, 29, 3]
abbrev dktJ8_divideAndRound128_11 : List UInt8 := dkwJ8_divideAndRound128_11 ++ dktJ8_divideAndRound128_12
def dkwJ8_divideAndRound128_10 : List UInt8 := [167, 0, 51, 22, 15, 9, 148, 155, 0, 23, 22, 15, 22, 11, 109, 55, 27, 22, 15, 22, 27, 22, 11, 105]
abbrev dktJ8_divideAndRound128_10 : List UInt8 := dkwJ8_divideAndRound128_10 ++ dktJ8_divideAndRound128_11
def dkwJ8_divideAndRound128_9 : List UInt8 := [55, 15, 22, 15, 20, 2, 124, 127, 55, 17, 22, 11, 10, 148, 154, 0, 13, 22, 15, 55, 27, 9, 55, 25]
abbrev dktJ8_divideAndRound128_9 : List UInt8 := dkwJ8_divideAndRound128_9 ++ dktJ8_divideAndRound128_10
def dkwJ8_divideAndRound128_8 : List UInt8 := [20, 4, 13, 148, 155, 255, 210, 167, 0, 3, 22, 21, 22, 17, 22, 11, 22, 13, 22, 23, 184, 4, 19]
abbrev dktJ8_divideAndRound128_8 : List UInt8 := dkwJ8_divideAndRound128_8 ++ dktJ8_divideAndRound128_9
def dkwJ8_divideAndRound128_7 : List UInt8 := [184, 4, 2, 184, 4, 15, 153, 0, 28, 22, 23, 10, 101, 55, 23, 22, 25, 22, 11, 97, 55, 25, 22, 25]
abbrev dktJ8_divideAndRound128_7 : List UInt8 := dkwJ8_divideAndRound128_7 ++ dktJ8_divideAndRound128_8
def dkwJ8_divideAndRound128_6 : List UInt8 := [25, 27, 3, 47, 55, 25, 22, 23, 20, 4, 13, 148, 156, 0, 21, 22, 23, 22, 13, 105, 22, 25, 22, 17]
abbrev dktJ8_divideAndRound128_6 : List UInt8 := dkwJ8_divideAndRound128_6 ++ dktJ8_divideAndRound128_7
def dkwJ8_divideAndRound128_5 : List UInt8 := [22, 11, 105, 101, 55, 25, 167, 0, 24, 22, 15, 22, 11, 184, 4, 9, 58, 27, 25, 27, 4, 47, 55, 23]
abbrev dktJ8_divideAndRound128_5 : List UInt8 := dkwJ8_divideAndRound128_5 ++ dktJ8_divideAndRound128_6
def dkwJ8_divideAndRound128_4 : List UInt8 := [55, 25, 167, 0, 51, 22, 15, 9, 148, 155, 0, 23, 22, 15, 22, 11, 109, 55, 23, 22, 15, 22, 23]
abbrev dktJ8_divideAndRound128_4 : List UInt8 := dkwJ8_divideAndRound128_4 ++ dktJ8_divideAndRound128_5
def dkwJ8_divideAndRound128_3 : List UInt8 := [129, 55, 15, 22, 15, 20, 2, 124, 127, 55, 21, 22, 11, 10, 148, 154, 0, 13, 22, 15, 55, 23, 9]
abbrev dktJ8_divideAndRound128_3 : List UInt8 := dkwJ8_divideAndRound128_3 ++ dktJ8_divideAndRound128_4
def dkwJ8_divideAndRound128_2 : List UInt8 := [16, 32, 125, 55, 17, 22, 15, 20, 2, 124, 127, 55, 19, 30, 21, 10, 121, 32, 16, 64, 21, 10, 100, 125]
abbrev dktJ8_divideAndRound128_2 : List UInt8 := dkwJ8_divideAndRound128_2 ++ dktJ8_divideAndRound128_3
def dkwJ8_divideAndRound128_1 : List UInt8 := [22, 4, 16, 32, 125, 55, 11, 22, 4, 20, 2, 124, 127, 55, 13, 32, 21, 10, 121, 55, 15, 22, 15]
abbrev dktJ8_divideAndRound128_1 : List UInt8 := dkwJ8_divideAndRound128_1 ++ dktJ8_divideAndRound128_2
def dkwJ8_divideAndRound128_0 : List UInt8 := [30, 22, 4, 148, 155, 0, 5, 1, 176, 22, 4, 184, 2, 249, 54, 10, 22, 4, 21, 10, 121, 55, 4]
abbrev dktJ8_divideAndRound128_0 : List UInt8 := dkwJ8_divideAndRound128_0 ++ dktJ8_divideAndRound128_1
theorem dksJ8_divideAndRound128_0 : cJ8_divideAndRound128.data.toList.drop 0 = dktJ8_divideAndRound128_0 := by decide +kernel
theorem dksJ8_divideAndRound128_1 : cJ8_divideAndRound128.data.toList.drop 23 = dktJ8_divideAndRound128_1 := dk_seg dksJ8_divideAndRound128_0 23 rfl rfl
theorem dksJ8_divideAndRound128_2 : cJ8_divideAndRound128.data.toList.drop 46 = dktJ8_divideAndRound128_2 := dk_seg dksJ8_divideAndRound128_1 23 rfl rfl
theorem dksJ8_divideAndRound128_3 : cJ8_divideAndRound128.data.toList.drop 70 = dktJ8_divideAndRound128_3 := dk_seg dksJ8_divideAndRound128_2 24 rfl rfl
theorem dksJ8_divideAndRound128_4 : cJ8_divideAndRound128.data.toList.drop 93 = dktJ8_divideAndRound128_4 := dk_seg dksJ8_divideAndRound128_3 23 rfl rfl
theorem dksJ8_divideAndRound128_5 : cJ8_divideAndRound128.data.toList.drop 116 = dktJ8_divideAndRound128_5 := dk_seg dksJ8_divideAndRound128_4 23 rfl rfl
theorem dksJ8_divideAndRound128_6 : cJ8_divideAndRound128.data.toList.drop 140 = dktJ8_divideAndRound128_6 := dk_seg dksJ8_divideAndRound128_5 24 rfl rfl
theorem dksJ8_divideAndRound128_7 : cJ8_divideAndRound128.data.toList.drop 164 = dktJ8_divideAndRound128_7 := dk_seg dksJ8_divideAndRound128_6 24 rfl rfl
theorem dksJ8_divideAndRound128_8 : cJ8_divideAndRound128.data.toList.drop 188 = dktJ8_divideAndRound128_8 := dk_seg dksJ8_divideAndRound128_7 24 rfl rfl
theorem dksJ8_divideAndRound128_9 : cJ8_divideAndRound128.data.toList.drop 211 = dktJ8_divideAndRound128_9 := dk_seg dksJ8_divideAndRound128_8 23 rfl rfl
theorem dksJ8_divideAndRound128_10 : cJ8_divideAndRound128.data.toList.drop 235 = dktJ8_divideAndRound128_10 := dk_seg dksJ8_divideAndRound128_9 24 rfl rfl
theorem dksJ8_divideAndRound128_11 : cJ8_divideAndRound128.data.toList.drop 259 = dktJ8_divideAndRound128_11 := dk_seg dksJ8_divideAndRound128_10 24 rfl rfl
theorem dksJ8_divideAndRound128_12 : cJ8_divideAndRound128.data.toList.drop 283 = dktJ8_divideAndRound128_12 := dk_seg dksJ8_divideAndRound128_11 24 rfl rfl
theorem dksJ8_divideAndRound128_13 : cJ8_divideAndRound128.data.toList.drop 307 = dktJ8_divideAndRound128_13 := dk_seg dksJ8_divideAndRound128_12 24 rfl rfl
theorem dksJ8_divideAndRound128_14 : cJ8_divideAndRound128.data.toList.drop 331 = dktJ8_divideAndRound128_14 := dk_seg dksJ8_divideAndRound128_13 24 rfl rfl
theorem dksJ8_divideAndRound128_15 : cJ8_divideAndRound128.data.toList.drop 355 = dktJ8_divideAndRound128_15 := dk_seg dksJ8_divideAndRound128_14 24 rfl rfl
theorem dksJ8_divideAndRound128_16 : cJ8_divideAndRound128.data.toList.drop 378 = dktJ8_divideAndRound128_16 := dk_seg dksJ8_divideAndRound128_15 23 rfl rfl
theorem dksJ8_divideAndRound128_17 : cJ8_divideAndRound128.data.toList.drop 401 = dktJ8_divideAndRound128_17 := dk_seg dksJ8_divideAndRound128_16 23 rfl rfl
theorem dksJ8_divideAndRound128_18 : cJ8_divideAndRound128.data.toList.drop 425 = dktJ8_divideAndRound128_18 := dk_seg dksJ8_divideAndRound128_17 24 rfl rfl
theorem dksJ8_divideAndRound128_19 : cJ8_divideAndRound128.data.toList.drop 449 = dktJ8_divideAndRound128_19 := dk_seg dksJ8_divideAndRound128_18 24 rfl rfl
theorem dksJ8_divideAndRound128_20 : cJ8_divideAndRound128.data.toList.drop 473 = dktJ8_divideAndRound128_20 := dk_seg dksJ8_divideAndRound128_19 24 rfl rfl
theorem dksJ8_divideAndRound128_21 : cJ8_divideAndRound128.data.toList.drop 497 = dktJ8_divideAndRound128_21 := dk_seg dksJ8_divideAndRound128_20 24 rfl rfl
theorem dksJ8_divideAndRound128_22 : cJ8_divideAndRound128.data.toList.drop 520 = dktJ8_divideAndRound128_22 := dk_seg dksJ8_divideAndRound128_21 23 rfl rfl
theorem dksJ8_divideAndRound128_23 : cJ8_divideAndRound128.data.toList.drop 544 = dktJ8_divideAndRound128_23 := dk_seg dksJ8_divideAndRound128_22 24 rfl rfl
theorem dksJ8_divideAndRound128_24 : cJ8_divideAndRound128.data.toList.drop 566 = dktJ8_divideAndRound128_24 := dk_seg dksJ8_divideAndRound128_23 22 rfl rfl
theorem dksJ8_divideAndRound128_25 : cJ8_divideAndRound128.data.toList.drop 589 = dktJ8_divideAndRound128_25 := dk_seg dksJ8_divideAndRound128_24 23 rfl rfl
theorem dksJ8_divideAndRound128_26 : cJ8_divideAndRound128.data.toList.drop 613 = dktJ8_divideAndRound128_26 := dk_seg dksJ8_divideAndRound128_25 24 rfl rfl
theorem dJ8_divideAndRound128_0 : decode cJ8_divideAndRound128 0 = .ok (.lload_n 0, 1) := dk_30 (dk_at dksJ8_divideAndRound128_0 0 rfl rfl)
theorem dJ8_divideAndRound128_1 : decode cJ8_divideAndRound128 1 = .ok (.lload 4, 2) := dk_22 4 (dk_at dksJ8_divideAndRound128_0 1 rfl rfl)
theorem dJ8_divideAndRound128_3 : decode cJ8_divideAndRound128 3 = .ok (.lcmp, 1) := dk_148 (dk_at dksJ8_divideAndRound128_0 3 rfl rfl)
theorem dJ8_divideAndRound128_4 : decode cJ8_divideAndRound128 4 = .ok (.ifCond .lt 5, 3) := dk_155 0 5 (dk_at dksJ8_divideAndRound128_0 4 rfl rfl)
theorem dJ8_divideAndRound128_7 : decode cJ8_divideAndRound128 7 = .ok (.aconst_null, 1) := dk_1 (dk_at dksJ8_divideAndRound128_0 7 rfl rfl)
theorem dJ8_divideAndRound128_8 : decode cJ8_divideAndRound128 8 = .ok (.areturn, 1) := dk_176 (dk_at dksJ8_divideAndRound128_0 8 rfl rfl)
theorem dJ8_divideAndRound128_9 : decode cJ8_divideAndRound128 9 = .ok (.lload 4, 2) := dk_22 4 (dk_at dksJ8_divideAndRound128_0 9 rfl rfl)
theorem dJ8_divideAndRound128_11 : decode cJ8_divideAndRound128 11 = .ok (.invokestatic 761, 3) := dk_184 2 249 (dk_at dksJ8_divideAndRound128_0 11 rfl rfl)
theorem dJ8_divideAndRound128_14 : decode cJ8_divideAndRound128 14 = .ok (.istore 10, 2) := dk_54 10 (dk_at dksJ8_divideAndRound128_0 14 rfl rfl)
theorem dJ8_divideAndRound128_16 : decode cJ8_divideAndRound128 16 = .ok (.lload 4, 2) := dk_22 4 (dk_at dksJ8_divideAndRound128_0 16 rfl rfl)
theorem dJ8_divideAndRound128_18 : decode cJ8_divideAndRound128 18 = .ok (.iload 10, 2) := dk_21 10 (dk_at dksJ8_divideAndRound128_0 18 rfl rfl)
theorem dJ8_divideAndRound128_20 : decode cJ8_divideAndRound128 20 = .ok (.lshl, 1) := dk_121 (dk_at dksJ8_divideAndRound128_0 20 rfl rfl)
theorem dJ8_divideAndRound128_21 : decode cJ8_divideAndRound128 21 = .ok (.lstore 4, 2) := dk_55 4 (dk_at dksJ8_divideAndRound128_0 21 rfl rfl)
theorem dJ8_divideAndRound128_23 : decode cJ8_divideAndRound128 23 = .ok (.lload 4, 2) := dk_22 4 (dk_at dksJ8_divideAndRound128_1 0 rfl rfl)
theorem dJ8_divideAndRound128_25 : decode cJ8_divideAndRound128 25 = .ok (.bipush 32, 2) := dk_16 32 (dk_at dksJ8_divideAndRound128_1 2 rfl rfl)
theorem dJ8_divideAndRound128_27 : decode cJ8_divideAndRound128 27 = .ok (.lushr, 1) := dk_125 (dk_at dksJ8_divideAndRound128_1 4 rfl rfl)
theorem dJ8_divideAndRound128_28 : decode cJ8_divideAndRound128 28 = .ok (.lstore 11, 2) := dk_55 11 (dk_at dksJ8_divideAndRound128_1 5 rfl rfl)
theorem dJ8_divideAndRound128_30 : decode cJ8_divideAndRound128 30 = .ok (.lload 4, 2) := dk_22 4 (dk_at dksJ8_divideAndRound128_1 7 rfl rfl)
theorem dJ8_divideAndRound128_32 : decode cJ8_divideAndRound128 32 = .ok (.ldc2_w 636, 3) := dk_20 2 124 (dk_at dksJ8_divideAndRound128_1 9 rfl rfl)
theorem dJ8_divideAndRound128_35 : decode cJ8_divideAndRound128 35 = .ok (.land, 1) := dk_127 (dk_at dksJ8_divideAndRound128_1 12 rfl rfl)
theorem dJ8_divideAndRound128_36 : decode cJ8_divideAndRound128 36 = .ok (.lstore 13, 2) := dk_55 13 (dk_at dksJ8_divideAndRound128_1 13 rfl rfl)
theorem dJ8_divideAndRound128_38 : decode cJ8_divideAndRound128 38 = .ok (.lload_n 2, 1) := dk_32 (dk_at dksJ8_divideAndRound128_1 15 rfl rfl)
theorem dJ8_divideAndRound128_39 : decode cJ8_divideAndRound128 39 = .ok (.iload 10, 2) := dk_21 10 (dk_at dksJ8_divideAndRound128_1 16 rfl rfl)
theorem dJ8_divideAndRound128_41 : decode cJ8_divideAndRound128 41 = .ok (.lshl, 1) := dk_121 (dk_at dksJ8_divideAndRound128_1 18 rfl rfl)
theorem dJ8_divideAndRound128_42 : decode cJ8_divideAndRound128 42 = .ok (.lstore 15, 2) := dk_55 15 (dk_at dksJ8_divideAndRound128_1 19 rfl rfl)
theorem dJ8_divideAndRound128_44 : decode cJ8_divideAndRound128 44 = .ok (.lload 15, 2) := dk_22 15 (dk_at dksJ8_divideAndRound128_1 21 rfl rfl)
theorem dJ8_divideAndRound128_46 : decode cJ8_divideAndRound128 46 = .ok (.bipush 32, 2) := dk_16 32 (dk_at dksJ8_divideAndRound128_2 0 rfl rfl)
theorem dJ8_divideAndRound128_48 : decode cJ8_divideAndRound128 48 = .ok (.lushr, 1) := dk_125 (dk_at dksJ8_divideAndRound128_2 2 rfl rfl)
theorem dJ8_divideAndRound128_49 : decode cJ8_divideAndRound128 49 = .ok (.lstore 17, 2) := dk_55 17 (dk_at dksJ8_divideAndRound128_2 3 rfl rfl)
theorem dJ8_divideAndRound128_51 : decode cJ8_divideAndRound128 51 = .ok (.lload 15, 2) := dk_22 15 (dk_at dksJ8_divideAndRound128_2 5 rfl rfl)
theorem dJ8_divideAndRound128_53 : decode cJ8_divideAndRound128 53 = .ok (.ldc2_w 636, 3) := dk_20 2 124 (dk_at dksJ8_divideAndRound128_2 7 rfl rfl)
theorem dJ8_divideAndRound128_56 : decode cJ8_divideAndRound128 56 = .ok (.land, 1) := dk_127 (dk_at dksJ8_divideAndRound128_2 10 rfl rfl)
theorem dJ8_divideAndRound128_57 : decode cJ8_divideAndRound128 57 = .ok (.lstore 19, 2) := dk_55 19 (dk_at dksJ8_divideAndRound128_2 11 rfl rfl)
theorem dJ8_divideAndRound128_59 : decode cJ8_divideAndRound128 59 = .ok (.lload_n 0, 1) := dk_30 (dk_at dksJ8_divideAndRound128_2 13 rfl rfl)
theorem dJ8_divideAndRound128_60 : decode cJ8_divideAndRound128 60 = .ok (.iload 10, 2) := dk_21 10 (dk_at dksJ8_divideAndRound128_2 14 rfl rfl)
theorem dJ8_divideAndRound128_62 : decode cJ8_divideAndRound128 62 = .ok (.lshl, 1) := dk_121 (dk_at dksJ8_divideAndRound128_2 16 rfl rfl)
theorem dJ8_divideAndRound128_63 : decode cJ8_divideAndRound128 63 = .ok (.lload_n 2, 1) := dk_32 (dk_at dksJ8_divideAndRound128_2 17 rfl rfl)
theorem dJ8_divideAndRound128_64 : decode cJ8_divideAndRound128 64 = .ok (.bipush 64, 2) := dk_16 64 (dk_at dksJ8_divideAndRound128_2 18 rfl rfl)
theorem dJ8_divideAndRound128_66 : decode cJ8_divideAndRound128 66 = .ok (.iload 10, 2) := dk_21 10 (dk_at dksJ8_divideAndRound128_2 20 rfl rfl)
theorem dJ8_divideAndRound128_68 : decode cJ8_divideAndRound128 68 = .ok (.isub, 1) := dk_100 (dk_at dksJ8_divideAndRound128_2 22 rfl rfl)
theorem dJ8_divideAndRound128_69 : decode cJ8_divideAndRound128 69 = .ok (.lushr, 1) := dk_125 (dk_at dksJ8_divideAndRound128_2 23 rfl rfl)
theorem dJ8_divideAndRound128_70 : decode cJ8_divideAndRound128 70 = .ok (.lor, 1) := dk_129 (dk_at dksJ8_divideAndRound128_3 0 rfl rfl)
theorem dJ8_divideAndRound128_71 : decode cJ8_divideAndRound128 71 = .ok (.lstore 15, 2) := dk_55 15 (dk_at dksJ8_divideAndRound128_3 1 rfl rfl)
theorem dJ8_divideAndRound128_73 : decode cJ8_divideAndRound128 73 = .ok (.lload 15, 2) := dk_22 15 (dk_at dksJ8_divideAndRound128_3 3 rfl rfl)
theorem dJ8_divideAndRound128_75 : decode cJ8_divideAndRound128 75 = .ok (.ldc2_w 636, 3) := dk_20 2 124 (dk_at dksJ8_divideAndRound128_3 5 rfl rfl)
theorem dJ8_divideAndRound128_78 : decode cJ8_divideAndRound128 78 = .ok (.land, 1) := dk_127 (dk_at dksJ8_divideAndRound128_3 8 rfl rfl)
theorem dJ8_divideAndRound128_79 : decode cJ8_divideAndRound128 79 = .ok (.lstore 21, 2) := dk_55 21 (dk_at dksJ8_divideAndRound128_3 9 rfl rfl)
theorem dJ8_divideAndRound128_81 : decode cJ8_divideAndRound128 81 = .ok (.lload 11, 2) := dk_22 11 (dk_at dksJ8_divideAndRound128_3 11 rfl rfl)
theorem dJ8_divideAndRound128_83 : decode cJ8_divideAndRound128 83 = .ok (.lconst 1, 1) := dk_10 (dk_at dksJ8_divideAndRound128_3 13 rfl rfl)
theorem dJ8_divideAndRound128_84 : decode cJ8_divideAndRound128 84 = .ok (.lcmp, 1) := dk_148 (dk_at dksJ8_divideAndRound128_3 14 rfl rfl)
theorem dJ8_divideAndRound128_85 : decode cJ8_divideAndRound128 85 = .ok (.ifCond .ne 13, 3) := dk_154 0 13 (dk_at dksJ8_divideAndRound128_3 15 rfl rfl)
theorem dJ8_divideAndRound128_88 : decode cJ8_divideAndRound128 88 = .ok (.lload 15, 2) := dk_22 15 (dk_at dksJ8_divideAndRound128_3 18 rfl rfl)
theorem dJ8_divideAndRound128_90 : decode cJ8_divideAndRound128 90 = .ok (.lstore 23, 2) := dk_55 23 (dk_at dksJ8_divideAndRound128_3 20 rfl rfl)
theorem dJ8_divideAndRound128_92 : decode cJ8_divideAndRound128 92 = .ok (.lconst 0, 1) := dk_9 (dk_at dksJ8_divideAndRound128_3 22 rfl rfl)
theorem dJ8_divideAndRound128_93 : decode cJ8_divideAndRound128 93 = .ok (.lstore 25, 2) := dk_55 25 (dk_at dksJ8_divideAndRound128_4 0 rfl rfl)
theorem dJ8_divideAndRound128_95 : decode cJ8_divideAndRound128 95 = .ok (.goto 51, 3) := dk_167 0 51 (dk_at dksJ8_divideAndRound128_4 2 rfl rfl)
theorem dJ8_divideAndRound128_98 : decode cJ8_divideAndRound128 98 = .ok (.lload 15, 2) := dk_22 15 (dk_at dksJ8_divideAndRound128_4 5 rfl rfl)
theorem dJ8_divideAndRound128_100 : decode cJ8_divideAndRound128 100 = .ok (.lconst 0, 1) := dk_9 (dk_at dksJ8_divideAndRound128_4 7 rfl rfl)
theorem dJ8_divideAndRound128_101 : decode cJ8_divideAndRound128 101 = .ok (.lcmp, 1) := dk_148 (dk_at dksJ8_divideAndRound128_4 8 rfl rfl)
theorem dJ8_divideAndRound128_102 : decode cJ8_divideAndRound128 102 = .ok (.ifCond .lt 23, 3) := dk_155 0 23 (dk_at dksJ8_divideAndRound128_4 9 rfl rfl)
theorem dJ8_divideAndRound128_105 : decode cJ8_divideAndRound128 105 = .ok (.lload 15, 2) := dk_22 15 (dk_at dksJ8_divideAndRound128_4 12 rfl rfl)
theorem dJ8_divideAndRound128_107 : decode cJ8_divideAndRound128 107 = .ok (.lload 11, 2) := dk_22 11 (dk_at dksJ8_divideAndRound128_4 14 rfl rfl)
theorem dJ8_divideAndRound128_109 : decode cJ8_divideAndRound128 109 = .ok (.ldiv, 1) := dk_109 (dk_at dksJ8_divideAndRound128_4 16 rfl rfl)
theorem dJ8_divideAndRound128_110 : decode cJ8_divideAndRound128 110 = .ok (.lstore 23, 2) := dk_55 23 (dk_at dksJ8_divideAndRound128_4 17 rfl rfl)
theorem dJ8_divideAndRound128_112 : decode cJ8_divideAndRound128 112 = .ok (.lload 15, 2) := dk_22 15 (dk_at dksJ8_divideAndRound128_4 19 rfl rfl)
theorem dJ8_divideAndRound128_114 : decode cJ8_divideAndRound128 114 = .ok (.lload 23, 2) := dk_22 23 (dk_at dksJ8_divideAndRound128_4 21 rfl rfl)
theorem dJ8_divideAndRound128_116 : decode cJ8_divideAndRound128 116 = .ok (.lload 11, 2) := dk_22 11 (dk_at dksJ8_divideAndRound128_5 0 rfl rfl)
theorem dJ8_divideAndRound128_118 : decode cJ8_divideAndRound128 118 = .ok (.lmul, 1) := dk_105 (dk_at dksJ8_divideAndRound128_5 2 rfl rfl)
theorem dJ8_divideAndRound128_119 : decode cJ8_divideAndRound128 119 = .ok (.lsub, 1) := dk_101 (dk_at dksJ8_divideAndRound128_5 3 rfl rfl)
theorem dJ8_divideAndRound128_120 : decode cJ8_divideAndRound128 120 = .ok (.lstore 25, 2) := dk_55 25 (dk_at dksJ8_divideAndRound128_5 4 rfl rfl)
theorem dJ8_divideAndRound128_122 : decode cJ8_divideAndRound128 122 = .ok (.goto 24, 3) := dk_167 0 24 (dk_at dksJ8_divideAndRound128_5 6 rfl rfl)
theorem dJ8_divideAndRound128_125 : decode cJ8_divideAndRound128 125 = .ok (.lload 15, 2) := dk_22 15 (dk_at dksJ8_divideAndRound128_5 9 rfl rfl)
theorem dJ8_divideAndRound128_127 : decode cJ8_divideAndRound128 127 = .ok (.lload 11, 2) := dk_22 11 (dk_at dksJ8_divideAndRound128_5 11 rfl rfl)
theorem dJ8_divideAndRound128_129 : decode cJ8_divideAndRound128 129 = .ok (.invokestatic 1033, 3) := dk_184 4 9 (dk_at dksJ8_divideAndRound128_5 13 rfl rfl)
theorem dJ8_divideAndRound128_132 : decode cJ8_divideAndRound128 132 = .ok (.astore 27, 2) := dk_58 27 (dk_at dksJ8_divideAndRound128_5 16 rfl rfl)
theorem dJ8_divideAndRound128_134 : decode cJ8_divideAndRound128 134 = .ok (.aload 27, 2) := dk_25 27 (dk_at dksJ8_divideAndRound128_5 18 rfl rfl)
theorem dJ8_divideAndRound128_136 : decode cJ8_divideAndRound128 136 = .ok (.iconst 1, 1) := dk_4 (dk_at dksJ8_divideAndRound128_5 20 rfl rfl)
theorem dJ8_divideAndRound128_137 : decode cJ8_divideAndRound128 137 = .ok (.laload, 1) := dk_47 (dk_at dksJ8_divideAndRound128_5 21 rfl rfl)
theorem dJ8_divideAndRound128_138 : decode cJ8_divideAndRound128 138 = .ok (.lstore 23, 2) := dk_55 23 (dk_at dksJ8_divideAndRound128_5 22 rfl rfl)
theorem dJ8_divideAndRound128_140 : decode cJ8_divideAndRound128 140 = .ok (.aload 27, 2) := dk_25 27 (dk_at dksJ8_divideAndRound128_6 0 rfl rfl)
theorem dJ8_divideAndRound128_142 : decode cJ8_divideAndRound128 142 = .ok (.iconst 0, 1) := dk_3 (dk_at dksJ8_divideAndRound128_6 2 rfl rfl)
theorem dJ8_divideAndRound128_143 : decode cJ8_divideAndRound128 143 = .ok (.laload, 1) := dk_47 (dk_at dksJ8_divideAndRound128_6 3 rfl rfl)
theorem dJ8_divideAndRound128_144 : decode cJ8_divideAndRound128 144 = .ok (.lstore 25, 2) := dk_55 25 (dk_at dksJ8_divideAndRound128_6 4 rfl rfl)
theorem dJ8_divideAndRound128_146 : decode cJ8_divideAndRound128 146 = .ok (.lload 23, 2) := dk_22 23 (dk_at dksJ8_divideAndRound128_6 6 rfl rfl)
theorem dJ8_divideAndRound128_148 : decode cJ8_divideAndRound128 148 = .ok (.ldc2_w 1037, 3) := dk_20 4 13 (dk_at dksJ8_divideAndRound128_6 8 rfl rfl)
theorem dJ8_divideAndRound128_151 : decode cJ8_divideAndRound128 151 = .ok (.lcmp, 1) := dk_148 (dk_at dksJ8_divideAndRound128_6 11 rfl rfl)
theorem dJ8_divideAndRound128_152 : decode cJ8_divideAndRound128 152 = .ok (.ifCond .ge 21, 3) := dk_156 0 21 (dk_at dksJ8_divideAndRound128_6 12 rfl rfl)
theorem dJ8_divideAndRound128_155 : decode cJ8_divideAndRound128 155 = .ok (.lload 23, 2) := dk_22 23 (dk_at dksJ8_divideAndRound128_6 15 rfl rfl)
theorem dJ8_divideAndRound128_157 : decode cJ8_divideAndRound128 157 = .ok (.lload 13, 2) := dk_22 13 (dk_at dksJ8_divideAndRound128_6 17 rfl rfl)
theorem dJ8_divideAndRound128_159 : decode cJ8_divideAndRound128 159 = .ok (.lmul, 1) := dk_105 (dk_at dksJ8_divideAndRound128_6 19 rfl rfl)
theorem dJ8_divideAndRound128_160 : decode cJ8_divideAndRound128 160 = .ok (.lload 25, 2) := dk_22 25 (dk_at dksJ8_divideAndRound128_6 20 rfl rfl)
theorem dJ8_divideAndRound128_162 : decode cJ8_divideAndRound128 162 = .ok (.lload 17, 2) := dk_22 17 (dk_at dksJ8_divideAndRound128_6 22 rfl rfl)
theorem dJ8_divideAndRound128_164 : decode cJ8_divideAndRound128 164 = .ok (.invokestatic 1026, 3) := dk_184 4 2 (dk_at dksJ8_divideAndRound128_7 0 rfl rfl)
theorem dJ8_divideAndRound128_167 : decode cJ8_divideAndRound128 167 = .ok (.invokestatic 1039, 3) := dk_184 4 15 (dk_at dksJ8_divideAndRound128_7 3 rfl rfl)
theorem dJ8_divideAndRound128_170 : decode cJ8_divideAndRound128 170 = .ok (.ifCond .eq 28, 3) := dk_153 0 28 (dk_at dksJ8_divideAndRound128_7 6 rfl rfl)
theorem dJ8_divideAndRound128_173 : decode cJ8_divideAndRound128 173 = .ok (.lload 23, 2) := dk_22 23 (dk_at dksJ8_divideAndRound128_7 9 rfl rfl)
theorem dJ8_divideAndRound128_175 : decode cJ8_divideAndRound128 175 = .ok (.lconst 1, 1) := dk_10 (dk_at dksJ8_divideAndRound128_7 11 rfl rfl)
theorem dJ8_divideAndRound128_176 : decode cJ8_divideAndRound128 176 = .ok (.lsub, 1) := dk_101 (dk_at dksJ8_divideAndRound128_7 12 rfl rfl)
theorem dJ8_divideAndRound128_177 : decode cJ8_divideAndRound128 177 = .ok (.lstore 23, 2) := dk_55 23 (dk_at dksJ8_divideAndRound128_7 13 rfl rfl)
theorem dJ8_divideAndRound128_179 : decode cJ8_divideAndRound128 179 = .ok (.lload 25, 2) := dk_22 25 (dk_at dksJ8_divideAndRound128_7 15 rfl rfl)
theorem dJ8_divideAndRound128_181 : decode cJ8_divideAndRound128 181 = .ok (.lload 11, 2) := dk_22 11 (dk_at dksJ8_divideAndRound128_7 17 rfl rfl)
theorem dJ8_divideAndRound128_183 : decode cJ8_divideAndRound128 183 = .ok (.ladd, 1) := dk_97 (dk_at dksJ8_divideAndRound128_7 19 rfl rfl)
theorem dJ8_divideAndRound128_184 : decode cJ8_divideAndRound128 184 = .ok (.lstore 25, 2) := dk_55 25 (dk_at dksJ8_divideAndRound128_7 20 rfl rfl)
theorem dJ8_divideAndRound128_186 : decode cJ8_divideAndRound128 186 = .ok (.lload 25, 2) := dk_22 25 (dk_at dksJ8_divideAndRound128_7 22 rfl rfl)
theorem dJ8_divideAndRound128_188 : decode cJ8_divideAndRound128 188 = .ok (.ldc2_w 1037, 3) := dk_20 4 13 (dk_at dksJ8_divideAndRound128_8 0 rfl rfl)
theorem dJ8_divideAndRound128_191 : decode cJ8_divideAndRound128 191 = .ok (.lcmp, 1) := dk_148 (dk_at dksJ8_divideAndRound128_8 3 rfl rfl)
theorem dJ8_divideAndRound128_192 : decode cJ8_divideAndRound128 192 = .ok (.ifCond .lt (-46), 3) := dk_155 255 210 (dk_at dksJ8_divideAndRound128_8 4 rfl rfl)
theorem dJ8_divideAndRound128_195 : decode cJ8_divideAndRound128 195 = .ok (.goto 3, 3) := dk_167 0 3 (dk_at dksJ8_divideAndRound128_8 7 rfl rfl)
theorem dJ8_divideAndRound128_198 : decode cJ8_divideAndRound128 198 = .ok (.lload 21, 2) := dk_22 21 (dk_at dksJ8_divideAndRound128_8 10 rfl rfl)
theorem dJ8_divideAndRound128_200 : decode cJ8_divideAndRound128 200 = .ok (.lload 17, 2) := dk_22 17 (dk_at dksJ8_divideAndRound128_8 12 rfl rfl)
theorem dJ8_divideAndRound128_202 : decode cJ8_divideAndRound128 202 = .ok (.lload 11, 2) := dk_22 11 (dk_at dksJ8_divideAndRound128_8 14 rfl rfl)
theorem dJ8_divideAndRound128_204 : decode cJ8_divideAndRound128 204 = .ok (.lload 13, 2) := dk_22 13 (dk_at dksJ8_divideAndRound128_8 16 rfl rfl)
theorem dJ8_divideAndRound128_206 : decode cJ8_divideAndRound128 206 = .ok (.lload 23, 2) := dk_22 23 (dk_at dksJ8_divideAndRound128_8 18 rfl rfl)
theorem dJ8_divideAndRound128_208 : decode cJ8_divideAndRound128 208 = .ok (.invokestatic 1043, 3) := dk_184 4 19 (dk_at dksJ8_divideAndRound128_8 20 rfl rfl)
theorem dJ8_divideAndRound128_211 : decode cJ8_divideAndRound128 211 = .ok (.lstore 15, 2) := dk_55 15 (dk_at dksJ8_divideAndRound128_9 0 rfl rfl)
theorem dJ8_divideAndRound128_213 : decode cJ8_divideAndRound128 213 = .ok (.lload 15, 2) := dk_22 15 (dk_at dksJ8_divideAndRound128_9 2 rfl rfl)
theorem dJ8_divideAndRound128_215 : decode cJ8_divideAndRound128 215 = .ok (.ldc2_w 636, 3) := dk_20 2 124 (dk_at dksJ8_divideAndRound128_9 4 rfl rfl)
theorem dJ8_divideAndRound128_218 : decode cJ8_divideAndRound128 218 = .ok (.land, 1) := dk_127 (dk_at dksJ8_divideAndRound128_9 7 rfl rfl)
theorem dJ8_divideAndRound128_219 : decode cJ8_divideAndRound128 219 = .ok (.lstore 17, 2) := dk_55 17 (dk_at dksJ8_divideAndRound128_9 8 rfl rfl)
theorem dJ8_divideAndRound128_221 : decode cJ8_divideAndRound128 221 = .ok (.lload 11, 2) := dk_22 11 (dk_at dksJ8_divideAndRound128_9 10 rfl rfl)
theorem dJ8_divideAndRound128_223 : decode cJ8_divideAndRound128 223 = .ok (.lconst 1, 1) := dk_10 (dk_at dksJ8_divideAndRound128_9 12 rfl rfl)
theorem dJ8_divideAndRound128_224 : decode cJ8_divideAndRound128 224 = .ok (.lcmp, 1) := dk_148 (dk_at dksJ8_divideAndRound128_9 13 rfl rfl)
theorem dJ8_divideAndRound128_225 : decode cJ8_divideAndRound128 225 = .ok (.ifCond .ne 13, 3) := dk_154 0 13 (dk_at dksJ8_divideAndRound128_9 14 rfl rfl)
theorem dJ8_divideAndRound128_228 : decode cJ8_divideAndRound128 228 = .ok (.lload 15, 2) := dk_22 15 (dk_at dksJ8_divideAndRound128_9 17 rfl rfl)
theorem dJ8_divideAndRound128_230 : decode cJ8_divideAndRound128 230 = .ok (.lstore 27, 2) := dk_55 27 (dk_at dksJ8_divideAndRound128_9 19 rfl rfl)
theorem dJ8_divideAndRound128_232 : decode cJ8_divideAndRound128 232 = .ok (.lconst 0, 1) := dk_9 (dk_at dksJ8_divideAndRound128_9 21 rfl rfl)
theorem dJ8_divideAndRound128_233 : decode cJ8_divideAndRound128 233 = .ok (.lstore 25, 2) := dk_55 25 (dk_at dksJ8_divideAndRound128_9 22 rfl rfl)
theorem dJ8_divideAndRound128_235 : decode cJ8_divideAndRound128 235 = .ok (.goto 51, 3) := dk_167 0 51 (dk_at dksJ8_divideAndRound128_10 0 rfl rfl)
theorem dJ8_divideAndRound128_238 : decode cJ8_divideAndRound128 238 = .ok (.lload 15, 2) := dk_22 15 (dk_at dksJ8_divideAndRound128_10 3 rfl rfl)
theorem dJ8_divideAndRound128_240 : decode cJ8_divideAndRound128 240 = .ok (.lconst 0, 1) := dk_9 (dk_at dksJ8_divideAndRound128_10 5 rfl rfl)
theorem dJ8_divideAndRound128_241 : decode cJ8_divideAndRound128 241 = .ok (.lcmp, 1) := dk_148 (dk_at dksJ8_divideAndRound128_10 6 rfl rfl)
theorem dJ8_divideAndRound128_242 : decode cJ8_divideAndRound128 242 = .ok (.ifCond .lt 23, 3) := dk_155 0 23 (dk_at dksJ8_divideAndRound128_10 7 rfl rfl)
theorem dJ8_divideAndRound128_245 : decode cJ8_divideAndRound128 245 = .ok (.lload 15, 2) := dk_22 15 (dk_at dksJ8_divideAndRound128_10 10 rfl rfl)
theorem dJ8_divideAndRound128_247 : decode cJ8_divideAndRound128 247 = .ok (.lload 11, 2) := dk_22 11 (dk_at dksJ8_divideAndRound128_10 12 rfl rfl)
theorem dJ8_divideAndRound128_249 : decode cJ8_divideAndRound128 249 = .ok (.ldiv, 1) := dk_109 (dk_at dksJ8_divideAndRound128_10 14 rfl rfl)
theorem dJ8_divideAndRound128_250 : decode cJ8_divideAndRound128 250 = .ok (.lstore 27, 2) := dk_55 27 (dk_at dksJ8_divideAndRound128_10 15 rfl rfl)
theorem dJ8_divideAndRound128_252 : decode cJ8_divideAndRound128 252 = .ok (.lload 15, 2) := dk_22 15 (dk_at dksJ8_divideAndRound128_10 17 rfl rfl)
theorem dJ8_divideAndRound128_254 : decode cJ8_divideAndRound128 254 = .ok (.lload 27, 2) := dk_22 27 (dk_at dksJ8_divideAndRound128_10 19 rfl rfl)
theorem dJ8_divideAndRound128_256 : decode cJ8_divideAndRound128 256 = .ok (.lload 11, 2) := dk_22 11 (dk_at dksJ8_divideAndRound128_10 21 rfl rfl)
theorem dJ8_divideAndRound128_258 : decode cJ8_divideAndRound128 258 = .ok (.lmul, 1) := dk_105 (dk_at dksJ8_divideAndRound128_10 23 rfl rfl)
theorem dJ8_divideAndRound128_259 : decode cJ8_divideAndRound128 259 = .ok (.lsub, 1) := dk_101 (dk_at dksJ8_divideAndRound128_11 0 rfl rfl)
theorem dJ8_divideAndRound128_260 : decode cJ8_divideAndRound128 260 = .ok (.lstore 25, 2) := dk_55 25 (dk_at dksJ8_divideAndRound128_11 1 rfl rfl)
theorem dJ8_divideAndRound128_262 : decode cJ8_divideAndRound128 262 = .ok (.goto 24, 3) := dk_167 0 24 (dk_at dksJ8_divideAndRound128_11 3 rfl rfl)
theorem dJ8_divideAndRound128_265 : decode cJ8_divideAndRound128 265 = .ok (.lload 15, 2) := dk_22 15 (dk_at dksJ8_divideAndRound128_11 6 rfl rfl)
theorem dJ8_divideAndRound128_267 : decode cJ8_divideAndRound128 267 = .ok (.lload 11, 2) := dk_22 11 (dk_at dksJ8_divideAndRound128_11 8 rfl rfl)
theorem dJ8_divideAndRound128_269 : decode cJ8_divideAndRound128 269 = .ok (.invokestatic 1033, 3) := dk_184 4 9 (dk_at dksJ8_divideAndRound128_11 10 rfl rfl)
theorem dJ8_divideAndRound128_272 : decode cJ8_divideAndRound128 272 = .ok (.astore 29, 2) := dk_58 29 (dk_at dksJ8_divideAndRound128_11 13 rfl rfl)
theorem dJ8_divideAndRound128_274 : decode cJ8_divideAndRound128 274 = .ok (.aload 29, 2) := dk_25 29 (dk_at dksJ8_divideAndRound128_11 15 rfl rfl)
theorem dJ8_divideAndRound128_276 : decode cJ8_divideAndRound128 276 = .ok (.iconst 1, 1) := dk_4 (dk_at dksJ8_divideAndRound128_11 17 rfl rfl)
theorem dJ8_divideAndRound128_277 : decode cJ8_divideAndRound128 277 = .ok (.laload, 1) := dk_47 (dk_at dksJ8_divideAndRound128_11 18 rfl rfl)
theorem dJ8_divideAndRound128_278 : decode cJ8_divideAndRound128 278 = .ok (.lstore 27, 2) := dk_55 27 (dk_at dksJ8_divideAndRound128_11 19 rfl rfl)
theorem dJ8_divideAndRound128_280 : decode cJ8_divideAndRound128 280 = .ok (.aload 29, 2) := dk_25 29 (dk_at dksJ8_divideAndRound128_11 21 rfl rfl)
theorem dJ8_divideAndRound128_282 : decode cJ8_divideAndRound128 282 = .ok (.iconst 0, 1) := dk_3 (dk_at dksJ8_divideAndRound128_11 23 rfl rfl)
theorem dJ8_divideAndRound128_283 : decode cJ8_divideAndRound128 283 = .ok (.laload, 1) := dk_47 (dk_at dksJ8_divideAndRound128_12 0 rfl rfl)
theorem dJ8_divideAndRound128_284 : decode cJ8_divideAndRound128 284 = .ok (.lstore 25, 2) := dk_55 25 (dk_at dksJ8_divideAndRound128_12 1 rfl rfl)
theorem dJ8_divideAndRound128_286 : decode cJ8_divideAndRound128 286 = .ok (.lload 27, 2) := dk_22 27 (dk_at dksJ8_divideAndRound128_12 3 rfl rfl)
theorem dJ8_divideAndRound128_288 : decode cJ8_divideAndRound128 288 = .ok (.ldc2_w 1037, 3) := dk_20 4 13 (dk_at dksJ8_divideAndRound128_12 5 rfl rfl)
theorem dJ8_divideAndRound128_291 : decode cJ8_divideAndRound128 291 = .ok (.lcmp, 1) := dk_148 (dk_at dksJ8_divideAndRound128_12 8 rfl rfl)
theorem dJ8_divideAndRound128_292 : decode cJ8_divideAndRound128 292 = .ok (.ifCond .ge 21, 3) := dk_156 0 21 (dk_at dksJ8_divideAndRound128_12 9 rfl rfl)
theorem dJ8_divideAndRound128_295 : decode cJ8_divideAndRound128 295 = .ok (.lload 27, 2) := dk_22 27 (dk_at dksJ8_divideAndRound128_12 12 rfl rfl)
theorem dJ8_divideAndRound128_297 : decode cJ8_divideAndRound128 297 = .ok (.lload 13, 2) := dk_22 13 (dk_at dksJ8_divideAndRound128_12 14 rfl rfl)
theorem dJ8_divideAndRound128_299 : decode cJ8_divideAndRound128 299 = .ok (.lmul, 1) := dk_105 (dk_at dksJ8_divideAndRound128_12 16 rfl rfl)
theorem dJ8_divideAndRound128_300 : decode cJ8_divideAndRound128 300 = .ok (.lload 25, 2) := dk_22 25 (dk_at dksJ8_divideAndRound128_12 17 rfl rfl)
theorem dJ8_divideAndRound128_302 : decode cJ8_divideAndRound128 302 = .ok (.lload 19, 2) := dk_22 19 (dk_at dksJ8_divideAndRound128_12 19 rfl rfl)
theorem dJ8_divideAndRound128_304 : decode cJ8_divideAndRound128 304 = .ok (.invokestatic 1026, 3) := dk_184 4 2 (dk_at dksJ8_divideAndRound128_12 21 rfl rfl)
theorem dJ8_divideAndRound128_307 : decode cJ8_divideAndRound128 307 = .ok (.invokestatic 1039, 3) := dk_184 4 15 (dk_at dksJ8_divideAndRound128_13 0 rfl rfl)
theorem dJ8_divideAndRound128_310 : decode cJ8_divideAndRound128 310 = .ok (.ifCond .eq 28, 3) := dk_153 0 28 (dk_at dksJ8_divideAndRound128_13 3 rfl rfl)
theorem dJ8_divideAndRound128_313 : decode cJ8_divideAndRound128 313 = .ok (.lload 27, 2) := dk_22 27 (dk_at dksJ8_divideAndRound128_13 6 rfl rfl)
theorem dJ8_divideAndRound128_315 : decode cJ8_divideAndRound128 315 = .ok (.lconst 1, 1) := dk_10 (dk_at dksJ8_divideAndRound128_13 8 rfl rfl)
theorem dJ8_divideAndRound128_316 : decode cJ8_divideAndRound128 316 = .ok (.lsub, 1) := dk_101 (dk_at dksJ8_divideAndRound128_13 9 rfl rfl)
theorem dJ8_divideAndRound128_317 : decode cJ8_divideAndRound128 317 = .ok (.lstore 27, 2) := dk_55 27 (dk_at dksJ8_divideAndRound128_13 10 rfl rfl)
theorem dJ8_divideAndRound128_319 : decode cJ8_divideAndRound128 319 = .ok (.lload 25, 2) := dk_22 25 (dk_at dksJ8_divideAndRound128_13 12 rfl rfl)
theorem dJ8_divideAndRound128_321 : decode cJ8_divideAndRound128 321 = .ok (.lload 11, 2) := dk_22 11 (dk_at dksJ8_divideAndRound128_13 14 rfl rfl)
theorem dJ8_divideAndRound128_323 : decode cJ8_divideAndRound128 323 = .ok (.ladd, 1) := dk_97 (dk_at dksJ8_divideAndRound128_13 16 rfl rfl)
theorem dJ8_divideAndRound128_324 : decode cJ8_divideAndRound128 324 = .ok (.lstore 25, 2) := dk_55 25 (dk_at dksJ8_divideAndRound128_13 17 rfl rfl)
theorem dJ8_divideAndRound128_326 : decode cJ8_divideAndRound128 326 = .ok (.lload 25, 2) := dk_22 25 (dk_at dksJ8_divideAndRound128_13 19 rfl rfl)
theorem dJ8_divideAndRound128_328 : decode cJ8_divideAndRound128 328 = .ok (.ldc2_w 1037, 3) := dk_20 4 13 (dk_at dksJ8_divideAndRound128_13 21 rfl rfl)
theorem dJ8_divideAndRound128_331 : decode cJ8_divideAndRound128 331 = .ok (.lcmp, 1) := dk_148 (dk_at dksJ8_divideAndRound128_14 0 rfl rfl)
theorem dJ8_divideAndRound128_332 : decode cJ8_divideAndRound128 332 = .ok (.ifCond .lt (-46), 3) := dk_155 255 210 (dk_at dksJ8_divideAndRound128_14 1 rfl rfl)
theorem dJ8_divideAndRound128_335 : decode cJ8_divideAndRound128 335 = .ok (.goto 3, 3) := dk_167 0 3 (dk_at dksJ8_divideAndRound128_14 4 rfl rfl)
theorem dJ8_divideAndRound128_338 : decode cJ8_divideAndRound128 338 = .ok (.lload 23, 2) := dk_22 23 (dk_at dksJ8_divideAndRound128_14 7 rfl rfl)
theorem dJ8_divideAndRound128_340 : decode cJ8_divideAndRound128 340 = .ok (.l2i, 1) := dk_136 (dk_at dksJ8_divideAndRound128_14 9 rfl rfl)
theorem dJ8_divideAndRound128_341 : decode cJ8_divideAndRound128 341 = .ok (.ifCond .ge 149, 3) := dk_156 0 149 (dk_at dksJ8_divideAndRound128_14 10 rfl rfl)
theorem dJ8_divideAndRound128_344 : decode cJ8_divideAndRound128 344 = .ok (.new 941, 3) := dk_187 3 173 (dk_at dksJ8_divideAndRound128_14 13 rfl rfl)
theorem dJ8_divideAndRound128_347 : decode cJ8_divideAndRound128 347 = .ok (.dup, 1) := dk_89 (dk_at dksJ8_divideAndRound128_14 16 rfl rfl)
theorem dJ8_divideAndRound128_348 : decode cJ8_divideAndRound128 348 = .ok (.iconst 2, 1) := dk_5 (dk_at dksJ8_divideAndRound128_14 17 rfl rfl)
theorem dJ8_divideAndRound128_349 : decode cJ8_divideAndRound128 349 = .ok (.newarray .int, 2) := dk_188_10 (dk_at dksJ8_divideAndRound128_14 18 rfl rfl)
theorem dJ8_divideAndRound128_351 : decode cJ8_divideAndRound128 351 = .ok (.dup, 1) := dk_89 (dk_at dksJ8_divideAndRound128_14 20 rfl rfl)
theorem dJ8_divideAndRound128_352 : decode cJ8_divideAndRound128 352 = .ok (.iconst 0, 1) := dk_3 (dk_at dksJ8_divideAndRound128_14 21 rfl rfl)
theorem dJ8_divideAndRound128_353 : decode cJ8_divideAndRound128 353 = .ok (.lload 23, 2) := dk_22 23 (dk_at dksJ8_divideAndRound128_14 22 rfl rfl)
theorem dJ8_divideAndRound128_355 : decode cJ8_divideAndRound128 355 = .ok (.l2i, 1) := dk_136 (dk_at dksJ8_divideAndRound128_15 0 rfl rfl)
theorem dJ8_divideAndRound128_356 : decode cJ8_divideAndRound128 356 = .ok (.iastore, 1) := dk_79 (dk_at dksJ8_divideAndRound128_15 1 rfl rfl)
theorem dJ8_divideAndRound128_357 : decode cJ8_divideAndRound128 357 = .ok (.dup, 1) := dk_89 (dk_at dksJ8_divideAndRound128_15 2 rfl rfl)
theorem dJ8_divideAndRound128_358 : decode cJ8_divideAndRound128 358 = .ok (.iconst 1, 1) := dk_4 (dk_at dksJ8_divideAndRound128_15 3 rfl rfl)
theorem dJ8_divideAndRound128_359 : decode cJ8_divideAndRound128 359 = .ok (.lload 27, 2) := dk_22 27 (dk_at dksJ8_divideAndRound128_15 4 rfl rfl)
theorem dJ8_divideAndRound128_361 : decode cJ8_divideAndRound128 361 = .ok (.l2i, 1) := dk_136 (dk_at dksJ8_divideAndRound128_15 6 rfl rfl)
theorem dJ8_divideAndRound128_362 : decode cJ8_divideAndRound128 362 = .ok (.iastore, 1) := dk_79 (dk_at dksJ8_divideAndRound128_15 7 rfl rfl)
theorem dJ8_divideAndRound128_363 : decode cJ8_divideAndRound128 363 = .ok (.invokespecial 943, 3) := dk_183 3 175 (dk_at dksJ8_divideAndRound128_15 8 rfl rfl)
theorem dJ8_divideAndRound128_366 : decode cJ8_divideAndRound128 366 = .ok (.astore 29, 2) := dk_58 29 (dk_at dksJ8_divideAndRound128_15 11 rfl rfl)
theorem dJ8_divideAndRound128_368 : decode cJ8_divideAndRound128 368 = .ok (.iload 8, 2) := dk_21 8 (dk_at dksJ8_divideAndRound128_15 13 rfl rfl)
theorem dJ8_divideAndRound128_370 : decode cJ8_divideAndRound128 370 = .ok (.iconst 1, 1) := dk_4 (dk_at dksJ8_divideAndRound128_15 15 rfl rfl)
theorem dJ8_divideAndRound128_371 : decode cJ8_divideAndRound128 371 = .ok (.if_icmp .ne 20, 3) := dk_160 0 20 (dk_at dksJ8_divideAndRound128_15 16 rfl rfl)
theorem dJ8_divideAndRound128_374 : decode cJ8_divideAndRound128 374 = .ok (.iload 7, 2) := dk_21 7 (dk_at dksJ8_divideAndRound128_15 19 rfl rfl)
theorem dJ8_divideAndRound128_376 : decode cJ8_divideAndRound128 376 = .ok (.iload 9, 2) := dk_21 9 (dk_at dksJ8_divideAndRound128_15 21 rfl rfl)
theorem dJ8_divideAndRound128_378 : decode cJ8_divideAndRound128 378 = .ok (.if_icmp .ne 13, 3) := dk_160 0 13 (dk_at dksJ8_divideAndRound128_16 0 rfl rfl)
theorem dJ8_divideAndRound128_381 : decode cJ8_divideAndRound128 381 = .ok (.aload 29, 2) := dk_25 29 (dk_at dksJ8_divideAndRound128_16 3 rfl rfl)
theorem dJ8_divideAndRound128_383 : decode cJ8_divideAndRound128 383 = .ok (.iload 6, 2) := dk_21 6 (dk_at dksJ8_divideAndRound128_16 5 rfl rfl)
theorem dJ8_divideAndRound128_385 : decode cJ8_divideAndRound128 385 = .ok (.iload 7, 2) := dk_21 7 (dk_at dksJ8_divideAndRound128_16 7 rfl rfl)
theorem dJ8_divideAndRound128_387 : decode cJ8_divideAndRound128 387 = .ok (.invokevirtual 961, 3) := dk_182 3 193 (dk_at dksJ8_divideAndRound128_16 9 rfl rfl)
theorem dJ8_divideAndRound128_390 : decode cJ8_divideAndRound128 390 = .ok (.areturn, 1) := dk_176 (dk_at dksJ8_divideAndRound128_16 12 rfl rfl)
theorem dJ8_divideAndRound128_391 : decode cJ8_divideAndRound128 391 = .ok (.lload 17, 2) := dk_22 17 (dk_at dksJ8_divideAndRound128_16 13 rfl rfl)
theorem dJ8_divideAndRound128_393 : decode cJ8_divideAndRound128 393 = .ok (.lload 19, 2) := dk_22 19 (dk_at dksJ8_divideAndRound128_16 15 rfl rfl)
theorem dJ8_divideAndRound128_395 : decode cJ8_divideAndRound128 395 = .ok (.lload 11, 2) := dk_22 11 (dk_at dksJ8_divideAndRound128_16 17 rfl rfl)
theorem dJ8_divideAndRound128_397 : decode cJ8_divideAndRound128 397 = .ok (.lload 13, 2) := dk_22 13 (dk_at dksJ8_divideAndRound128_16 19 rfl rfl)
theorem dJ8_divideAndRound128_399 : decode cJ8_divideAndRound128 399 = .ok (.lload 27, 2) := dk_22 27 (dk_at dksJ8_divideAndRound128_16 21 rfl rfl)
theorem dJ8_divideAndRound128_401 : decode cJ8_divideAndRound128 401 = .ok (.invokestatic 1043, 3) := dk_184 4 19 (dk_at dksJ8_divideAndRound128_17 0 rfl rfl)
theorem dJ8_divideAndRound128_404 : decode cJ8_divideAndRound128 404 = .ok (.iload 10, 2) := dk_21 10 (dk_at dksJ8_divideAndRound128_17 3 rfl rfl)
theorem dJ8_divideAndRound128_406 : decode cJ8_divideAndRound128 406 = .ok (.lushr, 1) := dk_125 (dk_at dksJ8_divideAndRound128_17 5 rfl rfl)
theorem dJ8_divideAndRound128_407 : decode cJ8_divideAndRound128 407 = .ok (.lstore 30, 2) := dk_55 30 (dk_at dksJ8_divideAndRound128_17 6 rfl rfl)
theorem dJ8_divideAndRound128_409 : decode cJ8_divideAndRound128 409 = .ok (.lload 30, 2) := dk_22 30 (dk_at dksJ8_divideAndRound128_17 8 rfl rfl)
theorem dJ8_divideAndRound128_411 : decode cJ8_divideAndRound128 411 = .ok (.lconst 0, 1) := dk_9 (dk_at dksJ8_divideAndRound128_17 10 rfl rfl)
theorem dJ8_divideAndRound128_412 : decode cJ8_divideAndRound128 412 = .ok (.lcmp, 1) := dk_148 (dk_at dksJ8_divideAndRound128_17 11 rfl rfl)
theorem dJ8_divideAndRound128_413 : decode cJ8_divideAndRound128 413 = .ok (.ifCond .eq 40, 3) := dk_153 0 40 (dk_at dksJ8_divideAndRound128_17 12 rfl rfl)
theorem dJ8_divideAndRound128_416 : decode cJ8_divideAndRound128 416 = .ok (.lload 4, 2) := dk_22 4 (dk_at dksJ8_divideAndRound128_17 15 rfl rfl)
theorem dJ8_divideAndRound128_418 : decode cJ8_divideAndRound128 418 = .ok (.iload 10, 2) := dk_21 10 (dk_at dksJ8_divideAndRound128_17 17 rfl rfl)
theorem dJ8_divideAndRound128_420 : decode cJ8_divideAndRound128 420 = .ok (.lushr, 1) := dk_125 (dk_at dksJ8_divideAndRound128_17 19 rfl rfl)
theorem dJ8_divideAndRound128_421 : decode cJ8_divideAndRound128 421 = .ok (.iload 8, 2) := dk_21 8 (dk_at dksJ8_divideAndRound128_17 20 rfl rfl)
theorem dJ8_divideAndRound128_423 : decode cJ8_divideAndRound128 423 = .ok (.iload 6, 2) := dk_21 6 (dk_at dksJ8_divideAndRound128_17 22 rfl rfl)
theorem dJ8_divideAndRound128_425 : decode cJ8_divideAndRound128 425 = .ok (.aload 29, 2) := dk_25 29 (dk_at dksJ8_divideAndRound128_18 0 rfl rfl)
theorem dJ8_divideAndRound128_427 : decode cJ8_divideAndRound128 427 = .ok (.lload 30, 2) := dk_22 30 (dk_at dksJ8_divideAndRound128_18 2 rfl rfl)
theorem dJ8_divideAndRound128_429 : decode cJ8_divideAndRound128 429 = .ok (.invokestatic 950, 3) := dk_184 3 182 (dk_at dksJ8_divideAndRound128_18 4 rfl rfl)
theorem dJ8_divideAndRound128_432 : decode cJ8_divideAndRound128 432 = .ok (.ifCond .eq 11, 3) := dk_153 0 11 (dk_at dksJ8_divideAndRound128_18 7 rfl rfl)
theorem dJ8_divideAndRound128_435 : decode cJ8_divideAndRound128 435 = .ok (.aload 29, 2) := dk_25 29 (dk_at dksJ8_divideAndRound128_18 10 rfl rfl)
theorem dJ8_divideAndRound128_437 : decode cJ8_divideAndRound128 437 = .ok (.getstatic 953, 3) := dk_178 3 185 (dk_at dksJ8_divideAndRound128_18 12 rfl rfl)
theorem dJ8_divideAndRound128_440 : decode cJ8_divideAndRound128 440 = .ok (.invokevirtual 956, 3) := dk_182 3 188 (dk_at dksJ8_divideAndRound128_18 15 rfl rfl)
theorem dJ8_divideAndRound128_443 : decode cJ8_divideAndRound128 443 = .ok (.aload 29, 2) := dk_25 29 (dk_at dksJ8_divideAndRound128_18 18 rfl rfl)
theorem dJ8_divideAndRound128_445 : decode cJ8_divideAndRound128 445 = .ok (.iload 6, 2) := dk_21 6 (dk_at dksJ8_divideAndRound128_18 20 rfl rfl)
theorem dJ8_divideAndRound128_447 : decode cJ8_divideAndRound128 447 = .ok (.iload 7, 2) := dk_21 7 (dk_at dksJ8_divideAndRound128_18 22 rfl rfl)
theorem dJ8_divideAndRound128_449 : decode cJ8_divideAndRound128 449 = .ok (.invokevirtual 961, 3) := dk_182 3 193 (dk_at dksJ8_divideAndRound128_19 0 rfl rfl)
theorem dJ8_divideAndRound128_452 : decode cJ8_divideAndRound128 452 = .ok (.areturn, 1) := dk_176 (dk_at dksJ8_divideAndRound128_19 3 rfl rfl)
theorem dJ8_divideAndRound128_453 : decode cJ8_divideAndRound128 453 = .ok (.iload 9, 2) := dk_21 9 (dk_at dksJ8_divideAndRound128_19 4 rfl rfl)
theorem dJ8_divideAndRound128_455 : decode cJ8_divideAndRound128 455 = .ok (.iload 7, 2) := dk_21 7 (dk_at dksJ8_divideAndRound128_19 6 rfl rfl)
theorem dJ8_divideAndRound128_457 : decode cJ8_divideAndRound128 457 = .ok (.if_icmp .eq 23, 3) := dk_159 0 23 (dk_at dksJ8_divideAndRound128_19 8 rfl rfl)
theorem dJ8_divideAndRound128_460 : decode cJ8_divideAndRound128 460 = .ok (.aload 29, 2) := dk_25 29 (dk_at dksJ8_divideAndRound128_19 11 rfl rfl)
theorem dJ8_divideAndRound128_462 : decode cJ8_divideAndRound128 462 = .ok (.iload 6, 2) := dk_21 6 (dk_at dksJ8_divideAndRound128_19 13 rfl rfl)
theorem dJ8_divideAndRound128_464 : decode cJ8_divideAndRound128 464 = .ok (.invokevirtual 959, 3) := dk_182 3 191 (dk_at dksJ8_divideAndRound128_19 15 rfl rfl)
theorem dJ8_divideAndRound128_467 : decode cJ8_divideAndRound128 467 = .ok (.astore 32, 2) := dk_58 32 (dk_at dksJ8_divideAndRound128_19 18 rfl rfl)
theorem dJ8_divideAndRound128_469 : decode cJ8_divideAndRound128 469 = .ok (.aload 32, 2) := dk_25 32 (dk_at dksJ8_divideAndRound128_19 20 rfl rfl)
theorem dJ8_divideAndRound128_471 : decode cJ8_divideAndRound128 471 = .ok (.iload 7, 2) := dk_21 7 (dk_at dksJ8_divideAndRound128_19 22 rfl rfl)
theorem dJ8_divideAndRound128_473 : decode cJ8_divideAndRound128 473 = .ok (.iload 9, 2) := dk_21 9 (dk_at dksJ8_divideAndRound128_20 0 rfl rfl)
theorem dJ8_divideAndRound128_475 : decode cJ8_divideAndRound128 475 = .ok (.i2l, 1) := dk_133 (dk_at dksJ8_divideAndRound128_20 2 rfl rfl)
theorem dJ8_divideAndRound128_476 : decode cJ8_divideAndRound128 476 = .ok (.invokestatic 625, 3) := dk_184 2 113 (dk_at dksJ8_divideAndRound128_20 3 rfl rfl)
theorem dJ8_divideAndRound128_479 : decode cJ8_divideAndRound128 479 = .ok (.areturn, 1) := dk_176 (dk_at dksJ8_divideAndRound128_20 6 rfl rfl)
theorem dJ8_divideAndRound128_480 : decode cJ8_divideAndRound128 480 = .ok (.aload 29, 2) := dk_25 29 (dk_at dksJ8_divideAndRound128_20 7 rfl rfl)
theorem dJ8_divideAndRound128_482 : decode cJ8_divideAndRound128 482 = .ok (.iload 6, 2) := dk_21 6 (dk_at dksJ8_divideAndRound128_20 9 rfl rfl)
theorem dJ8_divideAndRound128_484 : decode cJ8_divideAndRound128 484 = .ok (.iload 7, 2) := dk_21 7 (dk_at dksJ8_divideAndRound128_20 11 rfl rfl)
theorem dJ8_divideAndRound128_486 : decode cJ8_divideAndRound128 486 = .ok (.invokevirtual 961, 3) := dk_182 3 193 (dk_at dksJ8_divideAndRound128_20 13 rfl rfl)
theorem dJ8_divideAndRound128_489 : decode cJ8_divideAndRound128 489 = .ok (.areturn, 1) := dk_176 (dk_at dksJ8_divideAndRound128_20 16 rfl rfl)
theorem dJ8_divideAndRound128_490 : decode cJ8_divideAndRound128 490 = .ok (.lload 23, 2) := dk_22 23 (dk_at dksJ8_divideAndRound128_20 17 rfl rfl)
theorem dJ8_divideAndRound128_492 : decode cJ8_divideAndRound128 492 = .ok (.lload 27, 2) := dk_22 27 (dk_at dksJ8_divideAndRound128_20 19 rfl rfl)
theorem dJ8_divideAndRound128_494 : decode cJ8_divideAndRound128 494 = .ok (.invokestatic 1026, 3) := dk_184 4 2 (dk_at dksJ8_divideAndRound128_20 21 rfl rfl)
theorem dJ8_divideAndRound128_497 : decode cJ8_divideAndRound128 497 = .ok (.lstore 29, 2) := dk_55 29 (dk_at dksJ8_divideAndRound128_21 0 rfl rfl)
theorem dJ8_divideAndRound128_499 : decode cJ8_divideAndRound128 499 = .ok (.lload 29, 2) := dk_22 29 (dk_at dksJ8_divideAndRound128_21 2 rfl rfl)
theorem dJ8_divideAndRound128_501 : decode cJ8_divideAndRound128 501 = .ok (.iload 6, 2) := dk_21 6 (dk_at dksJ8_divideAndRound128_21 4 rfl rfl)
theorem dJ8_divideAndRound128_503 : decode cJ8_divideAndRound128 503 = .ok (.i2l, 1) := dk_133 (dk_at dksJ8_divideAndRound128_21 6 rfl rfl)
theorem dJ8_divideAndRound128_504 : decode cJ8_divideAndRound128 504 = .ok (.lmul, 1) := dk_105 (dk_at dksJ8_divideAndRound128_21 7 rfl rfl)
theorem dJ8_divideAndRound128_505 : decode cJ8_divideAndRound128 505 = .ok (.lstore 29, 2) := dk_55 29 (dk_at dksJ8_divideAndRound128_21 8 rfl rfl)
theorem dJ8_divideAndRound128_507 : decode cJ8_divideAndRound128 507 = .ok (.iload 8, 2) := dk_21 8 (dk_at dksJ8_divideAndRound128_21 10 rfl rfl)
theorem dJ8_divideAndRound128_509 : decode cJ8_divideAndRound128 509 = .ok (.iconst 1, 1) := dk_4 (dk_at dksJ8_divideAndRound128_21 12 rfl rfl)
theorem dJ8_divideAndRound128_510 : decode cJ8_divideAndRound128 510 = .ok (.if_icmp .ne 18, 3) := dk_160 0 18 (dk_at dksJ8_divideAndRound128_21 13 rfl rfl)
theorem dJ8_divideAndRound128_513 : decode cJ8_divideAndRound128 513 = .ok (.iload 7, 2) := dk_21 7 (dk_at dksJ8_divideAndRound128_21 16 rfl rfl)
theorem dJ8_divideAndRound128_515 : decode cJ8_divideAndRound128 515 = .ok (.iload 9, 2) := dk_21 9 (dk_at dksJ8_divideAndRound128_21 18 rfl rfl)
theorem dJ8_divideAndRound128_517 : decode cJ8_divideAndRound128 517 = .ok (.if_icmp .ne 11, 3) := dk_160 0 11 (dk_at dksJ8_divideAndRound128_21 20 rfl rfl)
theorem dJ8_divideAndRound128_520 : decode cJ8_divideAndRound128 520 = .ok (.lload 29, 2) := dk_22 29 (dk_at dksJ8_divideAndRound128_22 0 rfl rfl)
theorem dJ8_divideAndRound128_522 : decode cJ8_divideAndRound128 522 = .ok (.iload 7, 2) := dk_21 7 (dk_at dksJ8_divideAndRound128_22 2 rfl rfl)
theorem dJ8_divideAndRound128_524 : decode cJ8_divideAndRound128 524 = .ok (.invokestatic 328, 3) := dk_184 1 72 (dk_at dksJ8_divideAndRound128_22 4 rfl rfl)
theorem dJ8_divideAndRound128_527 : decode cJ8_divideAndRound128 527 = .ok (.areturn, 1) := dk_176 (dk_at dksJ8_divideAndRound128_22 7 rfl rfl)
theorem dJ8_divideAndRound128_528 : decode cJ8_divideAndRound128 528 = .ok (.lload 17, 2) := dk_22 17 (dk_at dksJ8_divideAndRound128_22 8 rfl rfl)
theorem dJ8_divideAndRound128_530 : decode cJ8_divideAndRound128 530 = .ok (.lload 19, 2) := dk_22 19 (dk_at dksJ8_divideAndRound128_22 10 rfl rfl)
theorem dJ8_divideAndRound128_532 : decode cJ8_divideAndRound128 532 = .ok (.lload 11, 2) := dk_22 11 (dk_at dksJ8_divideAndRound128_22 12 rfl rfl)
theorem dJ8_divideAndRound128_534 : decode cJ8_divideAndRound128 534 = .ok (.lload 13, 2) := dk_22 13 (dk_at dksJ8_divideAndRound128_22 14 rfl rfl)
theorem dJ8_divideAndRound128_536 : decode cJ8_divideAndRound128 536 = .ok (.lload 27, 2) := dk_22 27 (dk_at dksJ8_divideAndRound128_22 16 rfl rfl)
theorem dJ8_divideAndRound128_538 : decode cJ8_divideAndRound128 538 = .ok (.invokestatic 1043, 3) := dk_184 4 19 (dk_at dksJ8_divideAndRound128_22 18 rfl rfl)
theorem dJ8_divideAndRound128_541 : decode cJ8_divideAndRound128 541 = .ok (.iload 10, 2) := dk_21 10 (dk_at dksJ8_divideAndRound128_22 21 rfl rfl)
theorem dJ8_divideAndRound128_543 : decode cJ8_divideAndRound128 543 = .ok (.lushr, 1) := dk_125 (dk_at dksJ8_divideAndRound128_22 23 rfl rfl)
theorem dJ8_divideAndRound128_544 : decode cJ8_divideAndRound128 544 = .ok (.lstore 31, 2) := dk_55 31 (dk_at dksJ8_divideAndRound128_23 0 rfl rfl)
theorem dJ8_divideAndRound128_546 : decode cJ8_divideAndRound128 546 = .ok (.lload 31, 2) := dk_22 31 (dk_at dksJ8_divideAndRound128_23 2 rfl rfl)
theorem dJ8_divideAndRound128_548 : decode cJ8_divideAndRound128 548 = .ok (.lconst 0, 1) := dk_9 (dk_at dksJ8_divideAndRound128_23 4 rfl rfl)
theorem dJ8_divideAndRound128_549 : decode cJ8_divideAndRound128 549 = .ok (.lcmp, 1) := dk_148 (dk_at dksJ8_divideAndRound128_23 5 rfl rfl)
theorem dJ8_divideAndRound128_550 : decode cJ8_divideAndRound128 550 = .ok (.ifCond .eq 43, 3) := dk_153 0 43 (dk_at dksJ8_divideAndRound128_23 6 rfl rfl)
theorem dJ8_divideAndRound128_553 : decode cJ8_divideAndRound128 553 = .ok (.lload 4, 2) := dk_22 4 (dk_at dksJ8_divideAndRound128_23 9 rfl rfl)
theorem dJ8_divideAndRound128_555 : decode cJ8_divideAndRound128 555 = .ok (.iload 10, 2) := dk_21 10 (dk_at dksJ8_divideAndRound128_23 11 rfl rfl)
theorem dJ8_divideAndRound128_557 : decode cJ8_divideAndRound128 557 = .ok (.lushr, 1) := dk_125 (dk_at dksJ8_divideAndRound128_23 13 rfl rfl)
theorem dJ8_divideAndRound128_558 : decode cJ8_divideAndRound128 558 = .ok (.iload 8, 2) := dk_21 8 (dk_at dksJ8_divideAndRound128_23 14 rfl rfl)
theorem dJ8_divideAndRound128_560 : decode cJ8_divideAndRound128 560 = .ok (.iload 6, 2) := dk_21 6 (dk_at dksJ8_divideAndRound128_23 16 rfl rfl)
theorem dJ8_divideAndRound128_562 : decode cJ8_divideAndRound128 562 = .ok (.lload 29, 2) := dk_22 29 (dk_at dksJ8_divideAndRound128_23 18 rfl rfl)
theorem dJ8_divideAndRound128_564 : decode cJ8_divideAndRound128 564 = .ok (.lload 31, 2) := dk_22 31 (dk_at dksJ8_divideAndRound128_23 20 rfl rfl)
theorem dJ8_divideAndRound128_566 : decode cJ8_divideAndRound128 566 = .ok (.invokestatic 924, 3) := dk_184 3 156 (dk_at dksJ8_divideAndRound128_24 0 rfl rfl)
theorem dJ8_divideAndRound128_569 : decode cJ8_divideAndRound128 569 = .ok (.istore 33, 2) := dk_54 33 (dk_at dksJ8_divideAndRound128_24 3 rfl rfl)
theorem dJ8_divideAndRound128_571 : decode cJ8_divideAndRound128 571 = .ok (.iload 33, 2) := dk_21 33 (dk_at dksJ8_divideAndRound128_24 5 rfl rfl)
theorem dJ8_divideAndRound128_573 : decode cJ8_divideAndRound128 573 = .ok (.ifCond .eq 12, 3) := dk_153 0 12 (dk_at dksJ8_divideAndRound128_24 7 rfl rfl)
theorem dJ8_divideAndRound128_576 : decode cJ8_divideAndRound128 576 = .ok (.lload 29, 2) := dk_22 29 (dk_at dksJ8_divideAndRound128_24 10 rfl rfl)
theorem dJ8_divideAndRound128_578 : decode cJ8_divideAndRound128 578 = .ok (.iload 6, 2) := dk_21 6 (dk_at dksJ8_divideAndRound128_24 12 rfl rfl)
theorem dJ8_divideAndRound128_580 : decode cJ8_divideAndRound128 580 = .ok (.i2l, 1) := dk_133 (dk_at dksJ8_divideAndRound128_24 14 rfl rfl)
theorem dJ8_divideAndRound128_581 : decode cJ8_divideAndRound128 581 = .ok (.ladd, 1) := dk_97 (dk_at dksJ8_divideAndRound128_24 15 rfl rfl)
theorem dJ8_divideAndRound128_582 : decode cJ8_divideAndRound128 582 = .ok (.goto 5, 3) := dk_167 0 5 (dk_at dksJ8_divideAndRound128_24 16 rfl rfl)
theorem dJ8_divideAndRound128_585 : decode cJ8_divideAndRound128 585 = .ok (.lload 29, 2) := dk_22 29 (dk_at dksJ8_divideAndRound128_24 19 rfl rfl)
theorem dJ8_divideAndRound128_587 : decode cJ8_divideAndRound128 587 = .ok (.iload 7, 2) := dk_21 7 (dk_at dksJ8_divideAndRound128_24 21 rfl rfl)
theorem dJ8_divideAndRound128_589 : decode cJ8_divideAndRound128 589 = .ok (.invokestatic 328, 3) := dk_184 1 72 (dk_at dksJ8_divideAndRound128_25 0 rfl rfl)
theorem dJ8_divideAndRound128_592 : decode cJ8_divideAndRound128 592 = .ok (.areturn, 1) := dk_176 (dk_at dksJ8_divideAndRound128_25 3 rfl rfl)
theorem dJ8_divideAndRound128_593 : decode cJ8_divideAndRound128 593 = .ok (.iload 9, 2) := dk_21 9 (dk_at dksJ8_divideAndRound128_25 4 rfl rfl)
theorem dJ8_divideAndRound128_595 : decode cJ8_divideAndRound128 595 = .ok (.iload 7, 2) := dk_21 7 (dk_at dksJ8_divideAndRound128_25 6 rfl rfl)
theorem dJ8_divideAndRound128_597 : decode cJ8_divideAndRound128 597 = .ok (.if_icmp .eq 14, 3) := dk_159 0 14 (dk_at dksJ8_divideAndRound128_25 8 rfl rfl)
theorem dJ8_divideAndRound128_600 : decode cJ8_divideAndRound128 600 = .ok (.lload 29, 2) := dk_22 29 (dk_at dksJ8_divideAndRound128_25 11 rfl rfl)
theorem dJ8_divideAndRound128_602 : decode cJ8_divideAndRound128 602 = .ok (.iload 7, 2) := dk_21 7 (dk_at dksJ8_divideAndRound128_25 13 rfl rfl)
theorem dJ8_divideAndRound128_604 : decode cJ8_divideAndRound128 604 = .ok (.iload 9, 2) := dk_21 9 (dk_at dksJ8_divideAndRound128_25 15 rfl rfl)
theorem dJ8_divideAndRound128_606 : decode cJ8_divideAndRound128 606 = .ok (.i2l, 1) := dk_133 (dk_at dksJ8_divideAndRound128_25 17 rfl rfl)
theorem dJ8_divideAndRound128_607 : decode cJ8_divideAndRound128 607 = .ok (.invokestatic 621, 3) := dk_184 2 109 (dk_at dksJ8_divideAndRound128_25 18 rfl rfl)
theorem dJ8_divideAndRound128_610 : decode cJ8_divideAndRound128 610 = .ok (.areturn, 1) := dk_176 (dk_at dksJ8_divideAndRound128_25 21 rfl rfl)
theorem dJ8_divideAndRound128_611 : decode cJ8_divideAndRound128 611 = .ok (.lload 29, 2) := dk_22 29 (dk_at dksJ8_divideAndRound128_25 22 rfl rfl)
theorem dJ8_divideAndRound128_613 : decode cJ8_divideAndRound128 613 = .ok (.iload 7, 2) := dk_21 7 (dk_at dksJ8_divideAndRound128_26 0 rfl rfl)
theorem dJ8_divideAndRound128_615 : decode cJ8_divideAndRound128 615 = .ok (.invokestatic 328, 3) := dk_184 1 72 (dk_at dksJ8_divideAndRound128_26 2 rfl rfl)
theorem dJ8_divideAndRound128_618 : decode cJ8_divideAndRound128 618 = .ok (.areturn, 1) := dk_176 (dk_at dksJ8_divideAndRound128_26 5 rfl rfl)
def dkwJ8_divRemNegativeLong_5 : List UInt8 := [10, 97, 55, 4, 167, 255, 237, 5, 188, 11, 89, 3, 22, 6, 80, 89, 4, 22, 4, 80, 176]
abbrev dktJ8_divRemNegativeLong_5 : List UInt8 := dkwJ8_divRemNegativeLong_5 ++ []
def dkwJ8_divRemNegativeLong_4 : List UInt8 := [22, 4, 10, 101, 55, 4, 167, 255, 237, 22, 6, 32, 148, 155, 0, 18, 22, 6, 32, 101, 55, 6, 22, 4]
abbrev dktJ8_divRemNegativeLong_4 : List UInt8 := dkwJ8_divRemNegativeLong_4 ++ dktJ8_divRemNegativeLong_5
def dkwJ8_divRemNegativeLong_3 : List UInt8 := [55, 4, 30, 22, 4, 32, 105, 101, 55, 6, 22, 6, 9, 148, 156, 0, 18, 22, 6, 32, 97, 55, 6]
abbrev dktJ8_divRemNegativeLong_3 : List UInt8 := dkwJ8_divRemNegativeLong_3 ++ dktJ8_divRemNegativeLong_4
def dkwJ8_divRemNegativeLong_2 : List UInt8 := [10, 148, 154, 0, 14, 187, 1, 59, 89, 19, 4, 29, 183, 2, 32, 191, 30, 4, 125, 32, 4, 125, 109]
abbrev dktJ8_divRemNegativeLong_2 : List UInt8 := dkwJ8_divRemNegativeLong_2 ++ dktJ8_divRemNegativeLong_3
def dkwJ8_divRemNegativeLong_1 : List UInt8 := [19, 4, 27, 182, 0, 79, 30, 182, 3, 35, 182, 0, 88, 183, 2, 32, 191, 178, 1, 55, 154, 0, 20, 32]
abbrev dktJ8_divRemNegativeLong_1 : List UInt8 := dkwJ8_divRemNegativeLong_1 ++ dktJ8_divRemNegativeLong_2
def dkwJ8_divRemNegativeLong_0 : List UInt8 := [178, 1, 55, 154, 0, 37, 30, 9, 148, 155, 0, 31, 187, 1, 59, 89, 187, 0, 74, 89, 183, 0, 76]
abbrev dktJ8_divRemNegativeLong_0 : List UInt8 := dkwJ8_divRemNegativeLong_0 ++ dktJ8_divRemNegativeLong_1
theorem dksJ8_divRemNegativeLong_0 : cJ8_divRemNegativeLong.data.toList.drop 0 = dktJ8_divRemNegativeLong_0 := by decide +kernel
theorem dksJ8_divRemNegativeLong_1 : cJ8_divRemNegativeLong.data.toList.drop 23 = dktJ8_divRemNegativeLong_1 := dk_seg dksJ8_divRemNegativeLong_0 23 rfl rfl
theorem dksJ8_divRemNegativeLong_2 : cJ8_divRemNegativeLong.data.toList.drop 47 = dktJ8_divRemNegativeLong_2 := dk_seg dksJ8_divRemNegativeLong_1 24 rfl rfl
theorem dksJ8_divRemNegativeLong_3 : cJ8_divRemNegativeLong.data.toList.drop 70 = dktJ8_divRemNegativeLong_3 := dk_seg dksJ8_divRemNegativeLong_2 23 rfl rfl
theorem dksJ8_divRemNegativeLong_4 : cJ8_divRemNegativeLong.data.toList.drop 93 = dktJ8_divRemNegativeLong_4 := dk_seg dksJ8_divRemNegativeLong_3 23 rfl rfl
theorem dksJ8_divRemNegativeLong_5 : cJ8_divRemNegativeLong.data.toList.drop 117 = dktJ8_divRemNegativeLong_5 := dk_seg dksJ8_divRemNegativeLong_4 24 rfl rfl
theorem dJ8_divRemNegativeLong_0 : decode cJ8_divRemNegativeLong 0 = .ok (.getstatic 311, 3) := dk_178 1 55 (dk_at dksJ8_divRemNegativeLong_0 0 rfl rfl)
theorem dJ8_divRemNegativeLong_3 : decode cJ8_divRemNegativeLong 3 = .ok (.ifCond .ne 37, 3) := dk_154 0 37 (dk_at dksJ8_divRemNegativeLong_0 3 rfl rfl)
theorem dJ8_divRemNegativeLong_6 : decode cJ8_divRemNegativeLong 6 = .ok (.lload_n 0, 1) := dk_30 (dk_at dksJ8_divRemNegativeLong_0 6 rfl rfl)
theorem dJ8_divRemNegativeLong_7 : decode cJ8_divRemNegativeLong 7 = .ok (.lconst 0, 1) := dk_9 (dk_at dksJ8_divRemNegativeLong_0 7 rfl rfl)
theorem dJ8_divRemNegativeLong_8 : decode cJ8_divRemNegativeLong 8 = .ok (.lcmp, 1) := dk_148 (dk_at dksJ8_divRemNegativeLong_0 8 rfl rfl)
theorem dJ8_divRemNegativeLong_9 : decode cJ8_divRemNegativeLong 9 = .ok (.ifCond .lt 31, 3) := dk_155 0 31 (dk_at dksJ8_divRemNegativeLong_0 9 rfl rfl)
theorem dJ8_divRemNegativeLong_12 : decode cJ8_divRemNegativeLong 12 = .ok (.new 315, 3) := dk_187 1 59 (dk_at dksJ8_divRemNegativeLong_0 12 rfl rfl)
theorem dJ8_divRemNegativeLong_15 : decode cJ8_divRemNegativeLong 15 = .ok (.dup, 1) := dk_89 (dk_at dksJ8_divRemNegativeLong_0 15 rfl rfl)
theorem dJ8_divRemNegativeLong_16 : decode cJ8_divRemNegativeLong 16 = .ok (.new 74, 3) := dk_187 0 74 (dk_at dksJ8_divRemNegativeLong_0 16 rfl rfl)
theorem dJ8_divRemNegativeLong_19 : decode cJ8_divRemNegativeLong 19 = .ok (.dup, 1) := dk_89 (dk_at dksJ8_divRemNegativeLong_0 19 rfl rfl)
theorem dJ8_divRemNegativeLong_20 : decode cJ8_divRemNegativeLong 20 = .ok (.invokespecial 76, 3) := dk_183 0 76 (dk_at dksJ8_divRemNegativeLong_0 20 rfl rfl)
theorem dJ8_divRemNegativeLong_23 : decode cJ8_divRemNegativeLong 23 = .ok (.ldc_w 1051, 3) := dk_19 4 27 (dk_at dksJ8_divRemNegativeLong_1 0 rfl rfl)
theorem dJ8_divRemNegativeLong_26 : decode cJ8_divRemNegativeLong 26 = .ok (.invokevirtual 79, 3) := dk_182 0 79 (dk_at dksJ8_divRemNegativeLong_1 3 rfl rfl)
theorem dJ8_divRemNegativeLong_29 : decode cJ8_divRemNegativeLong 29 = .ok (.lload_n 0, 1) := dk_30 (dk_at dksJ8_divRemNegativeLong_1 6 rfl rfl)
theorem dJ8_divRemNegativeLong_30 : decode cJ8_divRemNegativeLong 30 = .ok (.invokevirtual 803, 3) := dk_182 3 35 (dk_at dksJ8_divRemNegativeLong_1 7 rfl rfl)
theorem dJ8_divRemNegativeLong_33 : decode cJ8_divRemNegativeLong 33 = .ok (.invokevirtual 88, 3) := dk_182 0 88 (dk_at dksJ8_divRemNegativeLong_1 10 rfl rfl)
theorem dJ8_divRemNegativeLong_36 : decode cJ8_divRemNegativeLong 36 = .ok (.invokespecial 544, 3) := dk_183 2 32 (dk_at dksJ8_divRemNegativeLong_1 13 rfl rfl)
theorem dJ8_divRemNegativeLong_39 : decode cJ8_divRemNegativeLong 39 = .ok (.athrow, 1) := dk_191 (dk_at dksJ8_divRemNegativeLong_1 16 rfl rfl)
theorem dJ8_divRemNegativeLong_40 : decode cJ8_divRemNegativeLong 40 = .ok (.getstatic 311, 3) := dk_178 1 55 (dk_at dksJ8_divRemNegativeLong_1 17 rfl rfl)
theorem dJ8_divRemNegativeLong_43 : decode cJ8_divRemNegativeLong 43 = .ok (.ifCond .ne 20, 3) := dk_154 0 20 (dk_at dksJ8_divRemNegativeLong_1 20 rfl rfl)
theorem dJ8_divRemNegativeLong_46 : decode cJ8_divRemNegativeLong 46 = .ok (.lload_n 2, 1) := dk_32 (dk_at dksJ8_divRemNegativeLong_1 23 rfl rfl)
theorem dJ8_divRemNegativeLong_47 : decode cJ8_divRemNegativeLong 47 = .ok (.lconst 1, 1) := dk_10 (dk_at dksJ8_divRemNegativeLong_2 0 rfl rfl)
theorem dJ8_divRemNegativeLong_48 : decode cJ8_divRemNegativeLong 48 = .ok (.lcmp, 1) := dk_148 (dk_at dksJ8_divRemNegativeLong_2 1 rfl rfl)
theorem dJ8_divRemNegativeLong_49 : decode cJ8_divRemNegativeLong 49 = .ok (.ifCond .ne 14, 3) := dk_154 0 14 (dk_at dksJ8_divRemNegativeLong_2 2 rfl rfl)
theorem dJ8_divRemNegativeLong_52 : decode cJ8_divRemNegativeLong 52 = .ok (.new 315, 3) := dk_187 1 59 (dk_at dksJ8_divRemNegativeLong_2 5 rfl rfl)
theorem dJ8_divRemNegativeLong_55 : decode cJ8_divRemNegativeLong 55 = .ok (.dup, 1) := dk_89 (dk_at dksJ8_divRemNegativeLong_2 8 rfl rfl)
theorem dJ8_divRemNegativeLong_56 : decode cJ8_divRemNegativeLong 56 = .ok (.ldc_w 1053, 3) := dk_19 4 29 (dk_at dksJ8_divRemNegativeLong_2 9 rfl rfl)
theorem dJ8_divRemNegativeLong_59 : decode cJ8_divRemNegativeLong 59 = .ok (.invokespecial 544, 3) := dk_183 2 32 (dk_at dksJ8_divRemNegativeLong_2 12 rfl rfl)
theorem dJ8_divRemNegativeLong_62 : decode cJ8_divRemNegativeLong 62 = .ok (.athrow, 1) := dk_191 (dk_at dksJ8_divRemNegativeLong_2 15 rfl rfl)
theorem dJ8_divRemNegativeLong_63 : decode cJ8_divRemNegativeLong 63 = .ok (.lload_n 0, 1) := dk_30 (dk_at dksJ8_divRemNegativeLong_2 16 rfl rfl)
theorem dJ8_divRemNegativeLong_64 : decode cJ8_divRemNegativeLong 64 = .ok (.iconst 1, 1) := dk_4 (dk_at dksJ8_divRemNegativeLong_2 17 rfl rfl)
theorem dJ8_divRemNegativeLong_65 : decode cJ8_divRemNegativeLong 65 = .ok (.lushr, 1) := dk_125 (dk_at dksJ8_divRemNegativeLong_2 18 rfl rfl)
theorem dJ8_divRemNegativeLong_66 : decode cJ8_divRemNegativeLong 66 = .ok (.lload_n 2, 1) := dk_32 (dk_at dksJ8_divRemNegativeLong_2 19 rfl rfl)
theorem dJ8_divRemNegativeLong_67 : decode cJ8_divRemNegativeLong 67 = .ok (.iconst 1, 1) := dk_4 (dk_at dksJ8_divRemNegativeLong_2 20 rfl rfl)
theorem dJ8_divRemNegativeLong_68 : decode cJ8_divRemNegativeLong 68 = .ok (.lushr, 1) := dk_125 (dk_at dksJ8_divRemNegativeLong_2 21 rfl rfl)
theorem dJ8_divRemNegativeLong_69 : decode cJ8_divRemNegativeLong 69 = .ok (.ldiv, 1) := dk_109 (dk_at dksJ8_divRemNegativeLong_2 22 rfl rfl)
theorem dJ8_divRemNegativeLong_70 : decode cJ8_divRemNegativeLong 70 = .ok (.lstore 4, 2) := dk_55 4 (dk_at dksJ8_divRemNegativeLong_3 0 rfl rfl)
theorem dJ8_divRemNegativeLong_72 : decode cJ8_divRemNegativeLong 72 = .ok (.lload_n 0, 1) := dk_30 (dk_at dksJ8_divRemNegativeLong_3 2 rfl rfl)
theorem dJ8_divRemNegativeLong_73 : decode cJ8_divRemNegativeLong 73 = .ok (.lload 4, 2) := dk_22 4 (dk_at dksJ8_divRemNegativeLong_3 3 rfl rfl)
theorem dJ8_divRemNegativeLong_75 : decode cJ8_divRemNegativeLong 75 = .ok (.lload_n 2, 1) := dk_32 (dk_at dksJ8_divRemNegativeLong_3 5 rfl rfl)
theorem dJ8_divRemNegativeLong_76 : decode cJ8_divRemNegativeLong 76 = .ok (.lmul, 1) := dk_105 (dk_at dksJ8_divRemNegativeLong_3 6 rfl rfl)
theorem dJ8_divRemNegativeLong_77 : decode cJ8_divRemNegativeLong 77 = .ok (.lsub, 1) := dk_101 (dk_at dksJ8_divRemNegativeLong_3 7 rfl rfl)
theorem dJ8_divRemNegativeLong_78 : decode cJ8_divRemNegativeLong 78 = .ok (.lstore 6, 2) := dk_55 6 (dk_at dksJ8_divRemNegativeLong_3 8 rfl rfl)
theorem dJ8_divRemNegativeLong_80 : decode cJ8_divRemNegativeLong 80 = .ok (.lload 6, 2) := dk_22 6 (dk_at dksJ8_divRemNegativeLong_3 10 rfl rfl)
theorem dJ8_divRemNegativeLong_82 : decode cJ8_divRemNegativeLong 82 = .ok (.lconst 0, 1) := dk_9 (dk_at dksJ8_divRemNegativeLong_3 12 rfl rfl)
theorem dJ8_divRemNegativeLong_83 : decode cJ8_divRemNegativeLong 83 = .ok (.lcmp, 1) := dk_148 (dk_at dksJ8_divRemNegativeLong_3 13 rfl rfl)
theorem dJ8_divRemNegativeLong_84 : decode cJ8_divRemNegativeLong 84 = .ok (.ifCond .ge 18, 3) := dk_156 0 18 (dk_at dksJ8_divRemNegativeLong_3 14 rfl rfl)
theorem dJ8_divRemNegativeLong_87 : decode cJ8_divRemNegativeLong 87 = .ok (.lload 6, 2) := dk_22 6 (dk_at dksJ8_divRemNegativeLong_3 17 rfl rfl)
theorem dJ8_divRemNegativeLong_89 : decode cJ8_divRemNegativeLong 89 = .ok (.lload_n 2, 1) := dk_32 (dk_at dksJ8_divRemNegativeLong_3 19 rfl rfl)
theorem dJ8_divRemNegativeLong_90 : decode cJ8_divRemNegativeLong 90 = .ok (.ladd, 1) := dk_97 (dk_at dksJ8_divRemNegativeLong_3 20 rfl rfl)
theorem dJ8_divRemNegativeLong_91 : decode cJ8_divRemNegativeLong 91 = .ok (.lstore 6, 2) := dk_55 6 (dk_at dksJ8_divRemNegativeLong_3 21 rfl rfl)
theorem dJ8_divRemNegativeLong_93 : decode cJ8_divRemNegativeLong 93 = .ok (.lload 4, 2) := dk_22 4 (dk_at dksJ8_divRemNegativeLong_4 0 rfl rfl)
theorem dJ8_divRemNegativeLong_95 : decode cJ8_divRemNegativeLong 95 = .ok (.lconst 1, 1) := dk_10 (dk_at dksJ8_divRemNegativeLong_4 2 rfl rfl)
theorem dJ8_divRemNegativeLong_96 : decode cJ8_divRemNegativeLong 96 = .ok (.lsub, 1) := dk_101 (dk_at dksJ8_divRemNegativeLong_4 3 rfl rfl)
theorem dJ8_divRemNegativeLong_97 : decode cJ8_divRemNegativeLong 97 = .ok (.lstore 4, 2) := dk_55 4 (dk_at dksJ8_divRemNegativeLong_4 4 rfl rfl)
theorem dJ8_divRemNegativeLong_99 : decode cJ8_divRemNegativeLong 99 = .ok (.goto (-19), 3) := dk_167 255 237 (dk_at dksJ8_divRemNegativeLong_4 6 rfl rfl)
theorem dJ8_divRemNegativeLong_102 : decode cJ8_divRemNegativeLong 102 = .ok (.lload 6, 2) := dk_22 6 (dk_at dksJ8_divRemNegativeLong_4 9 rfl rfl)
theorem dJ8_divRemNegativeLong_104 : decode cJ8_divRemNegativeLong 104 = .ok (.lload_n 2, 1) := dk_32 (dk_at dksJ8_divRemNegativeLong_4 11 rfl rfl)
theorem dJ8_divRemNegativeLong_105 : decode cJ8_divRemNegativeLong 105 = .ok (.lcmp, 1) := dk_148 (dk_at dksJ8_divRemNegativeLong_4 12 rfl rfl)
theorem dJ8_divRemNegativeLong_106 : decode cJ8_divRemNegativeLong 106 = .ok (.ifCond .lt 18, 3) := dk_155 0 18 (dk_at dksJ8_divRemNegativeLong_4 13 rfl rfl)
theorem dJ8_divRemNegativeLong_109 : decode cJ8_divRemNegativeLong 109 = .ok (.lload 6, 2) := dk_22 6 (dk_at dksJ8_divRemNegativeLong_4 16 rfl rfl)
theorem dJ8_divRemNegativeLong_111 : decode cJ8_divRemNegativeLong 111 = .ok (.lload_n 2, 1) := dk_32 (dk_at dksJ8_divRemNegativeLong_4 18 rfl rfl)
theorem dJ8_divRemNegativeLong_112 : decode cJ8_divRemNegativeLong 112 = .ok (.lsub, 1) := dk_101 (dk_at dksJ8_divRemNegativeLong_4 19 rfl rfl)
theorem dJ8_divRemNegativeLong_113 : decode cJ8_divRemNegativeLong 113 = .ok (.lstore 6, 2) := dk_55 6 (dk_at dksJ8_divRemNegativeLong_4 20 rfl rfl)
theorem dJ8_divRemNegativeLong_115 : decode cJ8_divRemNegativeLong 115 = .ok (.lload 4, 2) := dk_22 4 (dk_at dksJ8_divRemNegativeLong_4 22 rfl rfl)
theorem dJ8_divRemNegativeLong_117 : decode cJ8_divRemNegativeLong 117 = .ok (.lconst 1, 1) := dk_10 (dk_at dksJ8_divRemNegativeLong_5 0 rfl rfl)
theorem dJ8_divRemNegativeLong_118 : decode cJ8_divRemNegativeLong 118 = .ok (.ladd, 1) := dk_97 (dk_at dksJ8_divRemNegativeLong_5 1 rfl rfl)
theorem dJ8_divRemNegativeLong_119 : decode cJ8_divRemNegativeLong 119 = .ok (.lstore 4, 2) := dk_55 4 (dk_at dksJ8_divRemNegativeLong_5 2 rfl rfl)
theorem dJ8_divRemNegativeLong_121 : decode cJ8_divRemNegativeLong 121 = .ok (.goto (-19), 3) := dk_167 255 237 (dk_at dksJ8_divRemNegativeLong_5 4 rfl rfl)
theorem dJ8_divRemNegativeLong_124 : decode cJ8_divRemNegativeLong 124 = .ok (.iconst 2, 1) := dk_5 (dk_at dksJ8_divRemNegativeLong_5 7 rfl rfl)
theorem dJ8_divRemNegativeLong_125 : decode cJ8_divRemNegativeLong 125 = .ok (.newarray .long, 2) := dk_188_11 (dk_at dksJ8_divRemNegativeLong_5 8 rfl rfl)
theorem dJ8_divRemNegativeLong_127 : decode cJ8_divRemNegativeLong 127 = .ok (.dup, 1) := dk_89 (dk_at dksJ8_divRemNegativeLong_5 10 rfl rfl)
theorem dJ8_divRemNegativeLong_128 : decode cJ8_divRemNegativeLong 128 = .ok (.iconst 0, 1) := dk_3 (dk_at dksJ8_divRemNegativeLong_5 11 rfl rfl)
theorem dJ8_divRemNegativeLong_129 : decode cJ8_divRemNegativeLong 129 = .ok (.lload 6, 2) := dk_22 6 (dk_at dksJ8_divRemNegativeLong_5 12 rfl rfl)
theorem dJ8_divRemNegativeLong_131 : decode cJ8_divRemNegativeLong 131 = .ok (.lastore, 1) := dk_80 (dk_at dksJ8_divRemNegativeLong_5 14 rfl rfl)
theorem dJ8_divRemNegativeLong_132 : decode cJ8_divRemNegativeLong 132 = .ok (.dup, 1) := dk_89 (dk_at dksJ8_divRemNegativeLong_5 15 rfl rfl)
theorem dJ8_divRemNegativeLong_133 : decode cJ8_divRemNegativeLong 133 = .ok (.iconst 1, 1) := dk_4 (dk_at dksJ8_divRemNegativeLong_5 16 rfl rfl)
theorem dJ8_divRemNegativeLong_134 : decode cJ8_divRemNegativeLong 134 = .ok (.lload 4, 2) := dk_22 4 (dk_at dksJ8_divRemNegativeLong_5 17 rfl rfl)
theorem dJ8_divRemNegativeLong_136 : decode cJ8_divRemNegativeLong 136 = .ok (.lastore, 1) := dk_80 (dk_at dksJ8_divRemNegativeLong_5 19 rfl rfl)
theorem dJ8_divRemNegativeLong_137 : decode cJ8_divRemNegativeLong 137 = .ok (.areturn, 1) := dk_176 (dk_at dksJ8_divRemNegativeLong_5 20 rfl rfl)
def dkwJ8_unsignedLongCompare_0 : List UInt8 := [30, 20, 0, 125, 97, 32, 20, 0, 125, 97, 148, 158, 0, 7, 4, 167, 0, 4, 3, 172]
abbrev dktJ8_unsignedLongCompare_0 : List UInt8 := dkwJ8_unsignedLongCompare_0 ++ []
theorem dksJ8_unsignedLongCompare_0 : cJ8_unsignedLongCompare.data.toList.drop 0 = dktJ8_unsignedLongCompare_0 := by decide +kernel
theorem dJ8_unsignedLongCompare_0 : decode cJ8_unsignedLongCompare 0 = .ok (.lload_n 0, 1) := dk_30 (dk_at dksJ8_unsignedLongCompare_0 0 rfl rfl)
theorem dJ8_unsignedLongCompare_1 : decode cJ8_unsignedLongCompare 1 = .ok (.ldc2_w 125, 3) := dk_20 0 125 (dk_at dksJ8_unsignedLongCompare_0 1 rfl rfl)
theorem dJ8_unsignedLongCompare_4 : decode cJ8_unsignedLongCompare 4 = .ok (.ladd, 1) := dk_97 (dk_at dksJ8_unsignedLongCompare_0 4 rfl rfl)
theorem dJ8_unsignedLongCompare_5 : decode cJ8_unsignedLongCompare 5 = .ok (.lload_n 2, 1) := dk_32 (dk_at dksJ8_unsignedLongCompare_0 5 rfl rfl)
theorem dJ8_unsignedLongCompare_6 : decode cJ8_unsignedLongCompare 6 = .ok (.ldc2_w 125, 3) := dk_20 0 125 (dk_at dksJ8_unsignedLongCompare_0 6 rfl rfl)
theorem dJ8_unsignedLongCompare_9 : decode cJ8_unsignedLongCompare 9 = .ok (.ladd, 1) := dk_97 (dk_at dksJ8_unsignedLongCompare_0 9 rfl rfl)
theorem dJ8_unsignedLongCompare_10 : decode cJ8_unsignedLongCompare 10 = .ok (.lcmp, 1) := dk_148 (dk_at dksJ8_unsignedLongCompare_0 10 rfl rfl)
theorem dJ8_unsignedLongCompare_11 : decode cJ8_unsignedLongCompare 11 = .ok (.ifCond .le 7, 3) := dk_158 0 7 (dk_at dksJ8_unsignedLongCompare_0 11 rfl rfl)
theorem dJ8_unsignedLongCompare_14 : decode cJ8_unsignedLongCompare 14 = .ok (.iconst 1, 1) := dk_4 (dk_at dksJ8_unsignedLongCompare_0 14 rfl rfl)
theorem dJ8_unsignedLongCompare_15 : decode cJ8_unsignedLongCompare 15 = .ok (.goto 4, 3) := dk_167 0 4 (dk_at dksJ8_unsignedLongCompare_0 15 rfl rfl)
theorem dJ8_unsignedLongCompare_18 : decode cJ8_unsignedLongCompare 18 = .ok (.iconst 0, 1) := dk_3 (dk_at dksJ8_unsignedLongCompare_0 18 rfl rfl)
theorem dJ8_unsignedLongCompare_19 : decode cJ8_unsignedLongCompare 19 = .ok (.ireturn, 1) := dk_172 (dk_at dksJ8_unsignedLongCompare_0 19 rfl rfl)
def dkwJ8_mulsub_1 : List UInt8 := [20, 2, 124, 127, 184, 4, 2, 173]
abbrev dktJ8_mulsub_1 : List UInt8 := dkwJ8_mulsub_1 ++ []
def dkwJ8_mulsub_0 : List UInt8 := [32, 22, 8, 22, 6, 105, 101, 55, 10, 30, 22, 10, 16, 32, 125, 97, 22, 8, 22, 4, 105, 101, 22, 10]
abbrev dktJ8_mulsub_0 : List UInt8 := dkwJ8_mulsub_0 ++ dktJ8_mulsub_1
theorem dksJ8_mulsub_0 : cJ8_mulsub.data.toList.drop 0 = dktJ8_mulsub_0 := by decide +kernel
theorem dksJ8_mulsub_1 : cJ8_mulsub.data.toList.drop 24 = dktJ8_mulsub_1 := dk_seg dksJ8_mulsub_0 24 rfl rfl
theorem dJ8_mulsub_0 : decode cJ8_mulsub 0 = .ok (.lload_n 2, 1) := dk_32 (dk_at dksJ8_mulsub_0 0 rfl rfl)
theorem dJ8_mulsub_1 : decode cJ8_mulsub 1 = .ok (.lload 8, 2) := dk_22 8 (dk_at dksJ8_mulsub_0 1 rfl rfl)
theorem dJ8_mulsub_3 : decode cJ8_mulsub 3 = .ok (.lload 6, 2) := dk_22 6 (dk_at dksJ8_mulsub_0 3 rfl rfl)
theorem dJ8_mulsub_5 : decode cJ8_mulsub 5 = .ok (.lmul, 1) := dk_105 (dk_at dksJ8_mulsub_0 5 rfl rfl)
theorem dJ8_mulsub_6 : decode cJ8_mulsub 6 = .ok (.lsub, 1) := dk_101 (dk_at dksJ8_mulsub_0 6 rfl rfl)
theorem dJ8_mulsub_7 : decode cJ8_mulsub 7 = .ok (.lstore 10, 2) := dk_55 10 (dk_at dksJ8_mulsub_0 7 rfl rfl)
theorem dJ8_mulsub_9 : decode cJ8_mulsub 9 = .ok (.lload_n 0, 1) := dk_30 (dk_at dksJ8_mulsub_0 9 rfl rfl)
theorem dJ8_mulsub_10 : decode cJ8_mulsub 10 = .ok (.lload 10, 2) := dk_22 10 (dk_at dksJ8_mulsub_0 10 rfl rfl)
theorem dJ8_mulsub_12 : decode cJ8_mulsub 12 = .ok (.bipush 32, 2) := dk_16 32 (dk_at dksJ8_mulsub_0 12 rfl rfl)
theorem dJ8_mulsub_14 : decode cJ8_mulsub 14 = .ok (.lushr, 1) := dk_125 (dk_at dksJ8_mulsub_0 14 rfl rfl)
theorem dJ8_mulsub_15 : decode cJ8_mulsub 15 = .ok (.ladd, 1) := dk_97 (dk_at dksJ8_mulsub_0 15 rfl rfl)
theorem dJ8_mulsub_16 : decode cJ8_mulsub 16 = .ok (.lload 8, 2) := dk_22 8 (dk_at dksJ8_mulsub_0 16 rfl rfl)
theorem dJ8_mulsub_18 : decode cJ8_mulsub 18 = .ok (.lload 4, 2) := dk_22 4 (dk_at dksJ8_mulsub_0 18 rfl rfl)
theorem dJ8_mulsub_20 : decode cJ8_mulsub 20 = .ok (.lmul, 1) := dk_105 (dk_at dksJ8_mulsub_0 20 rfl rfl)
theorem dJ8_mulsub_21 : decode cJ8_mulsub 21 = .ok (.lsub, 1) := dk_101 (dk_at dksJ8_mulsub_0 21 rfl rfl)
theorem dJ8_mulsub_22 : decode cJ8_mulsub 22 = .ok (.lload 10, 2) := dk_22 10 (dk_at dksJ8_mulsub_0 22 rfl rfl)
theorem dJ8_mulsub_24 : decode cJ8_mulsub 24 = .ok (.ldc2_w 636, 3) := dk_20 2 124 (dk_at dksJ8_mulsub_1 0 rfl rfl)
theorem dJ8_mulsub_27 : decode cJ8_mulsub 27 = .ok (.land, 1) := dk_127 (dk_at dksJ8_mulsub_1 3 rfl rfl)
theorem dJ8_mulsub_28 : decode cJ8_mulsub 28 = .ok (.invokestatic 1026, 3) := dk_184 4 2 (dk_at dksJ8_mulsub_1 4 rfl rfl)
theorem dJ8_mulsub_31 : decode cJ8_mulsub 31 = .ok (.lreturn, 1) := dk_173 (dk_at dksJ8_mulsub_1 7 rfl rfl)
theorem ms64 {u1 u0 v1 v0 q0 t lo : Int} (ht : u0 - q0 * v0 = t) (hl : lo = t % 4294967296) : (((u1 + t % 18446744073709551616 / 4294967296) - q0 * v1) * 4294967296 + lo) % 18446744073709551616 = ((u1 * 4294967296 + u0) - q0 * (v1 * 4294967296 + v0)) % 18446744073709551616 := by
  rw [Int.mul_add q0, ← Int.mul_assoc]
  generalize q0 * v1 = p at *
  generalize q0 * v0 = r at *
  omega
theorem sh_split {X hi lo sh L H : Nat} (hX : X = hi * 18446744073709551616 + lo) (hlo : lo < 18446744073709551616) (hs : sh ≤ 64) (hL : L = lo * 2 ^ sh % 18446744073709551616) (hH : H = hi * 2 ^ sh + lo / 2 ^ (64 - sh)) : X * 2 ^ sh = H * 18446744073709551616 + L ∧ L < 18446744073709551616 := by
  have hPQ : 2 ^ sh * 2 ^ (64 - sh) = 18446744073709551616 := by rw [← Nat.pow_add, show sh + (64 - sh) = 64 by omega]
  have hp : 0 < 2 ^ sh := Nat.pow_pos (by decide)
  have h4 : lo * 2 ^ sh / 18446744073709551616 = lo / 2 ^ (64 - sh) := by rw [← hPQ, Nat.mul_comm lo, Nat.mul_div_mul_left _ _ hp]
  have h3 := Nat.div_add_mod (lo * 2 ^ sh) 18446744073709551616
  rw [h4] at h3
  have h5 : X * 2 ^ sh = hi * 2 ^ sh * 18446744073709551616 + lo * 2 ^ sh := by rw [hX, Nat.add_mul, Nat.mul_right_comm]
  omega
theorem lo_sh {lo sh : Nat} (hlo : lo < 18446744073709551616) (hs : sh ≤ 64) : lo / 2 ^ (64 - sh) < 2 ^ sh := by
  have hPQ : 2 ^ sh * 2 ^ (64 - sh) = 18446744073709551616 := by rw [← Nat.pow_add, show sh + (64 - sh) = 64 by omega]
  exact Nat.div_lt_of_lt_mul (by rw [Nat.mul_comm, hPQ]; exact hlo)
theorem hd_lt {X hi lo d sh H L D : Nat} (hX : X = hi * 18446744073709551616 + lo) (hlo : lo < 18446744073709551616) (hhi : hi < d) (hD : D = d * 2 ^ sh) (h : X * 2 ^ sh = H * 18446744073709551616 + L) : H < D := by
  have hp : 0 < 2 ^ sh := Nat.pow_pos (by decide)
  have h1 : X < d * 18446744073709551616 := by omega
  have h2 : X * 2 ^ sh < d * 18446744073709551616 * 2 ^ sh := Nat.mul_lt_mul_of_pos_right h1 hp
  have h3 : d * 18446744073709551616 * 2 ^ sh = D * 18446744073709551616 := by rw [hD, Nat.mul_right_comm]
  omega
/-- the loop that corrects an estimate -/
theorem kn_w1 {V nl dh dl qh qr D T : Nat} (hD : D = dh * 4294967296 + dl) (hT : T = V * 4294967296 + nl) (hV : V < D) (hnl : nl < 4294967296) (h1 : qh * dh + qr = V) (h : 4294967296 ≤ qh ∨ qr * 4294967296 + nl < qh * dl) : T < qh * D := by
  rcases h with h | h
  · have : 4294967296 * D ≤ qh * D := Nat.mul_le_mul_right _ h
    omega
  · have := kn_id hD hT h1
    rw [Nat.mul_comm dl] at this; omega
theorem kn_w2 {V nl dh dl qh qr D T : Nat} (hD : D = dh * 4294967296 + dl) (hT : T = V * 4294967296 + nl) (h1 : qh * dh + qr = V) (h : qh * dl ≤ qr * 4294967296 + nl) : qh * D ≤ T := by
  have := kn_id hD hT h1
  rw [Nat.mul_comm dl] at this; omega
theorem kn_w3 {V nl dh dl qh qr D T : Nat} (hD : D = dh * 4294967296 + dl) (hT : T = V * 4294967296 + nl) (hdl : dl < 4294967296) (h1 : qh * dh + qr = V) (hq : qh ≤ 4294967296) (hr : 4294967296 ≤ qr) : qh * D ≤ T := by
  have h2 : qh * dl ≤ 4294967296 * 4294967295 := Nat.mul_le_mul hq (by omega)
  exact kn_w2 hD hT h1 (by omega)
theorem q_dh {V dh dl D : Nat} (hD : D = dh * 4294967296 + dl) (hd : 2147483648 ≤ dh) (hdl : dl < 4294967296) (hV : V < D) : V / dh ≤ 4294967297 := by
  have h1 := Nat.div_add_mod V dh
  rcases Nat.lt_or_ge 4294967297 (V / dh) with c | c
  · have h2 : dh * 4294967298 ≤ dh * (V / dh) := Nat.mul_le_mul_left _ c
    omega
  · exact c
theorem msub_R {T Q D R : Nat} {a e : Int} (h : ∃ k : Nat, (T : Int) = a + 18446744073709551616 * (k : Int)) (hR : T = Q * D + R) (he : e = (D : Int)) : (a - (Q : Int) * e) % 18446744073709551616 = (R : Int) % 18446744073709551616 := by
  obtain ⟨k, hk⟩ := h
  subst he
  have h2 : (T : Int) = (Q : Int) * (D : Int) + (R : Int) := by rw [hR, Int.natCast_add, Int.natCast_mul]
  generalize (Q : Int) * (D : Int) = p at h2 ⊢
  clear hR
  omega
theorem msub_T {T V n w : Nat} (hT : T = V * 4294967296 + n) (hw : w = V % 4294967296) : ∃ k : Nat, (T : Int) = ((w : Int) * 4294967296 + (n : Int)) + 18446744073709551616 * (k : Int) := ⟨V / 4294967296, by omega⟩
theorem kn_fin {X sh d D H L T1 R1 T0 R0 Q Q0 u1 u0 : Nat} (hD : D = d * 2 ^ sh) (h : X * 2 ^ sh = H * 18446744073709551616 + L) (hL : L = u1 * 4294967296 + u0) (hT1 : T1 = H * 4294967296 + u1) (hR1 : T1 = Q * D + R1) (hT0 : T0 = R1 * 4294967296 + u0) (hR0 : T0 = Q0 * D + R0) (hr : R0 < D) : X / d = Q * 4294967296 + Q0 ∧ R0 = X % d * 2 ^ sh := by
  refine kn_end hD (Q := Q * 4294967296 + Q0) ?_ hr
  have e : (Q * 4294967296 + Q0) * D = Q * D * 4294967296 + Q0 * D := by rw [Nat.add_mul, Nat.mul_right_comm]
  have k1 : H * 4294967296 + u1 = Q * D + R1 := hT1 ▸ hR1
  have k0 : R1 * 4294967296 + u0 = Q0 * D + R0 := hT0 ▸ hR0
  rw [h, hL, e, show (18446744073709551616 : Nat) = 4294967296 * 4294967296 by decide, ← Nat.mul_assoc, ← Nat.add_assoc, ← Nat.add_mul, k1, Nat.add_mul, Nat.add_assoc, k0, Nat.add_assoc]
theorem rq_1 {x d sg : Int} {Q : Nat} (hQ : Q = x.natAbs / d.natAbs) (hs : (sg = 1 ∧ xrI x d = 0) ∨ (sg = -1 ∧ xrI x d = 1)) : sg * (Q : Int) = rdV x d 1 ∧ rdF x d 1 = false := by
  subst hQ
  refine ⟨?_, rd_n (by omega) (by omega)⟩
  unfold rdV
  rw [rnd_2 (show upI (mcO 1) _ _ _ _ = 0 from upI_d (by decide))]
  rcases hs with ⟨e, e2⟩ | ⟨e, e2⟩ <;> rw [e, e2]
  · rw [sgn_z]; omega
  · rw [sgn_o]; omega
theorem nd_J8_make64 : yJ8_make64.cls ≠ "java/lang/invoke/MethodHandle" ∧ yJ8_make64.cls ≠ "java/lang/invoke/VarHandle" ∧ (parseMethodDescriptor yJ8_make64.desc).map (fun d => d.parameters.length) = some 2 := by decide +kernel
set_option maxRecDepth 100000 in
set_option maxHeartbeats 16000000 in
theorem ct_J8_make64 {g : GG} {l : Launch} (x_ : Int) (y_ : Nat) (hy : y_ < 4294967296) : Ct g l yJ8_make64 (ws_ yJ8_make64 cJ8_make64 4 (Option.some Jvm.ClassFile.FieldType.long)) 1 12 0 0 [.long (jL x_), .long (jL (↑y_))] [] (fun v9 Ws9 => v9 = some (.long (jL (x_ * 4294967296 + ↑y_))) ∧ Ws9 = []) (nox) := by
  refine Ct.of (cc := cJ8_make64) (nL := 4) (ret := (Option.some Jvm.ClassFile.FieldType.long)) (by decide) rfl (Nat.le_of_ble_eq_true rfl) ?_
  intro x hg hl hPo hPx hmc hms F
  subst hg; subst hl
  refine SW.cast (L' := [(0, .long (jL x_)), (2, .long (jL (↑y_)))]) ?_ rfl rfl rfl
  refine sw_lload_n (n := 1) F 0 rfl rfl dJ8_make64_0 rfl ?_
  refine sw_bipush (n := 3) F (32) (by decide) dJ8_make64_1 rfl ?_
  refine sw_lshl (n := 4) F (jL (x_ * 4294967296)) (by have h7s := jL_shlQ x_ (c := 32) (P := 4294967296) (k := 32) (by decide) (by decide) (by decide); exact h7s) dJ8_make64_3 rfl ?_
  refine sw_lload_n (n := 5) F 1 rfl rfl dJ8_make64_4 rfl ?_
  refine sw_lor (n := 6) F (jL (x_ * 4294967296 + ↑y_)) (by exact jL_or 32 (by decide) (by omega) (by omega)) dJ8_make64_5 rfl ?_
  exact sw_lret F rfl dJ8_make64_6 (by rw [hPo]; exact ⟨rfl, rfl⟩)
theorem nd_J8_unsignedLongCompare : yJ8_unsignedLongCompare.cls ≠ "java/lang/invoke/MethodHandle" ∧ yJ8_unsignedLongCompare.cls ≠ "java/lang/invoke/VarHandle" ∧ (parseMethodDescriptor yJ8_unsignedLongCompare.desc).map (fun d => d.parameters.length) = some 2 := by decide +kernel
set_option maxRecDepth 100000 in
set_option maxHeartbeats 16000000 in
theorem ct_J8_unsignedLongCompare {g : GG} {l : Launch} (x_ : Nat) (y_ : Nat) (hx : x_ < 18446744073709551616) (hy : y_ < 18446744073709551616) : Ct g l yJ8_unsignedLongCompare (ws_ yJ8_unsignedLongCompare cJ8_unsignedLongCompare 4 (Option.some Jvm.ClassFile.FieldType.boolean)) 1 12 0 0 [.long (jL (↑x_)), .long (jL (↑y_))] [] (fun v9 Ws9 => v9 = some (.int (jI (if y_ < x_ then 1 else 0))) ∧ Ws9 = []) (nox) := by
  refine Ct.of (cc := cJ8_unsignedLongCompare) (nL := 4) (ret := (Option.some Jvm.ClassFile.FieldType.boolean)) (by decide) rfl (Nat.le_of_ble_eq_true rfl) ?_
  intro x hg hl hPo hPx hmc hms F
  subst hg; subst hl
  refine SW.cast (L' := [(0, .long (jL (↑x_))), (2, .long (jL (↑y_)))]) ?_ rfl rfl rfl
  refine sw_lload_n (n := 1) F 0 rfl rfl dJ8_unsignedLongCompare_0 rfl ?_
  refine sw_ldc2 (n := 4) F (-9223372036854775808) q250 (by decide) dJ8_unsignedLongCompare_1 rfl ?_
  refine sw_ladd (n := 5) F dJ8_unsignedLongCompare_4 rfl ?_
  refine sw_top (topLm (show ((↑x_) + (-9223372036854775808) : Int) % 18446744073709551616 = ((↑x_ : Int) - 9223372036854775808) % 18446744073709551616 by omega)) ?_
  refine sw_lload_n (n := 6) F 1 rfl rfl dJ8_unsignedLongCompare_5 rfl ?_
  refine sw_ldc2 (n := 9) F (-9223372036854775808) q250 (by decide) dJ8_unsignedLongCompare_6 rfl ?_
  refine sw_ladd (n := 10) F dJ8_unsignedLongCompare_9 rfl ?_
  refine sw_top (topLm (show ((↑y_) + (-9223372036854775808) : Int) % 18446744073709551616 = ((↑y_ : Int) - 9223372036854775808) % 18446744073709551616 by omega)) ?_
  refine sw_lcmp (n := 11) F (by omega) (by omega) dJ8_unsignedLongCompare_10 rfl ?_
  refine sw_if_le (n := 14) F (lc_rng _ _) (tgt := 18) dJ8_unsignedLongCompare_11 (by decide) rfl (fun c_11 => ?_) (fun c_11 => ?_)
  ·
    have c_11 := lc_le c_11
    refine sw_iconst (n := 19) F (0) (by decide) dJ8_unsignedLongCompare_18 rfl ?_
    exact sw_iret F _ rfl (by first | rfl | exact jI_nz (by omega) | exact jI_nc (by omega)) dJ8_unsignedLongCompare_19 (by rw [hPo]; exact ⟨(by first | (rw [if_pos (by omega)]) | (rw [if_neg (by omega)])), rfl⟩)
  ·
    have c_11 := lc_gt c_11
    refine sw_iconst (n := 15) F (1) (by decide) dJ8_unsignedLongCompare_14 rfl ?_
    refine sw_goto F (n := 19) dJ8_unsignedLongCompare_15 (by decide) ?_
    exact sw_iret F _ rfl (by first | rfl | exact jI_nz (by omega) | exact jI_nc (by omega)) dJ8_unsignedLongCompare_19 (by rw [hPo]; exact ⟨(by first | (rw [if_pos (by omega)]) | (rw [if_neg (by omega)])), rfl⟩)
theorem nd_J8_mulsub : yJ8_mulsub.cls ≠ "java/lang/invoke/MethodHandle" ∧ yJ8_mulsub.cls ≠ "java/lang/invoke/VarHandle" ∧ (parseMethodDescriptor yJ8_mulsub.desc).map (fun d => d.parameters.length) = some 5 := by decide +kernel
set_option maxRecDepth 100000 in
set_option maxHeartbeats 16000000 in
theorem ct_J8_mulsub {g : GG} {l : Launch} (u1 : Nat) (u0 : Nat) (v1 : Nat) (v0 : Nat) (q0 : Nat)  : Ct g l yJ8_mulsub (ws_ yJ8_mulsub cJ8_mulsub 12 (Option.some Jvm.ClassFile.FieldType.long)) 2 35 0 0 [.long (jL (↑u1)), .long (jL (↑u0)), .long (jL (↑v1)), .long (jL (↑v0)), .long (jL (↑q0))] [] (fun v9 Ws9 => ∃ rr : Int, v9 = some (.long (jL rr)) ∧ (rr = ((↑u1 : Int) * 4294967296 + ↑u0) - (↑q0 : Int) * ((↑v1 : Int) * 4294967296 + ↑v0)) ∧ Ws9 = []) (nox) := by
  refine Ct.of (cc := cJ8_mulsub) (nL := 12) (ret := (Option.some Jvm.ClassFile.FieldType.long)) (by decide) rfl (Nat.le_of_ble_eq_true rfl) ?_
  intro x hg hl hPo hPx hmc hms F
  subst hg; subst hl
  refine SW.cast (L' := [(0, .long (jL (↑u1))), (2, .long (jL (↑u0))), (4, .long (jL (↑v1))), (6, .long (jL (↑v0))), (8, .long (jL (↑q0)))]) ?_ rfl rfl rfl
  refine sw_lload_n (n := 1) F 1 rfl rfl dJ8_mulsub_0 rfl ?_
  refine sw_lload (n := 3) F 4 rfl dJ8_mulsub_1 rfl ?_
  refine sw_lload (n := 5) F 3 rfl dJ8_mulsub_3 rfl ?_
  refine sw_lmul (n := 6) F dJ8_mulsub_5 rfl ?_
  refine sw_lsub (n := 7) F dJ8_mulsub_6 rfl ?_
  obtain ⟨t, ht⟩ : ∃ z : Int, (↑u0 : Int) - ↑q0 * ↑v0 = z := ⟨_, rfl⟩
  refine sw_top (topL (show ((↑u0) - ((↑q0) * (↑v0)) : Int) = t by exact ht)) ?_
  refine sw_lstore (n := 9) F (L2 := [(10, .long (jL t)), (0, .long (jL (↑u1))), (2, .long (jL (↑u0))), (4, .long (jL (↑v1))), (6, .long (jL (↑v0))), (8, .long (jL (↑q0)))]) rfl (by decide) dJ8_mulsub_7 rfl ?_
  refine sw_lload_n (n := 10) F 1 rfl rfl dJ8_mulsub_9 rfl ?_
  refine sw_lload (n := 12) F 0 rfl dJ8_mulsub_10 rfl ?_
  refine sw_bipush (n := 14) F (32) (by decide) dJ8_mulsub_12 rfl ?_
  refine sw_lushr (n := 15) F (jL (t % 18446744073709551616 / 4294967296)) (by have h7s := jL_ushrcQ t (c := 32) (P := 4294967296) (k := 32) (by decide) (by decide) (by decide); exact h7s) dJ8_mulsub_14 rfl ?_
  refine sw_ladd (n := 16) F dJ8_mulsub_15 rfl ?_
  refine sw_lload (n := 18) F 5 rfl dJ8_mulsub_16 rfl ?_
  refine sw_lload (n := 20) F 3 rfl dJ8_mulsub_18 rfl ?_
  refine sw_lmul (n := 21) F dJ8_mulsub_20 rfl ?_
  refine sw_lsub (n := 22) F dJ8_mulsub_21 rfl ?_
  obtain ⟨xm, hxm⟩ : ∃ z : Int, ((↑u1 : Int) + (t % 18446744073709551616 / 4294967296)) - ((↑q0 : Int) * (↑v1 : Int)) = z := ⟨_, rfl⟩
  refine sw_top (topL (show (((↑u1) + (t % 18446744073709551616 / 4294967296)) - ((↑q0) * (↑v1)) : Int) = xm by exact hxm)) ?_
  refine sw_lload (n := 24) F 0 rfl dJ8_mulsub_22 rfl ?_
  refine sw_ldc2 (n := 27) F (4294967295) q1285 (by decide) dJ8_mulsub_24 rfl ?_
  refine sw_land (n := 28) F (jL (t % 4294967296)) (jL_and 32 (by decide) (by rfl)) dJ8_mulsub_27 rfl ?_
  obtain ⟨lo, hlo⟩ : ∃ z : Nat, (z : Int) = t % 4294967296 := ⟨(t % 4294967296).toNat, Int.toNat_of_nonneg (by omega)⟩
  refine sw_top (topL (show (t % 4294967296 : Int) = ↑lo by exact hlo.symm)) ?_
  refine sw_callS (n := 31) F (ct_J8_make64 (g := xg x) (l := xl x) xm lo (by first | omega | assumption)) q2779 q2780 q112 q2781 nd_J8_make64 rfl (by decide) [] rfl [] rfl 0 0 ⟨by first | decide | omega, by first | decide | omega⟩ [] rfl (Nat.le_of_ble_eq_true rfl) dJ8_mulsub_28 rfl (fun _ _ h => h.elim) (fun v Ws h => ?_)
  obtain ⟨rfl, rfl⟩ := h
  show SW x [] _ _ _ _ [.long (jL (xm * 4294967296 + ↑lo))]
  have hq9 := jL_mod (ms64 (u1 := ↑u1) (v1 := ↑v1) ht hlo)
  rw [hxm] at hq9
  exact sw_lret F rfl dJ8_mulsub_31 (by rw [hPo]; exact ⟨((↑u1 : Int) * 4294967296 + ↑u0) - (↑q0 : Int) * ((↑v1 : Int) * 4294967296 + ↑v0), (by rw [hq9]), (by rfl), rfl⟩)
theorem nd_J8_divRemNegativeLong : yJ8_divRemNegativeLong.cls ≠ "java/lang/invoke/MethodHandle" ∧ yJ8_divRemNegativeLong.cls ≠ "java/lang/invoke/VarHandle" ∧ (parseMethodDescriptor yJ8_divRemNegativeLong.desc).map (fun d => d.parameters.length) = some 2 := by decide +kernel
set_option maxRecDepth 100000 in
set_option maxHeartbeats 16000000 in
theorem ct_J8_divRemNegativeLong {g : GG} {l : Launch} (x_ : Nat) (d : Nat) (hx : 9223372036854775808 ≤ x_ ∧ x_ < 18446744073709551616) (hd : 2147483648 ≤ d ∧ d < 4294967296) : Ct g l yJ8_divRemNegativeLong (ws_ yJ8_divRemNegativeLong cJ8_divRemNegativeLong 8 (Option.some (Jvm.ClassFile.FieldType.array Jvm.ClassFile.FieldType.long))) 1 12 1 2 [.long (jL (↑x_)), .long (jL (↑d))] [] (fun v9 Ws9 => ∃ r1 : Nat, v9 = some (.ref r1) ∧ Ws9 = [aL g r1 2 (va_up (va_up (fun _ => 0) 0 ↑(x_ % d)) 1 ↑(x_ / d))]) (nox) := by
  refine Ct.of (cc := cJ8_divRemNegativeLong) (nL := 8) (ret := (Option.some (Jvm.ClassFile.FieldType.array Jvm.ClassFile.FieldType.long))) (by decide) rfl (Nat.le_of_ble_eq_true rfl) ?_
  intro x hg hl hPo hPx hmc hms F
  subst hg; subst hl
  refine SW.cast (L' := [(0, .long (jL (↑x_))), (2, .long (jL (↑d)))]) ?_ rfl rfl rfl
  have hda := hd.1
  obtain ⟨r0, hr0, h1_0, h2_0, h3_0⟩ := dw_0 hx.2 hda hd.2
  refine sw_gets (n := 3) F (kaBD F.gx.1).1 q1527 (Or.inl rfl) dJ8_divRemNegativeLong_0 rfl ?_
  refine sw_if_ne (n := 6) F (by decide) (tgt := 40) dJ8_divRemNegativeLong_3 (by decide) rfl (fun c_3 => ?_) (fun c_3 => ?_)
  ·
    refine sw_gets (n := 43) F (kaBD F.gx.1).1 q1527 (Or.inl rfl) dJ8_divRemNegativeLong_40 rfl ?_
    refine sw_if_ne (n := 46) F (by decide) (tgt := 63) dJ8_divRemNegativeLong_43 (by decide) rfl (fun c_43 => ?_) (fun c_43 => ?_)
    ·
      refine sw_lload_n (n := 64) F 0 rfl rfl dJ8_divRemNegativeLong_63 rfl ?_
      refine sw_iconst (n := 65) F (1) (by decide) dJ8_divRemNegativeLong_64 rfl ?_
      refine sw_lushr (n := 66) F (jL ((↑x_) / 2)) (by have h7s := jL_ushrPQ (z := ↑x_) (c := 1) (P := 2) (k := 1) (by omega) (by decide) (by decide) (by decide); exact h7s) dJ8_divRemNegativeLong_65 rfl ?_
      refine sw_lload_n (n := 67) F 1 rfl rfl dJ8_divRemNegativeLong_66 rfl ?_
      refine sw_iconst (n := 68) F (1) (by decide) dJ8_divRemNegativeLong_67 rfl ?_
      refine sw_lushr (n := 69) F (jL ((↑d) / 2)) (by have h7s := jL_ushrPQ (z := ↑d) (c := 1) (P := 2) (k := 1) (by omega) (by decide) (by decide) (by decide); exact h7s) dJ8_divRemNegativeLong_68 rfl ?_
      refine sw_ldivP (n := 70) F (by omega) (by omega) (by omega) dJ8_divRemNegativeLong_69 rfl ?_
      refine sw_top (topL (show (((↑x_) / 2) / ((↑d) / 2) : Int) = ↑(x_ / 2 / (d / 2)) by rw [Int.natCast_ediv, Int.natCast_ediv, Int.natCast_ediv] <;> rfl)) ?_
      refine sw_lstore (n := 72) F (L2 := [(4, .long (jL (↑(x_ / 2 / (d / 2))))), (0, .long (jL (↑x_))), (2, .long (jL (↑d)))]) rfl (by decide) dJ8_divRemNegativeLong_70 rfl ?_
      refine sw_lload_n (n := 73) F 1 rfl rfl dJ8_divRemNegativeLong_72 rfl ?_
      refine sw_lload (n := 75) F 0 rfl dJ8_divRemNegativeLong_73 rfl ?_
      refine sw_lload_n (n := 76) F 2 rfl rfl dJ8_divRemNegativeLong_75 rfl ?_
      refine sw_lmul (n := 77) F dJ8_divRemNegativeLong_76 rfl ?_
      refine sw_lsub (n := 78) F dJ8_divRemNegativeLong_77 rfl ?_
      refine sw_top (topL (show ((↑x_) - ((↑(x_ / 2 / (d / 2))) * (↑d)) : Int) = r0 by exact hr0)) ?_
      refine sw_lstore (n := 80) F (L2 := [(6, .long (jL r0)), (4, .long (jL (↑(x_ / 2 / (d / 2))))), (0, .long (jL (↑x_))), (2, .long (jL (↑d)))]) rfl (by decide) dJ8_divRemNegativeLong_78 rfl ?_
      have K80 : ∀ N80 : Nat, ∀ (qq : Int) (r : Int), ((x_ : Int) = qq * d + r) → (-1000000000000 ≤ r ∧ r < d) → (((d - r).toNat) < N80) → SW x [] 1 2 80 [(2, .long (jL (↑d))), (4, .long (jL qq)), (6, .long (jL r))] [] := by
        intro N80; induction N80 with
        | zero => intro qq r hxr hr hmu80; omega
        | succ N80 ih80 =>
          intro qq r hxr hr hmu80
          have hqr := dw_q hx.2 hda hxr (by omega)
          refine sw_lload (n := 82) F 2 rfl dJ8_divRemNegativeLong_80 rfl ?_
          refine sw_lconst (n := 83) F 0 (by decide) dJ8_divRemNegativeLong_82 rfl ?_
          refine sw_lcmp (n := 84) F (by omega) (by decide) dJ8_divRemNegativeLong_83 rfl ?_
          refine sw_if_ge (n := 87) F (lc_rng _ _) (tgt := 102) dJ8_divRemNegativeLong_84 (by decide) rfl (fun c_84 => ?_) (fun c_84 => ?_)
          ·
            have c_84 := lc_ge c_84
            have K102 : ∀ N102 : Nat, ∀ (qq : Int) (r : Int), ((x_ : Int) = qq * d + r) → (0 ≤ r ∧ r < d + d) → ((r.toNat) < N102) → SW x [] 1 2 102 [(2, .long (jL (↑d))), (4, .long (jL qq)), (6, .long (jL r))] [] := by
              intro N102; induction N102 with
              | zero => intro qq r hxr hr hmu102; omega
              | succ N102 ih102 =>
                intro qq r hxr hr hmu102
                have hqr := dw_q hx.2 hda hxr (by omega)
                refine sw_lload (n := 104) F 2 rfl dJ8_divRemNegativeLong_102 rfl ?_
                refine sw_lload_n (n := 105) F 0 rfl rfl dJ8_divRemNegativeLong_104 rfl ?_
                refine sw_lcmp (n := 106) F (by omega) (by omega) dJ8_divRemNegativeLong_105 rfl ?_
                refine sw_if_lt (n := 109) F (lc_rng _ _) (tgt := 124) dJ8_divRemNegativeLong_106 (by decide) rfl (fun c_106 => ?_) (fun c_106 => ?_)
                ·
                  have c_106 := lc_lt c_106
                  have hend := dw_end hxr (by omega) (by omega)
                  refine SW.cast (L' := [(2, .long (jL (↑d))), (4, .long (jL qq)), (6, .long (jL (↑(x_ % d))))]) ?_ rfl (by rw [show Value.long (jL r) = Value.long (jL (↑(x_ % d))) from topL (by exact hend.2)]) rfl
                  refine SW.cast (L' := [(2, .long (jL (↑d))), (4, .long (jL (↑(x_ / d)))), (6, .long (jL (↑(x_ % d))))]) ?_ rfl (by rw [show Value.long (jL qq) = Value.long (jL (↑(x_ / d))) from topL (by exact hend.1)]) rfl
                  refine sw_iconst (n := 125) F (2) (by decide) dJ8_divRemNegativeLong_124 rfl ?_
                  refine sw_newa (n := 127) F (.long) 3 rfl q2404 (fun _ => rfl) (2) (by first | omega | rfl) (by omega) 0 0 ⟨by first | decide | omega, by first | decide | omega⟩ dJ8_divRemNegativeLong_125 rfl (fun q_1 => ?_)
                  show SW x [aL (xg x) q_1 2 (fun _ => 0)] _ _ _ _ [.ref q_1]
                  refine sw_dup (n := 128) F rfl dJ8_divRemNegativeLong_127 rfl ?_
                  refine sw_iconst (n := 129) F (0) (by decide) dJ8_divRemNegativeLong_128 rfl ?_
                  refine sw_lload (n := 131) F 2 rfl dJ8_divRemNegativeLong_129 rfl ?_
                  refine sw_lastoreL (n := 132) F 0 rfl (fun _ => rfl) 0 rfl (by omega) [aL (xg x) q_1 2 (va_up (fun _ => 0) 0 (↑(x_ % d)))] (by rfl) dJ8_divRemNegativeLong_131 rfl ?_
                  refine sw_dup (n := 133) F rfl dJ8_divRemNegativeLong_132 rfl ?_
                  refine sw_iconst (n := 134) F (1) (by decide) dJ8_divRemNegativeLong_133 rfl ?_
                  refine sw_lload (n := 136) F 1 rfl dJ8_divRemNegativeLong_134 rfl ?_
                  refine sw_lastoreL (n := 137) F 0 rfl (fun _ => rfl) 1 rfl (by omega) [aL (xg x) q_1 2 (va_up (va_up (fun _ => 0) 0 (↑(x_ % d))) 1 (↑(x_ / d)))] (by rfl) dJ8_divRemNegativeLong_136 rfl ?_
                  exact sw_aret F (some q_1) _ rfl rfl (by first | exact Or.inl ⟨_, rfl⟩ | exact Or.inr ⟨_, rfl⟩) dJ8_divRemNegativeLong_137 (by rw [hPo]; exact ⟨q_1, rfl, (by rfl)⟩)
                ·
                  have c_106 := lc_ge c_106
                  refine sw_lload (n := 111) F 2 rfl dJ8_divRemNegativeLong_109 rfl ?_
                  refine sw_lload_n (n := 112) F 0 rfl rfl dJ8_divRemNegativeLong_111 rfl ?_
                  refine sw_lsub (n := 113) F dJ8_divRemNegativeLong_112 rfl ?_
                  refine sw_lstore (n := 115) F (L2 := [(6, .long (jL (r - (↑d)))), (2, .long (jL (↑d))), (4, .long (jL qq))]) rfl (by decide) dJ8_divRemNegativeLong_113 rfl ?_
                  refine sw_lload (n := 117) F 2 rfl dJ8_divRemNegativeLong_115 rfl ?_
                  refine sw_lconst (n := 118) F 1 (by decide) dJ8_divRemNegativeLong_117 rfl ?_
                  refine sw_ladd (n := 119) F dJ8_divRemNegativeLong_118 rfl ?_
                  refine sw_lstore (n := 121) F (L2 := [(4, .long (jL (qq + 1))), (6, .long (jL (r - (↑d)))), (2, .long (jL (↑d)))]) rfl (by decide) dJ8_divRemNegativeLong_119 rfl ?_
                  refine sw_goto F (n := 102) dJ8_divRemNegativeLong_121 (by decide) ?_
                  refine sw_loc [2, 0, 1] (L2 := [(2, .long (jL (↑d))), (4, .long (jL (qq + 1))), (6, .long (jL (r - (↑d))))]) rfl ?_
                  exact ih102 (qq + 1) (r - (↑d)) (by first | omega | exact (dw_p hxr).1 | exact (dw_p hxr).2 | assumption) (by omega) (by omega)
            exact K102 _ qq r (by first | omega | exact (dw_p hxr).1 | exact (dw_p hxr).2 | assumption) (by omega) (Nat.lt_succ_self _)
          ·
            have c_84 := lc_lt c_84
            refine sw_lload (n := 89) F 2 rfl dJ8_divRemNegativeLong_87 rfl ?_
            refine sw_lload_n (n := 90) F 0 rfl rfl dJ8_divRemNegativeLong_89 rfl ?_
            refine sw_ladd (n := 91) F dJ8_divRemNegativeLong_90 rfl ?_
            refine sw_lstore (n := 93) F (L2 := [(6, .long (jL (r + (↑d)))), (2, .long (jL (↑d))), (4, .long (jL qq))]) rfl (by decide) dJ8_divRemNegativeLong_91 rfl ?_
            refine sw_lload (n := 95) F 2 rfl dJ8_divRemNegativeLong_93 rfl ?_
            refine sw_lconst (n := 96) F 1 (by decide) dJ8_divRemNegativeLong_95 rfl ?_
            refine sw_lsub (n := 97) F dJ8_divRemNegativeLong_96 rfl ?_
            refine sw_lstore (n := 99) F (L2 := [(4, .long (jL (qq - 1))), (6, .long (jL (r + (↑d)))), (2, .long (jL (↑d)))]) rfl (by decide) dJ8_divRemNegativeLong_97 rfl ?_
            refine sw_goto F (n := 80) dJ8_divRemNegativeLong_99 (by decide) ?_
            refine sw_loc [2, 0, 1] (L2 := [(2, .long (jL (↑d))), (4, .long (jL (qq - 1))), (6, .long (jL (r + (↑d))))]) rfl ?_
            exact ih80 (qq - 1) (r + (↑d)) (by first | omega | exact (dw_p hxr).1 | exact (dw_p hxr).2 | assumption) (by omega) (by omega)
      refine sw_loc [3, 1, 0] (L2 := [(2, .long (jL (↑d))), (4, .long (jL (↑(x_ / 2 / (d / 2))))), (6, .long (jL r0))]) rfl ?_
      exact K80 _ (↑(x_ / 2 / (d / 2))) r0 (by first | omega | exact (dw_p hxr).1 | exact (dw_p hxr).2 | assumption) (by omega) (Nat.lt_succ_self _)
    · exfalso; exact absurd c_43 (by decide)
  · exfalso; exact absurd c_3 (by decide)
set_option maxRecDepth 100000 in
set_option maxHeartbeats 16000000 in
theorem ct_J8_divideAndRound128_n {g : GG} {l : Launch} (M : Nat → Option PV) (xx : Int) (dd : Int) (hi : Nat) (lo : Nat) (d : Nat) (sg : Int) (s : Int) (m : Int) (hX : xx.natAbs = hi * 18446744073709551616 + lo) (hdd : dd.natAbs = d) (hsg : (sg = 1 ∧ xrI xx dd = 0) ∨ (sg = -1 ∧ xrI xx dd = 1)) (hd : 1 ≤ d ∧ d ≤ 4611686018427387904) (hlo : lo < 18446744073709551616) (hhi : hi ≤ 9223372036854775807) (hm : 0 ≤ m ∧ m ≤ 7) (hs : -2147483648 ≤ s ∧ s ≤ 2147483647) (hge : d ≤ hi) : Ct g l yJ8_divideAndRound128 (ws_ yJ8_divideAndRound128 cJ8_divideAndRound128 34 (Option.some (Jvm.ClassFile.FieldType.object "java/math/BigDecimal"))) 1 12 0 0 [.long (jL (↑hi)), .long (jL (↑lo)), .long (jL (↑d)), .int (jI sg), .int (jI s), .int (jI m), .int (jI s)] [pl g M] (fun v9 Ws9 => v9 = some (.null) ∧ Ws9 = [pl g M]) (nox) := by
  refine Ct.of (cc := cJ8_divideAndRound128) (nL := 34) (ret := (Option.some (Jvm.ClassFile.FieldType.object "java/math/BigDecimal"))) (by decide) rfl (Nat.le_of_ble_eq_true rfl) ?_
  intro x hg hl hPo hPx hmc hms F
  subst hg; subst hl
  refine SW.cast (L' := [(0, .long (jL (↑hi))), (2, .long (jL (↑lo))), (4, .long (jL (↑d))), (6, .int (jI sg)), (7, .int (jI s)), (8, .int (jI m)), (9, .int (jI s))]) ?_ rfl rfl rfl
  refine sw_lload_n (n := 1) F 0 rfl rfl dJ8_divideAndRound128_0 rfl ?_
  refine sw_lload (n := 3) F 2 rfl dJ8_divideAndRound128_1 rfl ?_
  refine sw_lcmp (n := 4) F (by omega) (by omega) dJ8_divideAndRound128_3 rfl ?_
  refine sw_if_lt (n := 7) F (lc_rng _ _) (tgt := 9) dJ8_divideAndRound128_4 (by decide) rfl (fun c_4 => ?_) (fun c_4 => ?_)
  · exfalso; revert c_4; (repeat' split) <;> omega
  ·
    have c_4 := lc_ge c_4
    refine sw_null (n := 8) F dJ8_divideAndRound128_7 rfl ?_
    exact sw_aret F none _ rfl rfl (by first | exact Or.inl ⟨_, rfl⟩ | exact Or.inr ⟨_, rfl⟩) dJ8_divideAndRound128_8 (by rw [hPo]; exact ⟨rfl, rfl⟩)
theorem nd_J8_divideAndRound128 : yJ8_divideAndRound128.cls ≠ "java/lang/invoke/MethodHandle" ∧ yJ8_divideAndRound128.cls ≠ "java/lang/invoke/VarHandle" ∧ (parseMethodDescriptor yJ8_divideAndRound128.desc).map (fun d => d.parameters.length) = some 7 := by decide +kernel
set_option maxRecDepth 100000 in
set_option maxHeartbeats 16000000 in
theorem cl_J8_divideAndRound128_338 {g : GG} {x : EX} (M : Nat → Option PV) (xx : Int) (dd : Int) (hi : Nat) (lo : Nat) (d : Nat) (sg : Int) (s : Int) (m : Int) (X : Nat) (D : Nat) (sh : Nat) (dh : Nat) (dl : Nat) (T1 : Nat) (R1 : Nat) (w1 : Nat) (T0 : Nat) (u0 : Nat) (dI : Int) (Q : Nat) (hg : xg x = g) (hPo : xPo x = fun v9 Ws9 => ∃ M1 : Nat → Option PV, ∃ r1 : Nat, ∃ o1 : Option Nat, ∃ V : Int, v9 = some (.ref r1) ∧ (le_ M M1) ∧ (at_ g M1 r1 (vD V s o1)) ∧ (V = rdV xx dd m ∨ (rdV xx dd m = 9223372036854775808 ∧ V = -9223372036854775808)) ∧ (rdF xx dd m = false) ∧ Ws9 = [pl g M1]) (hPx : xPx x = fun E9 Ws9 => (E9 = "java/lang/ArithmeticException" ∧ (rdF xx dd m = true) ∧ Ws9 = [pl g M])) (F : Fx x yJ8_divideAndRound128 cJ8_divideAndRound128 (Option.some (Jvm.ClassFile.FieldType.object "java/math/BigDecimal")) 34 8 133 []) (hdd : dd.natAbs = d) (hsg : (sg = 1 ∧ xrI xx dd = 0) ∨ (sg = -1 ∧ xrI xx dd = 1)) (hd : 1 ≤ d ∧ d ≤ 4611686018427387904) (hm : 0 ≤ m ∧ m ≤ 7) (hs : -2147483648 ≤ s ∧ s ≤ 2147483647) (hX_ : X = xx.natAbs) (hDn : 9223372036854775808 ≤ D ∧ D < 18446744073709551616) (hD2 : D = dh * 4294967296 + dl) (hKF : ∀ {R1 T0 R0 Q Q0 : Nat}, T1 = Q * D + R1 → T0 = R1 * 4294967296 + u0 → T0 = Q0 * D + R0 → R0 < D → X / d = Q * 4294967296 + Q0 ∧ R0 = X % d * 2 ^ sh) (hDd : Unit → D / 2 ^ sh = d) (hu0b : u0 < 4294967296) (hdb : dl < 4294967296 ∧ 2147483648 ≤ dh ∧ dh < 4294967296) (hshb : sh ≤ 63) (hp2 : 0 < 2 ^ sh) (hdI : dI = ↑d) (hR1e : T1 = Q * D + R1) (hR1D : R1 < D) (hQB : Q < 4294967296) (hw1 : w1 = R1 % 4294967296) (hT0 : T0 = R1 * 4294967296 + u0) : ∀ (Q0 : Nat), (Q0 * D ≤ T0 ∧ T0 < (Q0 + 1) * D) → SW x [pl (xg x) M] 7 38 338 [(4, .long (jL (↑D))), (6, .int (jI sg)), (7, .int (jI s)), (8, .int (jI m)), (9, .int (jI s)), (10, .int (jI (↑sh))), (11, .long (jL (↑dh))), (13, .long (jL (↑dl))), (17, .long (jL (↑w1))), (19, .long (jL (↑u0))), (23, .long (jL (↑Q))), (27, .long (jL (↑Q0)))] [] := by
  subst hg
  intro Q0 hQ0
  obtain ⟨R0, hR0⟩ : ∃ z : Nat, z = T0 - Q0 * D := ⟨_, rfl⟩
  have hR0e : T0 = Q0 * D + R0 := by omega
  have hR0D : R0 < D := by have e9 := hQ0.2; rw [Nat.add_mul, Nat.one_mul] at e9; omega
  have hQ0B : Q0 < 4294967296 := by rcases Nat.lt_or_ge Q0 4294967296 with k | k; exact k; have e9 : 4294967296 * D ≤ Q0 * D := Nat.mul_le_mul_right _ k; omega
  have hRM : ∀ rr : Int, rr = (((w1 : Int) * 4294967296 + (u0 : Int)) - (Q0 : Int) * ((dh : Int) * 4294967296 + (dl : Int))) → rr % 18446744073709551616 = (R0 : Int) % 18446744073709551616 := fun rr h => by rw [h]; exact msub_R (msub_T hT0 hw1) hR0e (by rw [hD2, Int.natCast_add, Int.natCast_mul]; rfl)
  have hfn := hKF hR1e hT0 hR0e hR0D
  have hrm := Nat.mod_lt X (show 0 < d by omega)
  obtain ⟨r, hr⟩ : ∃ z : Nat, z = X % d := ⟨_, rfl⟩
  have hQQ : Unit → Q * 4294967296 + Q0 = xx.natAbs / dd.natAbs := fun _ => by rw [hdd, ← hX_]; exact hfn.1.symm
  have hrr : Unit → r = xx.natAbs % dd.natAbs := fun _ => by rw [hdd, ← hX_]; exact hr
  have hR0r : R0 = r * 2 ^ sh := by rw [hr]; exact hfn.2
  have hR0d : Unit → R0 / 2 ^ sh = r := fun _ => by rw [hR0r, Nat.mul_div_cancel _ hp2]
  have hR0b := Nat.lt_trans hR0D hDn.2
  have hrd : r < d := by rw [hr]; exact hrm
  try clear hfn; try clear hr; try clear hrm; try clear hR0r; try clear hR0; try clear hKF; try clear hQ; try clear hQ0; try clear hR1e; try clear hR0e; try clear hR1D; try clear hR0D; try clear hT0; try clear hT1; try clear hD2; try clear hdb; try clear hHD; try clear hH64; try clear hT1m; try clear hw1; try clear hHr; try clear hHq; try clear hwl; try clear hu0b; try clear hu1b; try clear hu2b; try clear hX_; try clear hdz
  refine sw_lload (n := 340) F 10 rfl dJ8_divideAndRound128_338 rfl ?_
  refine sw_l2i (n := 341) F dJ8_divideAndRound128_340 rfl ?_
  refine sw_top (topIm (show (↑Q : Int) % 4294967296 = (wI ↑(Q)) % 4294967296 by exact (wI_s _).2.2.symm)) ?_
  refine sw_if_ge (n := 344) F (by exact ⟨(wI_s _).1, (wI_s _).2.1⟩) (tgt := 490) dJ8_divideAndRound128_341 (by decide) rfl (fun c_341 => ?_) (fun c_341 => ?_)
  ·
    have hQ31 := wI_nn hQB c_341
    refine sw_lload (n := 492) F 10 rfl dJ8_divideAndRound128_490 rfl ?_
    refine sw_lload (n := 494) F 11 rfl dJ8_divideAndRound128_492 rfl ?_
    refine sw_callS (n := 497) F (ct_J8_make64 (g := xg x) (l := xl x) (↑Q) Q0 hQ0B) q2779 q2780 q112 q2781 nd_J8_make64 rfl (by decide) [0] rfl [pl (xg x) M] rfl 7 38 ⟨by first | decide | omega, by first | decide | omega⟩ [] rfl (Nat.le_of_ble_eq_true rfl) dJ8_divideAndRound128_494 rfl (fun _ _ h => h.elim) (fun v Ws h => ?_)
    obtain ⟨rfl, rfl⟩ := h
    show SW x [pl (xg x) M] _ _ _ _ [.long (jL ((↑Q) * 4294967296 + ↑Q0))]
    obtain ⟨QQ, hQQ9⟩ : ∃ z : Nat, z = Q * 4294967296 + Q0 := ⟨_, rfl⟩
    refine sw_top (topL (show ((↑Q) * 4294967296 + ↑Q0 : Int) = ↑QQ by omega)) ?_
    refine sw_lstore (n := 499) F (L2 := [(29, .long (jL (↑QQ))), (4, .long (jL (↑D))), (6, .int (jI sg)), (7, .int (jI s)), (8, .int (jI m)), (9, .int (jI s)), (10, .int (jI (↑sh))), (11, .long (jL (↑dh))), (13, .long (jL (↑dl))), (17, .long (jL (↑w1))), (19, .long (jL (↑u0))), (23, .long (jL (↑Q))), (27, .long (jL (↑Q0)))]) rfl (by decide) dJ8_divideAndRound128_497 rfl ?_
    refine sw_lload (n := 501) F 0 rfl dJ8_divideAndRound128_499 rfl ?_
    refine sw_iload (n := 503) F 2 rfl dJ8_divideAndRound128_501 rfl ?_
    refine sw_i2l (n := 504) F (by omega) dJ8_divideAndRound128_503 rfl ?_
    refine sw_lmul (n := 505) F dJ8_divideAndRound128_504 rfl ?_
    obtain ⟨zq, hzq⟩ : ∃ z : Int, (↑QQ : Int) * sg = z := ⟨_, rfl⟩
    refine sw_top (topL (show ((↑QQ) * sg : Int) = zq by exact hzq)) ?_
    have hzc : (sg = 1 ∧ zq = ↑QQ) ∨ (sg = -1 ∧ zq = -↑QQ) := by rcases hsg with ⟨e, _⟩ | ⟨e, _⟩ <;> rw [e] at hzq <;> omega
    have hsz : sg * ↑(Q * 4294967296 + Q0) = zq := by rw [← hzq, ← hQQ9, Int.mul_comm]
    refine sw_lstore (n := 507) F (L2 := [(29, .long (jL zq)), (4, .long (jL (↑D))), (6, .int (jI sg)), (7, .int (jI s)), (8, .int (jI m)), (9, .int (jI s)), (10, .int (jI (↑sh))), (11, .long (jL (↑dh))), (13, .long (jL (↑dl))), (17, .long (jL (↑w1))), (19, .long (jL (↑u0))), (23, .long (jL (↑Q))), (27, .long (jL (↑Q0)))]) rfl (by decide) dJ8_divideAndRound128_505 rfl ?_
    refine sw_iload (n := 509) F 4 rfl dJ8_divideAndRound128_507 rfl ?_
    refine sw_iconst (n := 510) F (1) (by decide) dJ8_divideAndRound128_509 rfl ?_
    refine sw_icmp_ne (n := 513) F (by omega) (by decide) (tgt := 528) dJ8_divideAndRound128_510 (by decide) rfl (fun c_510 => ?_) (fun c_510 => ?_)
    ·
      refine sw_lload (n := 530) F 9 rfl dJ8_divideAndRound128_528 rfl ?_
      refine sw_lload (n := 532) F 10 rfl dJ8_divideAndRound128_530 rfl ?_
      refine sw_lload (n := 534) F 7 rfl dJ8_divideAndRound128_532 rfl ?_
      refine sw_lload (n := 536) F 8 rfl dJ8_divideAndRound128_534 rfl ?_
      refine sw_lload (n := 538) F 12 rfl dJ8_divideAndRound128_536 rfl ?_
      refine sw_callS (n := 541) F (ct_J8_mulsub (g := xg x) (l := xl x) w1 u0 dh dl Q0 ) q2792 q2793 q112 q2794 nd_J8_mulsub rfl (by decide) [0] rfl [pl (xg x) M] rfl 7 38 ⟨by first | decide | omega, by first | decide | omega⟩ [] rfl (Nat.le_of_ble_eq_true rfl) dJ8_divideAndRound128_538 rfl (fun _ _ h => h.elim) (fun v Ws h => ?_)
      obtain ⟨rr_3, rfl, hms_4, rfl⟩ := h
      show SW x [pl (xg x) M] _ _ _ _ [.long (jL rr_3)]
      refine sw_top (topLm (show (rr_3 : Int) % 18446744073709551616 = (↑R0) % 18446744073709551616 by exact hRM _ hms_4)) ?_
      refine sw_iload (n := 543) F 6 rfl dJ8_divideAndRound128_541 rfl ?_
      refine sw_lushr (n := 544) F (jL ((↑R0) / ((2 ^ sh : Nat) : Int))) (by have h7s := jL_ushrP (z := ↑R0) (c := ↑sh) (k := sh) (by omega) (by omega) (by omega); exact h7s) dJ8_divideAndRound128_543 rfl ?_
      refine sw_top (topL (show ((↑R0) / ((2 ^ sh : Nat) : Int) : Int) = ↑r by rw [← Int.natCast_ediv, (hR0d ())])) ?_
      obtain ⟨rI, hrI⟩ : ∃ z : Int, z = ↑r := ⟨_, rfl⟩
      refine sw_top (topL (show (↑r : Int) = rI by exact hrI.symm)) ?_
      refine sw_lstore (n := 546) F (L2 := [(31, .long (jL rI)), (29, .long (jL zq)), (4, .long (jL (↑D))), (6, .int (jI sg)), (7, .int (jI s)), (8, .int (jI m)), (9, .int (jI s)), (10, .int (jI (↑sh))), (11, .long (jL (↑dh))), (13, .long (jL (↑dl))), (17, .long (jL (↑w1))), (19, .long (jL (↑u0))), (23, .long (jL (↑Q))), (27, .long (jL (↑Q0)))]) rfl (by decide) dJ8_divideAndRound128_544 rfl ?_
      refine sw_lload (n := 548) F 0 rfl dJ8_divideAndRound128_546 rfl ?_
      refine sw_lconst (n := 549) F 0 (by decide) dJ8_divideAndRound128_548 rfl ?_
      refine sw_lcmp (n := 550) F (by omega) (by decide) dJ8_divideAndRound128_549 rfl ?_
      refine sw_if_eq (n := 553) F (lc_rng _ _) (tgt := 593) dJ8_divideAndRound128_550 (by decide) rfl (fun c_550 => ?_) (fun c_550 => ?_)
      ·
        have c_550 := lc_eq c_550
        refine sw_iload (n := 595) F 6 rfl dJ8_divideAndRound128_593 rfl ?_
        refine sw_iload (n := 597) F 4 rfl dJ8_divideAndRound128_595 rfl ?_
        refine sw_icmp_eq (n := 600) F (by omega) (by omega) (tgt := 611) dJ8_divideAndRound128_597 (by decide) rfl (fun c_597 => ?_) (fun c_597 => ?_)
        ·
          have hfin : zq = rdV xx dd m := by rw [← hsz]; exact (rq_0 (hQQ ()) (by rw [← (hrr ())]; omega) hsg).1
          refine sw_lload (n := 613) F 1 rfl dJ8_divideAndRound128_611 rfl ?_
          refine sw_iload (n := 615) F 4 rfl dJ8_divideAndRound128_613 rfl ?_
          refine sw_callS (n := 618) F (ct_J8_valueOf_2 (g := xg x) (l := xl x) M zq s (by first | omega | assumption) hs) q1043 q1044 q112 q1045 nd_J8_valueOf_2 rfl (by decide) [0] rfl [] rfl 6 33 ⟨by first | decide | omega, by first | decide | omega⟩ [] rfl (Nat.le_of_ble_eq_true rfl) dJ8_divideAndRound128_615 rfl (fun _ _ h => h.elim) (fun v Ws h => ?_)
          obtain ⟨M1_5, r1_6, o1_7, rfl, hle_8, hat_9, rfl⟩ := h
          show SW x [pl (xg x) M1_5] _ _ _ _ [.ref r1_6]
          exact sw_aret F (some r1_6) _ rfl rfl (by first | exact Or.inl ⟨_, rfl⟩ | exact Or.inr ⟨_, rfl⟩) dJ8_divideAndRound128_618 (by rw [hPo]; exact ⟨M1_5, r1_6, o1_7, zq, rfl, hle_8, hat_9, (by first | (left; exact hfin) | exact hwz), (by exact (rq_0 (hQQ ()) (by rw [← (hrr ())]; omega) hsg).2), rfl⟩)
        · exfalso; omega
      ·
        have c_550 := lc_ne c_550
        refine sw_lload (n := 555) F 2 rfl dJ8_divideAndRound128_553 rfl ?_
        refine sw_iload (n := 557) F 7 rfl dJ8_divideAndRound128_555 rfl ?_
        refine sw_lushr (n := 558) F (jL ((↑D) / ((2 ^ sh : Nat) : Int))) (by have h7s := jL_ushrP (z := ↑D) (c := ↑sh) (k := sh) (by omega) (by omega) (by omega); exact h7s) dJ8_divideAndRound128_557 rfl ?_
        refine sw_top (topL (show ((↑D) / ((2 ^ sh : Nat) : Int) : Int) = dI by rw [← Int.natCast_ediv, (hDd ()), hdI])) ?_
        refine sw_iload (n := 560) F 5 rfl dJ8_divideAndRound128_558 rfl ?_
        refine sw_iload (n := 562) F 3 rfl dJ8_divideAndRound128_560 rfl ?_
        refine sw_lload (n := 564) F 1 rfl dJ8_divideAndRound128_562 rfl ?_
        refine sw_lload (n := 566) F 0 rfl dJ8_divideAndRound128_564 rfl ?_
        refine sw_callS (n := 569) F (ct_J8_needIncrement (g := xg x) (l := xl x) dI m sg zq rI (by first | omega | assumption) hm (by omega) (by first | omega | assumption) (by first | omega | assumption)) q1775 q1776 q112 q1777 nd_J8_needIncrement rfl (by decide) [0] rfl [pl (xg x) M] rfl 6 32 ⟨by first | decide | omega, by first | decide | omega⟩ [] rfl (Nat.le_of_ble_eq_true rfl) dJ8_divideAndRound128_566 rfl (fun E Ws h => ?_) (fun v Ws h => ?_)
        ·
          obtain ⟨rfl, h7_11, rfl⟩ := h
          show SX x [pl (xg x) M] _ _ _ _ _
          exact sx_out F (by rw [hPx]; exact ⟨rfl, (by rw [show m = 7 by assumption]; exact rq_7 (by rw [← (hrr ())]; omega)), rfl⟩)
        ·
          obtain ⟨rfl, h7_10, rfl⟩ := h
          show SW x [pl (xg x) M] _ _ _ _ [.int (jI (cnI m sg (cmpI (2 * rI.natAbs) dI.natAbs) (zq % 2)))]
          refine sw_top (topI (show (cnI m sg (cmpI (2 * rI.natAbs) dI.natAbs) (zq % 2) : Int) = cnI m sg (cmpI (2 * r) dd.natAbs) ↑((Q * 4294967296 + Q0) % 2) by rw [show rI.natAbs = r by omega, show dI.natAbs = dd.natAbs by omega, show zq % 2 = ↑((Q * 4294967296 + Q0) % 2) by omega])) ?_
          have hcn9 := cnI_01 (m := m) (sg := sg) (cf := cmpI (2 * r) dd.natAbs) (od := ↑((Q * 4294967296 + Q0) % 2)) (by omega)
          have hrq := rq_c (Q := Q * 4294967296 + Q0) (hQQ ()) (hrr ()) hm (by assumption) (by omega) hsg
          refine sw_istore (n := 571) F (L2 := [(33, .int (jI (cnI m sg (cmpI (2 * r) dd.natAbs) ↑((Q * 4294967296 + Q0) % 2)))), (31, .long (jL rI)), (29, .long (jL zq)), (4, .long (jL (↑D))), (6, .int (jI sg)), (7, .int (jI s)), (8, .int (jI m)), (9, .int (jI s)), (10, .int (jI (↑sh))), (11, .long (jL (↑dh))), (13, .long (jL (↑dl))), (17, .long (jL (↑w1))), (19, .long (jL (↑u0))), (23, .long (jL (↑Q))), (27, .long (jL (↑Q0)))]) rfl (by decide) dJ8_divideAndRound128_569 rfl ?_
          refine sw_iload (n := 573) F 0 rfl dJ8_divideAndRound128_571 rfl ?_
          refine sw_if_eq (n := 576) F (by omega) (tgt := 585) dJ8_divideAndRound128_573 (by decide) rfl (fun c_573 => ?_) (fun c_573 => ?_)
          ·
            have hfin : zq = rdV xx dd m := by rw [← hrq.2 (by omega), hsz]
            refine sw_lload (n := 587) F 2 rfl dJ8_divideAndRound128_585 rfl ?_
            refine sw_iload (n := 589) F 5 rfl dJ8_divideAndRound128_587 rfl ?_
            refine sw_callS (n := 592) F (ct_J8_valueOf_2 (g := xg x) (l := xl x) M zq s (by first | exact ⟨(wL_s _).1, (wL_s _).2.1⟩ | omega) hs) q1043 q1044 q112 q1045 nd_J8_valueOf_2 rfl (by decide) [0] rfl [] rfl 5 27 ⟨by first | decide | omega, by first | decide | omega⟩ [] rfl (Nat.le_of_ble_eq_true rfl) dJ8_divideAndRound128_589 rfl (fun _ _ h => h.elim) (fun v Ws h => ?_)
            obtain ⟨M1_12, r1_13, o1_14, rfl, hle_15, hat_16, rfl⟩ := h
            show SW x [pl (xg x) M1_12] _ _ _ _ [.ref r1_13]
            exact sw_aret F (some r1_13) _ rfl rfl (by first | exact Or.inl ⟨_, rfl⟩ | exact Or.inr ⟨_, rfl⟩) dJ8_divideAndRound128_592 (by rw [hPo]; exact ⟨M1_12, r1_13, o1_14, zq, rfl, hle_15, hat_16, (by first | (left; exact hfin) | exact hwz), (by exact rd_n hm (by assumption)), rfl⟩)
          ·
            have hfin : zq + sg = rdV xx dd m := by have e9 := hrq.1 (by omega); rw [show ((Q * 4294967296 + Q0 + 1 : Nat) : Int) = ((Q * 4294967296 + Q0 : Nat) : Int) + 1 from Int.natCast_add _ 1, Int.mul_add, Int.mul_one, hsz] at e9; exact e9
            refine sw_lload (n := 578) F 2 rfl dJ8_divideAndRound128_576 rfl ?_
            refine sw_iload (n := 580) F 4 rfl dJ8_divideAndRound128_578 rfl ?_
            refine sw_i2l (n := 581) F (by omega) dJ8_divideAndRound128_580 rfl ?_
            refine sw_ladd (n := 582) F dJ8_divideAndRound128_581 rfl ?_
            refine sw_goto F (n := 587) dJ8_divideAndRound128_582 (by decide) ?_
            refine sw_top (topLm (show (zq + sg : Int) % 18446744073709551616 = (wL (zq + sg)) % 18446744073709551616 by exact (wL_s _).2.2.symm)) ?_
            have hwz : wL (zq + sg) = rdV xx dd m ∨ (rdV xx dd m = 9223372036854775808 ∧ wL (zq + sg) = -9223372036854775808) := by rw [← hfin]; unfold wL; omega
            refine sw_iload (n := 589) F 5 rfl dJ8_divideAndRound128_587 rfl ?_
            refine sw_callS (n := 592) F (ct_J8_valueOf_2 (g := xg x) (l := xl x) M (wL (zq + sg)) s (by first | exact ⟨(wL_s _).1, (wL_s _).2.1⟩ | omega) hs) q1043 q1044 q112 q1045 nd_J8_valueOf_2 rfl (by decide) [0] rfl [] rfl 5 27 ⟨by first | decide | omega, by first | decide | omega⟩ [] rfl (Nat.le_of_ble_eq_true rfl) dJ8_divideAndRound128_589 rfl (fun _ _ h => h.elim) (fun v Ws h => ?_)
            obtain ⟨M1_17, r1_18, o1_19, rfl, hle_20, hat_21, rfl⟩ := h
            show SW x [pl (xg x) M1_17] _ _ _ _ [.ref r1_18]
            exact sw_aret F (some r1_18) _ rfl rfl (by first | exact Or.inl ⟨_, rfl⟩ | exact Or.inr ⟨_, rfl⟩) dJ8_divideAndRound128_592 (by rw [hPo]; exact ⟨M1_17, r1_18, o1_19, wL (zq + sg), rfl, hle_20, hat_21, (by first | (left; exact hfin) | exact hwz), (by exact rd_n hm (by assumption)), rfl⟩)
    ·
      refine sw_iload (n := 515) F 3 rfl dJ8_divideAndRound128_513 rfl ?_
      refine sw_iload (n := 517) F 5 rfl dJ8_divideAndRound128_515 rfl ?_
      refine sw_icmp_ne (n := 520) F (by omega) (by omega) (tgt := 528) dJ8_divideAndRound128_517 (by decide) rfl (fun c_517 => ?_) (fun c_517 => ?_)
      · exfalso; omega
      ·
        have hfin : zq = rdV xx dd m := by rw [← hsz, show m = 1 by omega]; exact (rq_1 (hQQ ()) hsg).1
        refine sw_lload (n := 522) F 0 rfl dJ8_divideAndRound128_520 rfl ?_
        refine sw_iload (n := 524) F 3 rfl dJ8_divideAndRound128_522 rfl ?_
        refine sw_callS (n := 527) F (ct_J8_valueOf_2 (g := xg x) (l := xl x) M zq s (by first | omega | assumption) hs) q1043 q1044 q112 q1045 nd_J8_valueOf_2 rfl (by decide) [0] rfl [] rfl 6 33 ⟨by first | decide | omega, by first | decide | omega⟩ [] rfl (Nat.le_of_ble_eq_true rfl) dJ8_divideAndRound128_524 rfl (fun _ _ h => h.elim) (fun v Ws h => ?_)
        obtain ⟨M1_22, r1_23, o1_24, rfl, hle_25, hat_26, rfl⟩ := h
        show SW x [pl (xg x) M1_22] _ _ _ _ [.ref r1_23]
        exact sw_aret F (some r1_23) _ rfl rfl (by first | exact Or.inl ⟨_, rfl⟩ | exact Or.inr ⟨_, rfl⟩) dJ8_divideAndRound128_527 (by rw [hPo]; exact ⟨M1_22, r1_23, o1_24, zq, rfl, hle_25, hat_26, (by first | (left; exact hfin) | exact hwz), (by rw [show m = 1 by omega]; exact (rq_1 (hQQ ()) hsg).2), rfl⟩)
  ·
    have hQ31 := wI_neg hQB c_341
    refine sw_new (n := 347) F (ci := 19) (N := 3) RJ35 TJ35 tyJ35 rfl q1830 q1831 q144 in_J35 tyJ35_ok (fs := [.null, .int (jI 0), .int (jI 0)]) rfl 6 35 ⟨by first | decide | omega, by first | decide | omega⟩ dJ8_divideAndRound128_344 rfl (fun q_27 => ?_)
    refine sw_dup (n := 348) F rfl dJ8_divideAndRound128_347 rfl ?_
    refine sw_iconst (n := 349) F (2) (by decide) dJ8_divideAndRound128_348 rfl ?_
    refine sw_newaN (n := 351) F (2) (by first | omega | rfl) (by omega) 5 33 ⟨by first | decide | omega, by first | decide | omega⟩ dJ8_divideAndRound128_349 rfl (fun q_28 => ?_)
    refine sw_dup (n := 352) F rfl dJ8_divideAndRound128_351 rfl ?_
    refine sw_iconst (n := 353) F (0) (by decide) dJ8_divideAndRound128_352 rfl ?_
    refine sw_lload (n := 355) F 10 rfl dJ8_divideAndRound128_353 rfl ?_
    refine sw_l2i (n := 356) F dJ8_divideAndRound128_355 rfl ?_
    refine sw_iastoreW (n := 357) F 0 rfl (fun _ => rfl) 0 rfl (by omega) Q (by first | omega | rfl) [aN (xg x) 0 q_28 2 (va_up (fun _ => 0) 0 Q), ob (xg x) q_27 19 [.null, .int (jI 0), .int (jI 0)], pl (xg x) M] (by rfl) dJ8_divideAndRound128_356 rfl ?_
    refine sw_dup (n := 358) F rfl dJ8_divideAndRound128_357 rfl ?_
    refine sw_iconst (n := 359) F (1) (by decide) dJ8_divideAndRound128_358 rfl ?_
    refine sw_lload (n := 361) F 11 rfl dJ8_divideAndRound128_359 rfl ?_
    refine sw_l2i (n := 362) F dJ8_divideAndRound128_361 rfl ?_
    refine sw_iastoreW (n := 363) F 0 rfl (fun _ => rfl) 1 rfl (by omega) Q0 (by first | omega | rfl) [aN (xg x) 0 q_28 2 (va_up (va_up (fun _ => 0) 0 Q) 1 Q0), ob (xg x) q_27 19 [.null, .int (jI 0), .int (jI 0)], pl (xg x) M] (by rfl) dJ8_divideAndRound128_362 rfl ?_
    refine sw_callI (n := 366) F (ct_J35_init_o (g := xg x) (l := xl x) q_27 q_28 2 (va_up (va_up (fun _ => 0) 0 Q) 1 Q0) ) q1832 q1833 q144 q1834 rfl nd_J35_init rfl (by decide) [1, 0, 2] rfl [pl (xg x) M] rfl 5 33 ⟨by first | decide | omega, by first | decide | omega⟩ [.ref q_27] rfl (Nat.le_of_ble_eq_true rfl) dJ8_divideAndRound128_363 rfl (fun _ _ h => h.elim) (fun v Ws h => ?_)
    obtain ⟨rfl, rfl⟩ := h
    show SW x [ob (xg x) q_27 19 [.ref q_28, .int (jI 2), .int (jI 0)], aN (xg x) 0 q_28 2 (va_up (va_up (fun _ => 0) 0 Q) 1 Q0), pl (xg x) M] _ _ _ _ [.ref q_27]
    have hfb : ∀ k, k < 2 → (va_up (va_up (fun _ => 0) 0 Q) 1 Q0) k < 4294967296 := up_lt (up_lt (fun _ _ => by decide) hQB) hQ0B
    have hf0 : (va_up (va_up (fun _ => 0) 0 Q) 1 Q0) 0 = Q := (vu_ne (by decide)).trans (vu_eq rfl)
    have hf1 : (va_up (va_up (fun _ => 0) 0 Q) 1 Q0) 1 = Q0 := vu_eq rfl
    have hfw : wOK 2 (fun j => (va_up (va_up (fun _ => 0) 0 Q) 1 Q0) (0 + j)) := ⟨fun k hk => by have h9 := hfb k hk; rw [← Nat.zero_add k] at h9; exact h9, fun _ => by show (va_up (va_up (fun _ => 0) 0 Q) 1 Q0) 0 ≠ 0; rw [hf0]; omega⟩
    have hfv : mw (va_up (va_up (fun _ => 0) 0 Q) 1 Q0) 0 2 = Q * 4294967296 + Q0 := by rw [mw_2, hf0]; show Q * 4294967296 + (va_up (va_up (fun _ => 0) 0 Q) 1 Q0) 1 = _; rw [hf1]
    have hsg2 : sg = 1 ∨ sg = -1 := by omega
    refine sw_astore (n := 368) F (some q_27) (L2 := [(29, .ref q_27), (4, .long (jL (↑D))), (6, .int (jI sg)), (7, .int (jI s)), (8, .int (jI m)), (9, .int (jI s)), (10, .int (jI (↑sh))), (11, .long (jL (↑dh))), (13, .long (jL (↑dl))), (17, .long (jL (↑w1))), (19, .long (jL (↑u0))), (23, .long (jL (↑Q))), (27, .long (jL (↑Q0)))]) rfl rfl (by decide) dJ8_divideAndRound128_366 rfl ?_
    refine sw_iload (n := 370) F 4 rfl dJ8_divideAndRound128_368 rfl ?_
    refine sw_iconst (n := 371) F (1) (by decide) dJ8_divideAndRound128_370 rfl ?_
    refine sw_icmp_ne (n := 374) F (by omega) (by decide) (tgt := 391) dJ8_divideAndRound128_371 (by decide) rfl (fun c_371 => ?_) (fun c_371 => ?_)
    ·
      refine sw_lload (n := 393) F 9 rfl dJ8_divideAndRound128_391 rfl ?_
      refine sw_lload (n := 395) F 10 rfl dJ8_divideAndRound128_393 rfl ?_
      refine sw_lload (n := 397) F 7 rfl dJ8_divideAndRound128_395 rfl ?_
      refine sw_lload (n := 399) F 8 rfl dJ8_divideAndRound128_397 rfl ?_
      refine sw_lload (n := 401) F 12 rfl dJ8_divideAndRound128_399 rfl ?_
      refine sw_callS (n := 404) F (ct_J8_mulsub (g := xg x) (l := xl x) w1 u0 dh dl Q0 ) q2792 q2793 q112 q2794 nd_J8_mulsub rfl (by decide) [0, 1, 2] rfl [ob (xg x) q_27 19 [.ref q_28, .int (jI 2), .int (jI 0)], aN (xg x) 0 q_28 2 (va_up (va_up (fun _ => 0) 0 Q) 1 Q0), pl (xg x) M] rfl 5 33 ⟨by first | decide | omega, by first | decide | omega⟩ [] rfl (Nat.le_of_ble_eq_true rfl) dJ8_divideAndRound128_401 rfl (fun _ _ h => h.elim) (fun v Ws h => ?_)
      obtain ⟨rr_29, rfl, hms_30, rfl⟩ := h
      show SW x [ob (xg x) q_27 19 [.ref q_28, .int (jI 2), .int (jI 0)], aN (xg x) 0 q_28 2 (va_up (va_up (fun _ => 0) 0 Q) 1 Q0), pl (xg x) M] _ _ _ _ [.long (jL rr_29)]
      refine sw_top (topLm (show (rr_29 : Int) % 18446744073709551616 = (↑R0) % 18446744073709551616 by exact hRM _ hms_30)) ?_
      refine sw_iload (n := 406) F 6 rfl dJ8_divideAndRound128_404 rfl ?_
      refine sw_lushr (n := 407) F (jL ((↑R0) / ((2 ^ sh : Nat) : Int))) (by have h7s := jL_ushrP (z := ↑R0) (c := ↑sh) (k := sh) (by omega) (by omega) (by omega); exact h7s) dJ8_divideAndRound128_406 rfl ?_
      refine sw_top (topL (show ((↑R0) / ((2 ^ sh : Nat) : Int) : Int) = ↑r by rw [← Int.natCast_ediv, (hR0d ())])) ?_
      refine sw_lstore (n := 409) F (L2 := [(30, .long (jL (↑r))), (29, .ref q_27), (4, .long (jL (↑D))), (6, .int (jI sg)), (7, .int (jI s)), (8, .int (jI m)), (9, .int (jI s)), (10, .int (jI (↑sh))), (11, .long (jL (↑dh))), (13, .long (jL (↑dl))), (17, .long (jL (↑w1))), (19, .long (jL (↑u0))), (23, .long (jL (↑Q))), (27, .long (jL (↑Q0)))]) rfl (by decide) dJ8_divideAndRound128_407 rfl ?_
      refine sw_lload (n := 411) F 0 rfl dJ8_divideAndRound128_409 rfl ?_
      refine sw_lconst (n := 412) F 0 (by decide) dJ8_divideAndRound128_411 rfl ?_
      refine sw_lcmp (n := 413) F (by omega) (by decide) dJ8_divideAndRound128_412 rfl ?_
      refine sw_if_eq (n := 416) F (lc_rng _ _) (tgt := 453) dJ8_divideAndRound128_413 (by decide) rfl (fun c_413 => ?_) (fun c_413 => ?_)
      ·
        have c_413 := lc_eq c_413
        refine sw_iload (n := 455) F 6 rfl dJ8_divideAndRound128_453 rfl ?_
        refine sw_iload (n := 457) F 4 rfl dJ8_divideAndRound128_455 rfl ?_
        refine sw_icmp_eq (n := 460) F (by omega) (by omega) (tgt := 480) dJ8_divideAndRound128_457 (by decide) rfl (fun c_457 => ?_) (fun c_457 => ?_)
        ·
          have hfin : sg * ↑(mw (va_up (va_up (fun _ => 0) 0 Q) 1 Q0) 0 2) = rdV xx dd m := by rw [hfv]; exact (rq_0 (hQQ ()) (by rw [← (hrr ())]; omega) hsg).1
          refine sw_aload (n := 482) F 1 (some q_27) rfl rfl dJ8_divideAndRound128_480 rfl ?_
          refine sw_iload (n := 484) F 3 rfl dJ8_divideAndRound128_482 rfl ?_
          refine sw_iload (n := 486) F 4 rfl dJ8_divideAndRound128_484 rfl ?_
          refine sw_callV (n := 489) F (ct_J35_toBigDecimal (g := xg x) (l := xl x) M q_27 q_28 2 (va_up (va_up (fun _ => 0) 0 Q) 1 Q0) 2 0 sg s (by first | omega | assumption) hfb (by first | omega | assumption) hfw (by exact hsg2) hs) (rcv_ob F 0 rfl rfl) q2668 q2669 q2670 q144 q2671 nd_J35_toBigDecimal rfl (by decide) [0, 1, 2] rfl [] rfl 2 14 ⟨by first | decide | omega, by first | decide | omega⟩ [] rfl (Nat.le_of_ble_eq_true rfl) dJ8_divideAndRound128_486 rfl (fun _ _ h => h.elim) (fun v Ws h => ?_)
          obtain ⟨M1_31, r1_32, o1_33, rfl, hle_34, hat_35, rfl⟩ := h
          show SW x [pl (xg x) M1_31] _ _ _ _ [.ref r1_32]
          exact sw_aret F (some r1_32) _ rfl rfl (by first | exact Or.inl ⟨_, rfl⟩ | exact Or.inr ⟨_, rfl⟩) dJ8_divideAndRound128_489 (by rw [hPo]; exact ⟨M1_31, r1_32, o1_33, sg * ↑(mw (va_up (va_up (fun _ => 0) 0 Q) 1 Q0) 0 2), rfl, hle_34, hat_35, (by first | (left; exact hfin) | exact hwz), (by exact (rq_0 (hQQ ()) (by rw [← (hrr ())]; omega) hsg).2), rfl⟩)
        · exfalso; omega
      ·
        have c_413 := lc_ne c_413
        refine sw_lload (n := 418) F 2 rfl dJ8_divideAndRound128_416 rfl ?_
        refine sw_iload (n := 420) F 7 rfl dJ8_divideAndRound128_418 rfl ?_
        refine sw_lushr (n := 421) F (jL ((↑D) / ((2 ^ sh : Nat) : Int))) (by have h7s := jL_ushrP (z := ↑D) (c := ↑sh) (k := sh) (by omega) (by omega) (by omega); exact h7s) dJ8_divideAndRound128_420 rfl ?_
        refine sw_top (topL (show ((↑D) / ((2 ^ sh : Nat) : Int) : Int) = dI by rw [← Int.natCast_ediv, (hDd ()), hdI])) ?_
        refine sw_iload (n := 423) F 5 rfl dJ8_divideAndRound128_421 rfl ?_
        refine sw_iload (n := 425) F 3 rfl dJ8_divideAndRound128_423 rfl ?_
        refine sw_aload (n := 427) F 1 (some q_27) rfl rfl dJ8_divideAndRound128_425 rfl ?_
        refine sw_lload (n := 429) F 0 rfl dJ8_divideAndRound128_427 rfl ?_
        refine sw_callS (n := 432) F (ct_J8_needIncrement_2 (g := xg x) (l := xl x) dI m sg q_27 q_28 2 (va_up (va_up (fun _ => 0) 0 Q) 1 Q0) 2 0 r (by first | omega | assumption) hm (by omega) (by first | omega | assumption) hfb (by first | omega | assumption)) q1923 q1924 q112 q1925 nd_J8_needIncrement_2 rfl (by decide) [0, 1, 2] rfl [pl (xg x) M] rfl 4 27 ⟨by first | decide | omega, by first | decide | omega⟩ [] rfl (Nat.le_of_ble_eq_true rfl) dJ8_divideAndRound128_429 rfl (fun E Ws h => ?_) (fun v Ws h => ?_)
        ·
          obtain ⟨rfl, h7_37, rfl⟩ := h
          refine sx_drop [2, 0, 1] 1 rfl [pl (xg x) M] rfl ?_
          show SX x [pl (xg x) M] _ _ _ _ _
          exact sx_out F (by rw [hPx]; exact ⟨rfl, (by rw [show m = 7 by assumption]; exact rq_7 (by rw [← (hrr ())]; omega)), rfl⟩)
        ·
          obtain ⟨rfl, h7_36, rfl⟩ := h
          show SW x [ob (xg x) q_27 19 [.ref q_28, .int (jI 2), .int (jI 0)], aN (xg x) 0 q_28 2 (va_up (va_up (fun _ => 0) 0 Q) 1 Q0), pl (xg x) M] _ _ _ _ [.int (jI (cnI m sg (cmpI (2 * r) dI.natAbs) ↑(mw (va_up (va_up (fun _ => 0) 0 Q) 1 Q0) 0 2 % 2)))]
          refine sw_top (topI (show (cnI m sg (cmpI (2 * r) dI.natAbs) ↑(mw (va_up (va_up (fun _ => 0) 0 Q) 1 Q0) 0 2 % 2) : Int) = cnI m sg (cmpI (2 * r) dd.natAbs) ↑((Q * 4294967296 + Q0) % 2) by rw [show dI.natAbs = dd.natAbs by omega, hfv])) ?_
          have hcn9 := cnI_01 (m := m) (sg := sg) (cf := cmpI (2 * r) dd.natAbs) (od := ↑((Q * 4294967296 + Q0) % 2)) (by omega)
          have hrq := rq_c (Q := Q * 4294967296 + Q0) (hQQ ()) (hrr ()) hm (by assumption) (by omega) hsg
          refine sw_if_eq (n := 435) F (by omega) (tgt := 443) dJ8_divideAndRound128_432 (by decide) rfl (fun c_432 => ?_) (fun c_432 => ?_)
          ·
            have hfin : sg * ↑(mw (va_up (va_up (fun _ => 0) 0 Q) 1 Q0) 0 2) = rdV xx dd m := by rw [hfv]; exact hrq.2 (by omega)
            refine sw_aload (n := 445) F 1 (some q_27) rfl rfl dJ8_divideAndRound128_443 rfl ?_
            refine sw_iload (n := 447) F 3 rfl dJ8_divideAndRound128_445 rfl ?_
            refine sw_iload (n := 449) F 4 rfl dJ8_divideAndRound128_447 rfl ?_
            refine sw_callV (n := 452) F (ct_J35_toBigDecimal (g := xg x) (l := xl x) M q_27 q_28 2 (va_up (va_up (fun _ => 0) 0 Q) 1 Q0) 2 0 sg s (by first | omega | assumption) hfb (by first | omega | assumption) hfw (by exact hsg2) hs) (rcv_ob F 0 rfl rfl) q2668 q2669 q2670 q144 q2671 nd_J35_toBigDecimal rfl (by decide) [0, 1, 2] rfl [] rfl 1 8 ⟨by first | decide | omega, by first | decide | omega⟩ [] rfl (Nat.le_of_ble_eq_true rfl) dJ8_divideAndRound128_449 rfl (fun _ _ h => h.elim) (fun v Ws h => ?_)
            obtain ⟨M1_38, r1_39, o1_40, rfl, hle_41, hat_42, rfl⟩ := h
            show SW x [pl (xg x) M1_38] _ _ _ _ [.ref r1_39]
            exact sw_aret F (some r1_39) _ rfl rfl (by first | exact Or.inl ⟨_, rfl⟩ | exact Or.inr ⟨_, rfl⟩) dJ8_divideAndRound128_452 (by rw [hPo]; exact ⟨M1_38, r1_39, o1_40, sg * ↑(mw (va_up (va_up (fun _ => 0) 0 Q) 1 Q0) 0 2), rfl, hle_41, hat_42, (by first | (left; exact hfin) | exact hwz), (by exact rd_n hm (by assumption)), rfl⟩)
          ·
            refine sw_aload (n := 437) F 1 (some q_27) rfl rfl dJ8_divideAndRound128_435 rfl ?_
            refine sw_gets (n := 440) F (kONE F.gx.1).1 q1934 (Or.inl rfl) dJ8_divideAndRound128_437 rfl ?_
            refine sw_callV (n := 443) F (ct_J35_add (g := xg x) (l := xl x) q_27 q_28 2 (va_up (va_up (fun _ => 0) 0 Q) 1 Q0) 2 0 (tR (xg x) sONE) (by rfl) (by first | omega | assumption) hfb hfw) (rcv_ob F 0 rfl rfl) q1936 q1937 q1938 q144 q1939 nd_J35_add rfl (by decide) [0, 1, 2] rfl [pl (xg x) M] rfl 3 19 ⟨by first | decide | omega, by first | decide | omega⟩ [] rfl (Nat.le_of_ble_eq_true rfl) dJ8_divideAndRound128_440 rfl (fun _ _ h => h.elim) (fun v Ws h => ?_)
            obtain ⟨a1_43, N1_44, f1_45, n1_46, o1_47, rfl, hN1_48, hf1_49, hw1_50, hv1_51, rfl⟩ := h
            show SW x [ob (xg x) q_27 19 [.ref a1_43, .int (jI (↑n1_46)), .int (jI (↑o1_47))], aN (xg x) 0 a1_43 N1_44 f1_45, pl (xg x) M] _ _ _ _ []
            have hfin : sg * ↑(mw f1_45 o1_47 n1_46) = rdV xx dd m := by rw [hv1_51, hfv]; exact hrq.1 (by omega)
            refine sw_aload (n := 445) F 1 (some q_27) rfl rfl dJ8_divideAndRound128_443 rfl ?_
            refine sw_iload (n := 447) F 3 rfl dJ8_divideAndRound128_445 rfl ?_
            refine sw_iload (n := 449) F 4 rfl dJ8_divideAndRound128_447 rfl ?_
            refine sw_callV (n := 452) F (ct_J35_toBigDecimal (g := xg x) (l := xl x) M q_27 a1_43 N1_44 f1_45 n1_46 o1_47 sg s (by first | omega | assumption) hf1_49 (by first | omega | assumption) hw1_50 (by exact hsg2) hs) (rcv_ob F 0 rfl rfl) q2668 q2669 q2670 q144 q2671 nd_J35_toBigDecimal rfl (by decide) [0, 1, 2] rfl [] rfl 0 0 ⟨by first | decide | omega, by first | decide | omega⟩ [] rfl (Nat.le_of_ble_eq_true rfl) dJ8_divideAndRound128_449 rfl (fun _ _ h => h.elim) (fun v Ws h => ?_)
            obtain ⟨M1_52, r1_53, o1_54, rfl, hle_55, hat_56, rfl⟩ := h
            show SW x [pl (xg x) M1_52] _ _ _ _ [.ref r1_53]
            exact sw_aret F (some r1_53) _ rfl rfl (by first | exact Or.inl ⟨_, rfl⟩ | exact Or.inr ⟨_, rfl⟩) dJ8_divideAndRound128_452 (by rw [hPo]; exact ⟨M1_52, r1_53, o1_54, sg * ↑(mw f1_45 o1_47 n1_46), rfl, hle_55, hat_56, (by first | (left; exact hfin) | exact hwz), (by exact rd_n hm (by assumption)), rfl⟩)
    ·
      refine sw_iload (n := 376) F 3 rfl dJ8_divideAndRound128_374 rfl ?_
      refine sw_iload (n := 378) F 5 rfl dJ8_divideAndRound128_376 rfl ?_
      refine sw_icmp_ne (n := 381) F (by omega) (by omega) (tgt := 391) dJ8_divideAndRound128_378 (by decide) rfl (fun c_378 => ?_) (fun c_378 => ?_)
      · exfalso; omega
      ·
        have hfin : sg * ↑(mw (va_up (va_up (fun _ => 0) 0 Q) 1 Q0) 0 2) = rdV xx dd m := by rw [hfv, show m = 1 by omega]; exact (rq_1 (hQQ ()) hsg).1
        refine sw_aload (n := 383) F 0 (some q_27) rfl rfl dJ8_divideAndRound128_381 rfl ?_
        refine sw_iload (n := 385) F 2 rfl dJ8_divideAndRound128_383 rfl ?_
        refine sw_iload (n := 387) F 3 rfl dJ8_divideAndRound128_385 rfl ?_
        refine sw_callV (n := 390) F (ct_J35_toBigDecimal (g := xg x) (l := xl x) M q_27 q_28 2 (va_up (va_up (fun _ => 0) 0 Q) 1 Q0) 2 0 sg s (by first | omega | assumption) hfb (by first | omega | assumption) hfw (by exact hsg2) hs) (rcv_ob F 0 rfl rfl) q2668 q2669 q2670 q144 q2671 nd_J35_toBigDecimal rfl (by decide) [0, 1, 2] rfl [] rfl 2 14 ⟨by first | decide | omega, by first | decide | omega⟩ [] rfl (Nat.le_of_ble_eq_true rfl) dJ8_divideAndRound128_387 rfl (fun _ _ h => h.elim) (fun v Ws h => ?_)
        obtain ⟨M1_57, r1_58, o1_59, rfl, hle_60, hat_61, rfl⟩ := h
        show SW x [pl (xg x) M1_57] _ _ _ _ [.ref r1_58]
        exact sw_aret F (some r1_58) _ rfl rfl (by first | exact Or.inl ⟨_, rfl⟩ | exact Or.inr ⟨_, rfl⟩) dJ8_divideAndRound128_390 (by rw [hPo]; exact ⟨M1_57, r1_58, o1_59, sg * ↑(mw (va_up (va_up (fun _ => 0) 0 Q) 1 Q0) 0 2), rfl, hle_60, hat_61, (by first | (left; exact hfin) | exact hwz), (by rw [show m = 1 by omega]; exact (rq_1 (hQQ ()) hsg).2), rfl⟩)
set_option maxRecDepth 100000 in
set_option maxHeartbeats 16000000 in
theorem cl_J8_divideAndRound128_198 {g : GG} {x : EX} (M : Nat → Option PV) (xx : Int) (dd : Int) (hi : Nat) (lo : Nat) (d : Nat) (sg : Int) (s : Int) (m : Int) (X : Nat) (D : Nat) (sh : Nat) (dh : Nat) (dl : Nat) (T1 : Nat) (u0 : Nat) (u1 : Nat) (u2 : Nat) (H : Nat) (dI : Int) (hg : xg x = g) (hPo : xPo x = fun v9 Ws9 => ∃ M1 : Nat → Option PV, ∃ r1 : Nat, ∃ o1 : Option Nat, ∃ V : Int, v9 = some (.ref r1) ∧ (le_ M M1) ∧ (at_ g M1 r1 (vD V s o1)) ∧ (V = rdV xx dd m ∨ (rdV xx dd m = 9223372036854775808 ∧ V = -9223372036854775808)) ∧ (rdF xx dd m = false) ∧ Ws9 = [pl g M1]) (hPx : xPx x = fun E9 Ws9 => (E9 = "java/lang/ArithmeticException" ∧ (rdF xx dd m = true) ∧ Ws9 = [pl g M])) (F : Fx x yJ8_divideAndRound128 cJ8_divideAndRound128 (Option.some (Jvm.ClassFile.FieldType.object "java/math/BigDecimal")) 34 8 133 []) (hdd : dd.natAbs = d) (hsg : (sg = 1 ∧ xrI xx dd = 0) ∨ (sg = -1 ∧ xrI xx dd = 1)) (hd : 1 ≤ d ∧ d ≤ 4611686018427387904) (hm : 0 ≤ m ∧ m ≤ 7) (hs : -2147483648 ≤ s ∧ s ≤ 2147483647) (hX_ : X = xx.natAbs) (hDn : 9223372036854775808 ≤ D ∧ D < 18446744073709551616) (hD2 : D = dh * 4294967296 + dl) (hKF : ∀ {R1 T0 R0 Q Q0 : Nat}, T1 = Q * D + R1 → T0 = R1 * 4294967296 + u0 → T0 = Q0 * D + R0 → R0 < D → X / d = Q * 4294967296 + Q0 ∧ R0 = X % d * 2 ^ sh) (hDd : Unit → D / 2 ^ sh = d) (hu0b : u0 < 4294967296) (hdb : dl < 4294967296 ∧ 2147483648 ≤ dh ∧ dh < 4294967296) (hshb : sh ≤ 63) (hp2 : 0 < 2 ^ sh) (hdI : dI = ↑d) (hHD : H < D) (hT1 : T1 = H * 4294967296 + u1) (hT1m : ∃ k : Nat, (T1 : Int) = ((u2 : Int) * 4294967296 + (u1 : Int)) + 18446744073709551616 * (k : Int)) (hu1b : u1 < 4294967296) : ∀ (Q : Nat), (Q * D ≤ T1 ∧ T1 < (Q + 1) * D) → SW x [pl (xg x) M] 8 40 198 [(4, .long (jL (↑D))), (6, .int (jI sg)), (7, .int (jI s)), (8, .int (jI m)), (9, .int (jI s)), (10, .int (jI (↑sh))), (11, .long (jL (↑dh))), (13, .long (jL (↑dl))), (17, .long (jL (↑u1))), (19, .long (jL (↑u0))), (21, .long (jL (↑u2))), (23, .long (jL (↑Q)))] [] := by
  subst hg
  intro Q hQ
  obtain ⟨R1, hR1⟩ : ∃ z : Nat, z = T1 - Q * D := ⟨_, rfl⟩
  have hR1e : T1 = Q * D + R1 := by omega
  have hR1D : R1 < D := by have e9 := hQ.2; rw [Nat.add_mul, Nat.one_mul] at e9; omega
  have hQB : Q < 4294967296 := by rcases Nat.lt_or_ge Q 4294967296 with k | k; exact k; have e9 : 4294967296 * D ≤ Q * D := Nat.mul_le_mul_right _ k; omega
  try clear hT1; try clear hHD; try clear hH64; try clear hHr; try clear hHq; try clear hwl; try clear hu1b; try clear hu2b
  refine sw_lload (n := 200) F 10 rfl dJ8_divideAndRound128_198 rfl ?_
  refine sw_lload (n := 202) F 8 rfl dJ8_divideAndRound128_200 rfl ?_
  refine sw_lload (n := 204) F 6 rfl dJ8_divideAndRound128_202 rfl ?_
  refine sw_lload (n := 206) F 7 rfl dJ8_divideAndRound128_204 rfl ?_
  refine sw_lload (n := 208) F 11 rfl dJ8_divideAndRound128_206 rfl ?_
  refine sw_callS (n := 211) F (ct_J8_mulsub (g := xg x) (l := xl x) u2 u1 dh dl Q ) q2792 q2793 q112 q2794 nd_J8_mulsub rfl (by decide) [0] rfl [pl (xg x) M] rfl 8 40 ⟨by first | decide | omega, by first | decide | omega⟩ [] rfl (Nat.le_of_ble_eq_true rfl) dJ8_divideAndRound128_208 rfl (fun _ _ h => h.elim) (fun v Ws h => ?_)
  obtain ⟨rr_1, rfl, hms_2, rfl⟩ := h
  show SW x [pl (xg x) M] _ _ _ _ [.long (jL rr_1)]
  refine sw_top (topLm (show (rr_1 : Int) % 18446744073709551616 = (↑R1) % 18446744073709551616 by rw [hms_2]; exact msub_R hT1m hR1e (by rw [hD2, Int.natCast_add, Int.natCast_mul]; rfl))) ?_
  refine sw_lstore (n := 213) F (L2 := [(15, .long (jL (↑R1))), (4, .long (jL (↑D))), (6, .int (jI sg)), (7, .int (jI s)), (8, .int (jI m)), (9, .int (jI s)), (10, .int (jI (↑sh))), (11, .long (jL (↑dh))), (13, .long (jL (↑dl))), (17, .long (jL (↑u1))), (19, .long (jL (↑u0))), (21, .long (jL (↑u2))), (23, .long (jL (↑Q)))]) rfl (by decide) dJ8_divideAndRound128_211 rfl ?_
  refine sw_lload (n := 215) F 0 rfl dJ8_divideAndRound128_213 rfl ?_
  refine sw_ldc2 (n := 218) F (4294967295) q1285 (by decide) dJ8_divideAndRound128_215 rfl ?_
  refine sw_land (n := 219) F (jL ((↑R1) % 4294967296)) (jL_and 32 (by decide) (by rfl)) dJ8_divideAndRound128_218 rfl ?_
  obtain ⟨w1, hw1⟩ : ∃ z : Nat, z = R1 % 4294967296 := ⟨_, rfl⟩
  refine sw_top (topL (show ((↑R1) % 4294967296 : Int) = ↑w1 by omega)) ?_
  obtain ⟨T0, hT0⟩ : ∃ z : Nat, z = R1 * 4294967296 + u0 := ⟨_, rfl⟩
  refine sw_lstore (n := 221) F (L2 := [(17, .long (jL (↑w1))), (15, .long (jL (↑R1))), (4, .long (jL (↑D))), (6, .int (jI sg)), (7, .int (jI s)), (8, .int (jI m)), (9, .int (jI s)), (10, .int (jI (↑sh))), (11, .long (jL (↑dh))), (13, .long (jL (↑dl))), (19, .long (jL (↑u0))), (21, .long (jL (↑u2))), (23, .long (jL (↑Q)))]) rfl (by decide) dJ8_divideAndRound128_219 rfl ?_
  refine sw_lload (n := 223) F 8 rfl dJ8_divideAndRound128_221 rfl ?_
  refine sw_lconst (n := 224) F 1 (by decide) dJ8_divideAndRound128_223 rfl ?_
  refine sw_lcmp (n := 225) F (by omega) (by decide) dJ8_divideAndRound128_224 rfl ?_
  refine sw_if_ne (n := 228) F (lc_rng _ _) (tgt := 238) dJ8_divideAndRound128_225 (by decide) rfl (fun c_225 => ?_) (fun c_225 => ?_)
  ·
    have c_225 := lc_ne c_225
    have hHr := Nat.mod_lt R1 (show 0 < dh by omega)
    have hHq := q_dh hD2 (by omega) (by omega) hR1D
    refine sw_lload (n := 240) F 1 rfl dJ8_divideAndRound128_238 rfl ?_
    refine sw_top (topLm (show (↑R1 : Int) % 18446744073709551616 = (wL ↑R1) % 18446744073709551616 by exact (wL_s _).2.2.symm)) ?_
    refine sw_lconst (n := 241) F 0 (by decide) dJ8_divideAndRound128_240 rfl ?_
    refine sw_lcmp (n := 242) F (by exact ⟨(wL_s _).1, (wL_s _).2.1⟩) (by decide) dJ8_divideAndRound128_241 rfl ?_
    have K286 : ∀ N286 : Nat, ∀ (qh : Nat) (qr : Nat), (qh * dh + qr = R1) → (T0 < (qh + 1) * D) → (qr < 4294967296) → (qh ≤ 4294967297) → ((qh) < N286) → SW x [pl (xg x) M] 7 38 286 [(4, .long (jL (↑D))), (6, .int (jI sg)), (7, .int (jI s)), (8, .int (jI m)), (9, .int (jI s)), (10, .int (jI (↑sh))), (11, .long (jL (↑dh))), (13, .long (jL (↑dl))), (17, .long (jL (↑w1))), (19, .long (jL (↑u0))), (23, .long (jL (↑Q))), (27, .long (jL (↑qh))), (25, .long (jL (↑qr)))] [] := by
      intro N286; induction N286 with
      | zero => intro qh qr hE1 hE2 hqr hqh hmu286; omega
      | succ N286 ih286 =>
        intro qh qr hE1 hE2 hqr hqh hmu286
        refine sw_lload (n := 288) F 11 rfl dJ8_divideAndRound128_286 rfl ?_
        have K338 : ∀ (Q0 : Nat), (Q0 * D ≤ T0 ∧ T0 < (Q0 + 1) * D) → SW x [pl (xg x) M] 7 38 338 [(4, .long (jL (↑D))), (6, .int (jI sg)), (7, .int (jI s)), (8, .int (jI m)), (9, .int (jI s)), (10, .int (jI (↑sh))), (11, .long (jL (↑dh))), (13, .long (jL (↑dl))), (17, .long (jL (↑w1))), (19, .long (jL (↑u0))), (23, .long (jL (↑Q))), (27, .long (jL (↑Q0)))] [] := cl_J8_divideAndRound128_338 (x := x) M xx dd hi lo d sg s m X D sh dh dl T1 R1 w1 T0 u0 dI Q rfl hPo hPx F hdd hsg hd hm hs hX_ hDn hD2 hKF hDd hu0b hdb hshb hp2 hdI hR1e hR1D hQB hw1 hT0
        refine sw_ldc2 (n := 291) F (4294967296) q2788 (by decide) dJ8_divideAndRound128_288 rfl ?_
        refine sw_lcmp (n := 292) F (by omega) (by decide) dJ8_divideAndRound128_291 rfl ?_
        refine sw_if_ge (n := 295) F (lc_rng _ _) (tgt := 313) dJ8_divideAndRound128_292 (by decide) rfl (fun c_292 => ?_) (fun c_292 => ?_)
        ·
          have c_292 := lc_ge c_292
          have hlt1 : T0 < qh * D := kn_w1 hD2 hT0 hR1D (by omega) hE1 (by first | (left; omega) | (right; rw [← hrs, ← hest]; rcases Nat.lt_or_ge rs est with k | k; exact k; rw [if_neg (by omega)] at c_310; omega))
          have hq1 : 1 ≤ qh := by rcases Nat.eq_zero_or_pos qh with k | k; rw [k, Nat.zero_mul] at hlt1; omega; exact k
          have hE1n := kn_d1 hE1 hq1
          have hE2n : T0 < (qh - 1 + 1) * D := by rw [show qh - 1 + 1 = qh by omega]; exact hlt1
          refine sw_lload (n := 315) F 11 rfl dJ8_divideAndRound128_313 rfl ?_
          refine sw_lconst (n := 316) F 1 (by decide) dJ8_divideAndRound128_315 rfl ?_
          refine sw_lsub (n := 317) F dJ8_divideAndRound128_316 rfl ?_
          refine sw_top (topL (show ((↑qh) - 1 : Int) = ↑(qh - 1) by omega)) ?_
          refine sw_lstore (n := 319) F (L2 := [(27, .long (jL (↑(qh - 1)))), (4, .long (jL (↑D))), (6, .int (jI sg)), (7, .int (jI s)), (8, .int (jI m)), (9, .int (jI s)), (10, .int (jI (↑sh))), (11, .long (jL (↑dh))), (13, .long (jL (↑dl))), (17, .long (jL (↑w1))), (19, .long (jL (↑u0))), (23, .long (jL (↑Q))), (25, .long (jL (↑qr)))]) rfl (by decide) dJ8_divideAndRound128_317 rfl ?_
          refine sw_lload (n := 321) F 12 rfl dJ8_divideAndRound128_319 rfl ?_
          refine sw_lload (n := 323) F 7 rfl dJ8_divideAndRound128_321 rfl ?_
          refine sw_ladd (n := 324) F dJ8_divideAndRound128_323 rfl ?_
          refine sw_top (topL (show ((↑qr) + (↑dh) : Int) = ↑(qr + dh) by omega)) ?_
          refine sw_lstore (n := 326) F (L2 := [(25, .long (jL (↑(qr + dh)))), (27, .long (jL (↑(qh - 1)))), (4, .long (jL (↑D))), (6, .int (jI sg)), (7, .int (jI s)), (8, .int (jI m)), (9, .int (jI s)), (10, .int (jI (↑sh))), (11, .long (jL (↑dh))), (13, .long (jL (↑dl))), (17, .long (jL (↑w1))), (19, .long (jL (↑u0))), (23, .long (jL (↑Q)))]) rfl (by decide) dJ8_divideAndRound128_324 rfl ?_
          refine sw_lload (n := 328) F 0 rfl dJ8_divideAndRound128_326 rfl ?_
          refine sw_ldc2 (n := 331) F (4294967296) q2788 (by decide) dJ8_divideAndRound128_328 rfl ?_
          refine sw_lcmp (n := 332) F (by omega) (by decide) dJ8_divideAndRound128_331 rfl ?_
          refine sw_if_lt (n := 335) F (lc_rng _ _) (tgt := 286) dJ8_divideAndRound128_332 (by decide) rfl (fun c_332 => ?_) (fun c_332 => ?_)
          ·
            have c_332 := lc_lt c_332
            refine sw_loc [2, 3, 4, 5, 6, 7, 8, 9, 10, 11, 12, 1, 0] (L2 := [(4, .long (jL (↑D))), (6, .int (jI sg)), (7, .int (jI s)), (8, .int (jI m)), (9, .int (jI s)), (10, .int (jI (↑sh))), (11, .long (jL (↑dh))), (13, .long (jL (↑dl))), (17, .long (jL (↑w1))), (19, .long (jL (↑u0))), (23, .long (jL (↑Q))), (27, .long (jL (↑(qh - 1)))), (25, .long (jL (↑(qr + dh))))]) rfl ?_
            exact ih286 (qh - 1) (qr + dh) (by first | exact hE1n | exact Nat.div_add_mod' _ _) (by first | exact hE2n | exact kn_hi hD2 hT1 (by omega) (Nat.div_add_mod' H dh) hHr | exact kn_hi hD2 hT0 (by omega) (Nat.div_add_mod' R1 dh) hHr) (by omega) (by omega) (by omega)
          ·
            have c_332 := lc_ge c_332
            refine sw_goto F (n := 338) dJ8_divideAndRound128_335 (by decide) ?_
            refine sw_loc [2, 3, 4, 5, 6, 7, 8, 9, 10, 11, 12, 1] (L2 := [(4, .long (jL (↑D))), (6, .int (jI sg)), (7, .int (jI s)), (8, .int (jI m)), (9, .int (jI s)), (10, .int (jI (↑sh))), (11, .long (jL (↑dh))), (13, .long (jL (↑dl))), (17, .long (jL (↑w1))), (19, .long (jL (↑u0))), (23, .long (jL (↑Q))), (27, .long (jL (↑(qh - 1))))]) rfl ?_
            exact K338 (qh - 1) (by exact ⟨kn_w3 hD2 hT0 (by omega) hE1n (by omega) (by omega), hE2n⟩)
        ·
          have c_292 := lc_lt c_292
          refine sw_lload (n := 297) F 11 rfl dJ8_divideAndRound128_295 rfl ?_
          refine sw_lload (n := 299) F 7 rfl dJ8_divideAndRound128_297 rfl ?_
          refine sw_lmul (n := 300) F dJ8_divideAndRound128_299 rfl ?_
          obtain ⟨est, hest⟩ : ∃ z : Nat, z = qh * dl := ⟨_, rfl⟩
          refine sw_top (topL (show ((↑qh) * (↑dl) : Int) = ↑est by rw [hest, Int.natCast_mul])) ?_
          have hmq := ms_p (a := qh) (b := dl) (by omega) (by omega)
          refine sw_lload (n := 302) F 12 rfl dJ8_divideAndRound128_300 rfl ?_
          refine sw_lload (n := 304) F 9 rfl dJ8_divideAndRound128_302 rfl ?_
          refine sw_callS (n := 307) F (ct_J8_make64 (g := xg x) (l := xl x) (↑qr) u0 hu0b) q2779 q2780 q112 q2781 nd_J8_make64 rfl (by decide) [0] rfl [pl (xg x) M] rfl 7 38 ⟨by first | decide | omega, by first | decide | omega⟩ [.long (jL (↑est))] rfl (Nat.le_of_ble_eq_true rfl) dJ8_divideAndRound128_304 rfl (fun _ _ h => h.elim) (fun v Ws h => ?_)
          obtain ⟨rfl, rfl⟩ := h
          show SW x [pl (xg x) M] _ _ _ _ [.long (jL ((↑qr) * 4294967296 + ↑u0)), .long (jL (↑est))]
          obtain ⟨rs, hrs⟩ : ∃ z : Nat, z = qr * 4294967296 + u0 := ⟨_, rfl⟩
          refine sw_top (topL (show ((↑qr) * 4294967296 + ↑u0 : Int) = ↑rs by omega)) ?_
          refine sw_callS (n := 310) F (ct_J8_unsignedLongCompare (g := xg x) (l := xl x) est rs (by first | omega | assumption) (by first | omega | assumption)) q2789 q2790 q112 q2791 nd_J8_unsignedLongCompare rfl (by decide) [0] rfl [pl (xg x) M] rfl 7 38 ⟨by first | decide | omega, by first | decide | omega⟩ [] rfl (Nat.le_of_ble_eq_true rfl) dJ8_divideAndRound128_307 rfl (fun _ _ h => h.elim) (fun v Ws h => ?_)
          obtain ⟨rfl, rfl⟩ := h
          show SW x [pl (xg x) M] _ _ _ _ [.int (jI (if rs < est then 1 else 0))]
          refine sw_if_eq (n := 313) F (by split <;> decide) (tgt := 338) dJ8_divideAndRound128_310 (by decide) rfl (fun c_310 => ?_) (fun c_310 => ?_)
          ·
            refine sw_loc [0, 1, 2, 3, 4, 5, 6, 7, 8, 9, 10, 11] (L2 := [(4, .long (jL (↑D))), (6, .int (jI sg)), (7, .int (jI s)), (8, .int (jI m)), (9, .int (jI s)), (10, .int (jI (↑sh))), (11, .long (jL (↑dh))), (13, .long (jL (↑dl))), (17, .long (jL (↑w1))), (19, .long (jL (↑u0))), (23, .long (jL (↑Q))), (27, .long (jL (↑qh)))]) rfl ?_
            exact K338 qh (by first | exact ⟨kn_w2 hD2 hT0 hE1 (by rw [← hest, ← hrs]; rcases Nat.lt_or_ge rs est with k | k; rw [if_pos k] at c_310; omega; exact k), hE2⟩)
          ·
            have hlt1 : T0 < qh * D := kn_w1 hD2 hT0 hR1D (by omega) hE1 (by first | (left; omega) | (right; rw [← hrs, ← hest]; rcases Nat.lt_or_ge rs est with k | k; exact k; rw [if_neg (by omega)] at c_310; omega))
            have hq1 : 1 ≤ qh := by rcases Nat.eq_zero_or_pos qh with k | k; rw [k, Nat.zero_mul] at hlt1; omega; exact k
            have hE1n := kn_d1 hE1 hq1
            have hE2n : T0 < (qh - 1 + 1) * D := by rw [show qh - 1 + 1 = qh by omega]; exact hlt1
            refine sw_lload (n := 315) F 11 rfl dJ8_divideAndRound128_313 rfl ?_
            refine sw_lconst (n := 316) F 1 (by decide) dJ8_divideAndRound128_315 rfl ?_
            refine sw_lsub (n := 317) F dJ8_divideAndRound128_316 rfl ?_
            refine sw_top (topL (show ((↑qh) - 1 : Int) = ↑(qh - 1) by omega)) ?_
            refine sw_lstore (n := 319) F (L2 := [(27, .long (jL (↑(qh - 1)))), (4, .long (jL (↑D))), (6, .int (jI sg)), (7, .int (jI s)), (8, .int (jI m)), (9, .int (jI s)), (10, .int (jI (↑sh))), (11, .long (jL (↑dh))), (13, .long (jL (↑dl))), (17, .long (jL (↑w1))), (19, .long (jL (↑u0))), (23, .long (jL (↑Q))), (25, .long (jL (↑qr)))]) rfl (by decide) dJ8_divideAndRound128_317 rfl ?_
            refine sw_lload (n := 321) F 12 rfl dJ8_divideAndRound128_319 rfl ?_
            refine sw_lload (n := 323) F 7 rfl dJ8_divideAndRound128_321 rfl ?_
            refine sw_ladd (n := 324) F dJ8_divideAndRound128_323 rfl ?_
            refine sw_top (topL (show ((↑qr) + (↑dh) : Int) = ↑(qr + dh) by omega)) ?_
            refine sw_lstore (n := 326) F (L2 := [(25, .long (jL (↑(qr + dh)))), (27, .long (jL (↑(qh - 1)))), (4, .long (jL (↑D))), (6, .int (jI sg)), (7, .int (jI s)), (8, .int (jI m)), (9, .int (jI s)), (10, .int (jI (↑sh))), (11, .long (jL (↑dh))), (13, .long (jL (↑dl))), (17, .long (jL (↑w1))), (19, .long (jL (↑u0))), (23, .long (jL (↑Q)))]) rfl (by decide) dJ8_divideAndRound128_324 rfl ?_
            refine sw_lload (n := 328) F 0 rfl dJ8_divideAndRound128_326 rfl ?_
            refine sw_ldc2 (n := 331) F (4294967296) q2788 (by decide) dJ8_divideAndRound128_328 rfl ?_
            refine sw_lcmp (n := 332) F (by omega) (by decide) dJ8_divideAndRound128_331 rfl ?_
            refine sw_if_lt (n := 335) F (lc_rng _ _) (tgt := 286) dJ8_divideAndRound128_332 (by decide) rfl (fun c_332 => ?_) (fun c_332 => ?_)
            ·
              have c_332 := lc_lt c_332
              refine sw_loc [2, 3, 4, 5, 6, 7, 8, 9, 10, 11, 12, 1, 0] (L2 := [(4, .long (jL (↑D))), (6, .int (jI sg)), (7, .int (jI s)), (8, .int (jI m)), (9, .int (jI s)), (10, .int (jI (↑sh))), (11, .long (jL (↑dh))), (13, .long (jL (↑dl))), (17, .long (jL (↑w1))), (19, .long (jL (↑u0))), (23, .long (jL (↑Q))), (27, .long (jL (↑(qh - 1)))), (25, .long (jL (↑(qr + dh))))]) rfl ?_
              exact ih286 (qh - 1) (qr + dh) (by first | exact hE1n | exact Nat.div_add_mod' _ _) (by first | exact hE2n | exact kn_hi hD2 hT1 (by omega) (Nat.div_add_mod' H dh) hHr | exact kn_hi hD2 hT0 (by omega) (Nat.div_add_mod' R1 dh) hHr) (by omega) (by omega) (by omega)
            ·
              have c_332 := lc_ge c_332
              refine sw_goto F (n := 338) dJ8_divideAndRound128_335 (by decide) ?_
              refine sw_loc [2, 3, 4, 5, 6, 7, 8, 9, 10, 11, 12, 1] (L2 := [(4, .long (jL (↑D))), (6, .int (jI sg)), (7, .int (jI s)), (8, .int (jI m)), (9, .int (jI s)), (10, .int (jI (↑sh))), (11, .long (jL (↑dh))), (13, .long (jL (↑dl))), (17, .long (jL (↑w1))), (19, .long (jL (↑u0))), (23, .long (jL (↑Q))), (27, .long (jL (↑(qh - 1))))]) rfl ?_
              exact K338 (qh - 1) (by exact ⟨kn_w3 hD2 hT0 (by omega) hE1n (by omega) (by omega), hE2n⟩)
    refine sw_if_lt (n := 245) F (lc_rng _ _) (tgt := 265) dJ8_divideAndRound128_242 (by decide) rfl (fun c_242 => ?_) (fun c_242 => ?_)
    ·
      have c_242 := lc_lt c_242
      have hH63 := wl_neg (Nat.lt_trans hR1D hDn.2) c_242
      refine sw_lload (n := 267) F 1 rfl dJ8_divideAndRound128_265 rfl ?_
      refine sw_lload (n := 269) F 8 rfl dJ8_divideAndRound128_267 rfl ?_
      refine sw_callS (n := 272) F (ct_J8_divRemNegativeLong (g := xg x) (l := xl x) R1 dh (by exact hH63) (by first | omega | assumption)) q2785 q2786 q112 q2787 nd_J8_divRemNegativeLong rfl (by decide) [0] rfl [pl (xg x) M] rfl 7 38 ⟨by first | decide | omega, by first | decide | omega⟩ [] rfl (Nat.le_of_ble_eq_true rfl) dJ8_divideAndRound128_269 rfl (fun _ _ h => h.elim) (fun v Ws h => ?_)
      obtain ⟨r1_62, rfl, rfl⟩ := h
      show SW x [aL (xg x) r1_62 2 (va_up (va_up (fun _ => 0) 0 ↑(R1 % dh)) 1 ↑(R1 / dh)), pl (xg x) M] _ _ _ _ [.ref r1_62]
      refine sw_astore (n := 274) F (some r1_62) (L2 := [(29, .ref r1_62), (17, .long (jL (↑w1))), (15, .long (jL (↑R1))), (4, .long (jL (↑D))), (6, .int (jI sg)), (7, .int (jI s)), (8, .int (jI m)), (9, .int (jI s)), (10, .int (jI (↑sh))), (11, .long (jL (↑dh))), (13, .long (jL (↑dl))), (19, .long (jL (↑u0))), (21, .long (jL (↑u2))), (23, .long (jL (↑Q)))]) rfl rfl (by decide) dJ8_divideAndRound128_272 rfl ?_
      refine sw_aload (n := 276) F 0 (some r1_62) rfl rfl dJ8_divideAndRound128_274 rfl ?_
      refine sw_iconst (n := 277) F (1) (by decide) dJ8_divideAndRound128_276 rfl ?_
      refine sw_laloadL (n := 278) F 0 rfl (fun _ => rfl) 1 rfl (by omega) dJ8_divideAndRound128_277 rfl ?_
      refine sw_top (topL (show ((va_up (va_up (fun _ => 0) 0 ↑(R1 % dh)) 1 ↑(R1 / dh)) 1 : Int) = ↑(R1 / dh) by exact vu_eq rfl)) ?_
      refine sw_lstore (n := 280) F (L2 := [(27, .long (jL (↑(R1 / dh)))), (29, .ref r1_62), (17, .long (jL (↑w1))), (15, .long (jL (↑R1))), (4, .long (jL (↑D))), (6, .int (jI sg)), (7, .int (jI s)), (8, .int (jI m)), (9, .int (jI s)), (10, .int (jI (↑sh))), (11, .long (jL (↑dh))), (13, .long (jL (↑dl))), (19, .long (jL (↑u0))), (21, .long (jL (↑u2))), (23, .long (jL (↑Q)))]) rfl (by decide) dJ8_divideAndRound128_278 rfl ?_
      refine sw_aload (n := 282) F 1 (some r1_62) rfl rfl dJ8_divideAndRound128_280 rfl ?_
      refine sw_iconst (n := 283) F (0) (by decide) dJ8_divideAndRound128_282 rfl ?_
      refine sw_laloadL (n := 284) F 0 rfl (fun _ => rfl) 0 rfl (by omega) dJ8_divideAndRound128_283 rfl ?_
      refine sw_top (topL (show ((va_up (va_up (fun _ => 0) 0 ↑(R1 % dh)) 1 ↑(R1 / dh)) 0 : Int) = ↑(R1 % dh) by exact (vu_ne (by decide)).trans (vu_eq rfl))) ?_
      refine sw_lstore (n := 286) F (L2 := [(25, .long (jL (↑(R1 % dh)))), (27, .long (jL (↑(R1 / dh)))), (29, .ref r1_62), (17, .long (jL (↑w1))), (15, .long (jL (↑R1))), (4, .long (jL (↑D))), (6, .int (jI sg)), (7, .int (jI s)), (8, .int (jI m)), (9, .int (jI s)), (10, .int (jI (↑sh))), (11, .long (jL (↑dh))), (13, .long (jL (↑dl))), (19, .long (jL (↑u0))), (21, .long (jL (↑u2))), (23, .long (jL (↑Q)))]) rfl (by decide) dJ8_divideAndRound128_284 rfl ?_
      refine sw_drop [1, 0] 1 rfl [pl (xg x) M] rfl ?_
      refine sw_loc [5, 6, 7, 8, 9, 10, 11, 12, 3, 13, 15, 1, 0] (L2 := [(4, .long (jL (↑D))), (6, .int (jI sg)), (7, .int (jI s)), (8, .int (jI m)), (9, .int (jI s)), (10, .int (jI (↑sh))), (11, .long (jL (↑dh))), (13, .long (jL (↑dl))), (17, .long (jL (↑w1))), (19, .long (jL (↑u0))), (23, .long (jL (↑Q))), (27, .long (jL (↑(R1 / dh)))), (25, .long (jL (↑(R1 % dh))))]) rfl ?_
      exact K286 _ (R1 / dh) (R1 % dh) (by first | exact hE1n | exact Nat.div_add_mod' _ _) (by first | exact hE2n | exact kn_hi hD2 hT1 (by omega) (Nat.div_add_mod' H dh) hHr | exact kn_hi hD2 hT0 (by omega) (Nat.div_add_mod' R1 dh) hHr) (by omega) (by omega) (Nat.lt_succ_self _)
    ·
      have c_242 := lc_ge c_242
      have hH63 := wl_pos (Nat.lt_trans hR1D hDn.2) c_242
      refine sw_lload (n := 247) F 1 rfl dJ8_divideAndRound128_245 rfl ?_
      refine sw_lload (n := 249) F 8 rfl dJ8_divideAndRound128_247 rfl ?_
      refine sw_ldivP (n := 250) F (by exact hH63) (by omega) (by omega) dJ8_divideAndRound128_249 rfl ?_
      refine sw_top (topL (show ((↑R1) / (↑dh) : Int) = ↑(R1 / dh) by rw [Int.natCast_ediv])) ?_
      refine sw_lstore (n := 252) F (L2 := [(27, .long (jL (↑(R1 / dh)))), (17, .long (jL (↑w1))), (15, .long (jL (↑R1))), (4, .long (jL (↑D))), (6, .int (jI sg)), (7, .int (jI s)), (8, .int (jI m)), (9, .int (jI s)), (10, .int (jI (↑sh))), (11, .long (jL (↑dh))), (13, .long (jL (↑dl))), (19, .long (jL (↑u0))), (21, .long (jL (↑u2))), (23, .long (jL (↑Q)))]) rfl (by decide) dJ8_divideAndRound128_250 rfl ?_
      refine sw_lload (n := 254) F 2 rfl dJ8_divideAndRound128_252 rfl ?_
      refine sw_lload (n := 256) F 0 rfl dJ8_divideAndRound128_254 rfl ?_
      refine sw_lload (n := 258) F 9 rfl dJ8_divideAndRound128_256 rfl ?_
      refine sw_lmul (n := 259) F dJ8_divideAndRound128_258 rfl ?_
      refine sw_lsub (n := 260) F dJ8_divideAndRound128_259 rfl ?_
      refine sw_top (topL (show ((↑R1) - ((↑(R1 / dh)) * (↑dh)) : Int) = ↑(R1 % dh) by have e9 := Nat.div_add_mod R1 dh; rw [← Int.natCast_mul, Nat.mul_comm]; omega)) ?_
      refine sw_lstore (n := 262) F (L2 := [(25, .long (jL (↑(R1 % dh)))), (27, .long (jL (↑(R1 / dh)))), (17, .long (jL (↑w1))), (15, .long (jL (↑R1))), (4, .long (jL (↑D))), (6, .int (jI sg)), (7, .int (jI s)), (8, .int (jI m)), (9, .int (jI s)), (10, .int (jI (↑sh))), (11, .long (jL (↑dh))), (13, .long (jL (↑dl))), (19, .long (jL (↑u0))), (21, .long (jL (↑u2))), (23, .long (jL (↑Q)))]) rfl (by decide) dJ8_divideAndRound128_260 rfl ?_
      refine sw_goto F (n := 286) dJ8_divideAndRound128_262 (by decide) ?_
      refine sw_room (bc2 := 7) (bs2 := 38) ⟨by first | decide | omega, by first | decide | omega⟩ ?_
      refine sw_loc [4, 5, 6, 7, 8, 9, 10, 11, 2, 12, 14, 1, 0] (L2 := [(4, .long (jL (↑D))), (6, .int (jI sg)), (7, .int (jI s)), (8, .int (jI m)), (9, .int (jI s)), (10, .int (jI (↑sh))), (11, .long (jL (↑dh))), (13, .long (jL (↑dl))), (17, .long (jL (↑w1))), (19, .long (jL (↑u0))), (23, .long (jL (↑Q))), (27, .long (jL (↑(R1 / dh)))), (25, .long (jL (↑(R1 % dh))))]) rfl ?_
      exact K286 _ (R1 / dh) (R1 % dh) (by first | exact hE1n | exact Nat.div_add_mod' _ _) (by first | exact hE2n | exact kn_hi hD2 hT1 (by omega) (Nat.div_add_mod' H dh) hHr | exact kn_hi hD2 hT0 (by omega) (Nat.div_add_mod' R1 dh) hHr) (by omega) (by omega) (Nat.lt_succ_self _)
  · exfalso; omega
set_option maxRecDepth 100000 in
set_option maxHeartbeats 16000000 in
theorem ct_J8_divideAndRound128 {g : GG} {l : Launch} (M : Nat → Option PV) (xx : Int) (dd : Int) (hi : Nat) (lo : Nat) (d : Nat) (sg : Int) (s : Int) (m : Int) (hX : xx.natAbs = hi * 18446744073709551616 + lo) (hdd : dd.natAbs = d) (hsg : (sg = 1 ∧ xrI xx dd = 0) ∨ (sg = -1 ∧ xrI xx dd = 1)) (hd : 1 ≤ d ∧ d ≤ 4611686018427387904) (hlo : lo < 18446744073709551616) (hhi : hi ≤ 9223372036854775807) (hm : 0 ≤ m ∧ m ≤ 7) (hs : -2147483648 ≤ s ∧ s ≤ 2147483647) (hlt : hi < d) : Ct g l yJ8_divideAndRound128 (ws_ yJ8_divideAndRound128 cJ8_divideAndRound128 34 (Option.some (Jvm.ClassFile.FieldType.object "java/math/BigDecimal"))) 8 133 9 42 [.long (jL (↑hi)), .long (jL (↑lo)), .long (jL (↑d)), .int (jI sg), .int (jI s), .int (jI m), .int (jI s)] [pl g M] (fun v9 Ws9 => ∃ M1 : Nat → Option PV, ∃ r1 : Nat, ∃ o1 : Option Nat, ∃ V : Int, v9 = some (.ref r1) ∧ (le_ M M1) ∧ (at_ g M1 r1 (vD V s o1)) ∧ (V = rdV xx dd m ∨ (rdV xx dd m = 9223372036854775808 ∧ V = -9223372036854775808)) ∧ (rdF xx dd m = false) ∧ Ws9 = [pl g M1]) (fun E9 Ws9 => (E9 = "java/lang/ArithmeticException" ∧ (rdF xx dd m = true) ∧ Ws9 = [pl g M])) := by
  refine Ct.of (cc := cJ8_divideAndRound128) (nL := 34) (ret := (Option.some (Jvm.ClassFile.FieldType.object "java/math/BigDecimal"))) (by decide) rfl (Nat.le_of_ble_eq_true rfl) ?_
  intro x hg hl hPo hPx hmc hms F
  subst hg; subst hl
  refine SW.cast (L' := [(0, .long (jL (↑hi))), (2, .long (jL (↑lo))), (4, .long (jL (↑d))), (6, .int (jI sg)), (7, .int (jI s)), (8, .int (jI m)), (9, .int (jI s))]) ?_ rfl rfl rfl
  obtain ⟨X, hX_⟩ : ∃ z : Nat, z = xx.natAbs := ⟨_, rfl⟩
  have hb2 : blen d ≤ 63 := blen_lm (by rw [show (2 ^ 63 : Nat) = 9223372036854775808 from by decide]; omega)
  have hb1 := bl_pos (v := d) (by omega)
  obtain ⟨sh, hsh⟩ : ∃ z : Nat, z = 64 - blen d := ⟨_, rfl⟩
  obtain ⟨D, hD⟩ : ∃ z : Nat, z = d * 2 ^ sh := ⟨_, rfl⟩
  have hDn := kn_norm (d := d) (s := sh) (by omega) hsh (by omega)
  rw [← hD] at hDn
  have hXe : X = hi * 18446744073709551616 + lo := by rw [hX_]; exact hX
  obtain ⟨L, hL⟩ : ∃ z : Nat, z = lo * 2 ^ sh % 18446744073709551616 := ⟨_, rfl⟩
  obtain ⟨H, hH⟩ : ∃ z : Nat, z = hi * 2 ^ sh + lo / 2 ^ (64 - sh) := ⟨_, rfl⟩
  have hsp := sh_split hXe hlo (show sh ≤ 64 by omega) hL hH
  have hHD := hd_lt hXe hlo hlt hD hsp.1
  have hls := lo_sh hlo (show sh ≤ 64 by omega)
  have hp2 : 0 < 2 ^ sh := Nat.pow_pos (by decide)
  obtain ⟨dI, hdI⟩ : ∃ z : Int, z = ↑d := ⟨_, rfl⟩
  refine sw_lload_n (n := 1) F 0 rfl rfl dJ8_divideAndRound128_0 rfl ?_
  refine sw_lload (n := 3) F 2 rfl dJ8_divideAndRound128_1 rfl ?_
  refine sw_lcmp (n := 4) F (by omega) (by omega) dJ8_divideAndRound128_3 rfl ?_
  refine sw_if_lt (n := 7) F (lc_rng _ _) (tgt := 9) dJ8_divideAndRound128_4 (by decide) rfl (fun c_4 => ?_) (fun c_4 => ?_)
  ·
    have c_4 := lc_lt c_4
    refine sw_lload (n := 11) F 2 rfl dJ8_divideAndRound128_9 rfl ?_
    obtain ⟨dz, hdz⟩ : ∃ z : Int, z = ↑d := ⟨_, rfl⟩
    refine sw_top (topL (show (↑d : Int) = dz by exact hdz.symm)) ?_
    refine sw_callS (n := 14) F (ct_J21_numberOfLeadingZeros (g := xg x) (l := xl x) dz (by first | omega | assumption)) q1530 q1531 q129 q1532 nd_J21_numberOfLeadingZeros rfl (by decide) [0] rfl [pl (xg x) M] rfl 9 42 ⟨by first | decide | omega, by first | decide | omega⟩ [] rfl (Nat.le_of_ble_eq_true rfl) dJ8_divideAndRound128_11 rfl (fun _ _ h => h.elim) (fun v Ws h => ?_)
    obtain ⟨rfl, rfl⟩ := h
    show SW x [pl (xg x) M] _ _ _ _ [.int (jI (64 - ↑(blen dz.toNat)))]
    refine sw_top (topI (show (64 - ↑(blen dz.toNat) : Int) = ↑sh by rw [hdz, Int.toNat_natCast]; omega)) ?_
    refine sw_istore (n := 16) F (L2 := [(10, .int (jI (↑sh))), (0, .long (jL (↑hi))), (2, .long (jL (↑lo))), (4, .long (jL (↑d))), (6, .int (jI sg)), (7, .int (jI s)), (8, .int (jI m)), (9, .int (jI s))]) rfl (by decide) dJ8_divideAndRound128_14 rfl ?_
    refine sw_lload (n := 18) F 3 rfl dJ8_divideAndRound128_16 rfl ?_
    refine sw_iload (n := 20) F 0 rfl dJ8_divideAndRound128_18 rfl ?_
    refine sw_lshl (n := 21) F (jL ((↑d) * ((2 ^ sh : Nat) : Int))) (by have h7s := jL_shl (↑d) (c := ↑sh) (k := sh) (by omega) (by omega); exact h7s) dJ8_divideAndRound128_20 rfl ?_
    refine sw_top (topL (show ((↑d) * ((2 ^ sh : Nat) : Int) : Int) = ↑D by rw [hD, Int.natCast_mul])) ?_
    refine sw_lstore (n := 23) F (L2 := [(4, .long (jL (↑D))), (10, .int (jI (↑sh))), (0, .long (jL (↑hi))), (2, .long (jL (↑lo))), (6, .int (jI sg)), (7, .int (jI s)), (8, .int (jI m)), (9, .int (jI s))]) rfl (by decide) dJ8_divideAndRound128_21 rfl ?_
    refine sw_lload (n := 25) F 0 rfl dJ8_divideAndRound128_23 rfl ?_
    refine sw_bipush (n := 27) F (32) (by decide) dJ8_divideAndRound128_25 rfl ?_
    refine sw_lushr (n := 28) F _ (jL_ushr32 _) dJ8_divideAndRound128_27 rfl ?_
    obtain ⟨dh, hdh⟩ : ∃ z : Nat, z = D / 4294967296 := ⟨_, rfl⟩
    refine sw_top (topL (show ((↑D) % 18446744073709551616 / 4294967296 : Int) = ↑dh by omega)) ?_
    refine sw_lstore (n := 30) F (L2 := [(11, .long (jL (↑dh))), (4, .long (jL (↑D))), (10, .int (jI (↑sh))), (0, .long (jL (↑hi))), (2, .long (jL (↑lo))), (6, .int (jI sg)), (7, .int (jI s)), (8, .int (jI m)), (9, .int (jI s))]) rfl (by decide) dJ8_divideAndRound128_28 rfl ?_
    refine sw_lload (n := 32) F 1 rfl dJ8_divideAndRound128_30 rfl ?_
    refine sw_ldc2 (n := 35) F (4294967295) q1285 (by decide) dJ8_divideAndRound128_32 rfl ?_
    refine sw_land (n := 36) F (jL ((↑D) % 4294967296)) (jL_and 32 (by decide) (by rfl)) dJ8_divideAndRound128_35 rfl ?_
    obtain ⟨dl, hdl⟩ : ∃ z : Nat, z = D % 4294967296 := ⟨_, rfl⟩
    refine sw_top (topL (show ((↑D) % 4294967296 : Int) = ↑dl by omega)) ?_
    have hD2 : D = dh * 4294967296 + dl := by omega
    refine sw_lstore (n := 38) F (L2 := [(13, .long (jL (↑dl))), (11, .long (jL (↑dh))), (4, .long (jL (↑D))), (10, .int (jI (↑sh))), (0, .long (jL (↑hi))), (2, .long (jL (↑lo))), (6, .int (jI sg)), (7, .int (jI s)), (8, .int (jI m)), (9, .int (jI s))]) rfl (by decide) dJ8_divideAndRound128_36 rfl ?_
    refine sw_lload_n (n := 39) F 5 rfl rfl dJ8_divideAndRound128_38 rfl ?_
    refine sw_iload (n := 41) F 3 rfl dJ8_divideAndRound128_39 rfl ?_
    refine sw_lshl (n := 42) F (jL ((↑lo) * ((2 ^ sh : Nat) : Int))) (by have h7s := jL_shl (↑lo) (c := ↑sh) (k := sh) (by omega) (by omega); exact h7s) dJ8_divideAndRound128_41 rfl ?_
    refine sw_top (topLm (show ((↑lo) * ((2 ^ sh : Nat) : Int) : Int) % 18446744073709551616 = (↑L) % 18446744073709551616 by rw [hL, Int.natCast_emod, Int.natCast_mul]; omega)) ?_
    refine sw_lstore (n := 44) F (L2 := [(15, .long (jL (↑L))), (13, .long (jL (↑dl))), (11, .long (jL (↑dh))), (4, .long (jL (↑D))), (10, .int (jI (↑sh))), (0, .long (jL (↑hi))), (2, .long (jL (↑lo))), (6, .int (jI sg)), (7, .int (jI s)), (8, .int (jI m)), (9, .int (jI s))]) rfl (by decide) dJ8_divideAndRound128_42 rfl ?_
    refine sw_lload (n := 46) F 0 rfl dJ8_divideAndRound128_44 rfl ?_
    refine sw_bipush (n := 48) F (32) (by decide) dJ8_divideAndRound128_46 rfl ?_
    refine sw_lushr (n := 49) F _ (jL_ushr32 _) dJ8_divideAndRound128_48 rfl ?_
    obtain ⟨u1, hu1⟩ : ∃ z : Nat, z = L / 4294967296 := ⟨_, rfl⟩
    refine sw_top (topL (show ((↑L) % 18446744073709551616 / 4294967296 : Int) = ↑u1 by omega)) ?_
    refine sw_lstore (n := 51) F (L2 := [(17, .long (jL (↑u1))), (15, .long (jL (↑L))), (13, .long (jL (↑dl))), (11, .long (jL (↑dh))), (4, .long (jL (↑D))), (10, .int (jI (↑sh))), (0, .long (jL (↑hi))), (2, .long (jL (↑lo))), (6, .int (jI sg)), (7, .int (jI s)), (8, .int (jI m)), (9, .int (jI s))]) rfl (by decide) dJ8_divideAndRound128_49 rfl ?_
    refine sw_lload (n := 53) F 1 rfl dJ8_divideAndRound128_51 rfl ?_
    refine sw_ldc2 (n := 56) F (4294967295) q1285 (by decide) dJ8_divideAndRound128_53 rfl ?_
    refine sw_land (n := 57) F (jL ((↑L) % 4294967296)) (jL_and 32 (by decide) (by rfl)) dJ8_divideAndRound128_56 rfl ?_
    obtain ⟨u0, hu0⟩ : ∃ z : Nat, z = L % 4294967296 := ⟨_, rfl⟩
    refine sw_top (topL (show ((↑L) % 4294967296 : Int) = ↑u0 by omega)) ?_
    have hLe : L = u1 * 4294967296 + u0 := by omega
    refine sw_lstore (n := 59) F (L2 := [(19, .long (jL (↑u0))), (17, .long (jL (↑u1))), (15, .long (jL (↑L))), (13, .long (jL (↑dl))), (11, .long (jL (↑dh))), (4, .long (jL (↑D))), (10, .int (jI (↑sh))), (0, .long (jL (↑hi))), (2, .long (jL (↑lo))), (6, .int (jI sg)), (7, .int (jI s)), (8, .int (jI m)), (9, .int (jI s))]) rfl (by decide) dJ8_divideAndRound128_57 rfl ?_
    refine sw_lload_n (n := 60) F 7 rfl rfl dJ8_divideAndRound128_59 rfl ?_
    refine sw_iload (n := 62) F 6 rfl dJ8_divideAndRound128_60 rfl ?_
    refine sw_lshl (n := 63) F (jL ((↑hi) * ((2 ^ sh : Nat) : Int))) (by have h7s := jL_shl (↑hi) (c := ↑sh) (k := sh) (by omega) (by omega); exact h7s) dJ8_divideAndRound128_62 rfl ?_
    refine sw_lload_n (n := 64) F 8 rfl rfl dJ8_divideAndRound128_63 rfl ?_
    refine sw_bipush (n := 66) F (64) (by decide) dJ8_divideAndRound128_64 rfl ?_
    refine sw_iload (n := 68) F 6 rfl dJ8_divideAndRound128_66 rfl ?_
    refine sw_isub (n := 69) F dJ8_divideAndRound128_68 rfl ?_
    refine sw_lushr (n := 70) F (jL ((↑lo) / ((2 ^ (64 - sh) : Nat) : Int))) (by have h7s := jL_ushrP (z := ↑lo) (c := 64 - (↑sh)) (k := (64 - sh)) (by omega) (by omega) (by omega); exact h7s) dJ8_divideAndRound128_69 rfl ?_
    refine sw_lor (n := 71) F (jL (((↑hi) * ((2 ^ sh : Nat) : Int)) + ((↑lo) / ((2 ^ (64 - sh) : Nat) : Int)))) (jL_or sh (by omega) (by exact mul_mod_self _ _) (by rw [← Int.natCast_ediv]; exact ⟨Int.natCast_nonneg _, Int.ofNat_lt.mpr hls⟩)) dJ8_divideAndRound128_70 rfl ?_
    refine sw_top (topL (show (((↑hi) * ((2 ^ sh : Nat) : Int)) + ((↑lo) / ((2 ^ (64 - sh) : Nat) : Int)) : Int) = ↑H by rw [hH, Int.natCast_add, Int.natCast_mul, Int.natCast_ediv])) ?_
    obtain ⟨T1, hT1⟩ : ∃ z : Nat, z = H * 4294967296 + u1 := ⟨_, rfl⟩
    refine sw_lstore (n := 73) F (L2 := [(15, .long (jL (↑H))), (19, .long (jL (↑u0))), (17, .long (jL (↑u1))), (13, .long (jL (↑dl))), (11, .long (jL (↑dh))), (4, .long (jL (↑D))), (10, .int (jI (↑sh))), (0, .long (jL (↑hi))), (2, .long (jL (↑lo))), (6, .int (jI sg)), (7, .int (jI s)), (8, .int (jI m)), (9, .int (jI s))]) rfl (by decide) dJ8_divideAndRound128_71 rfl ?_
    refine sw_lload (n := 75) F 0 rfl dJ8_divideAndRound128_73 rfl ?_
    refine sw_ldc2 (n := 78) F (4294967295) q1285 (by decide) dJ8_divideAndRound128_75 rfl ?_
    refine sw_land (n := 79) F (jL ((↑H) % 4294967296)) (jL_and 32 (by decide) (by rfl)) dJ8_divideAndRound128_78 rfl ?_
    obtain ⟨u2, hu2⟩ : ∃ z : Nat, z = H % 4294967296 := ⟨_, rfl⟩
    refine sw_top (topL (show ((↑H) % 4294967296 : Int) = ↑u2 by omega)) ?_
    have hKF : ∀ {R1 T0 R0 Q Q0 : Nat}, T1 = Q * D + R1 → T0 = R1 * 4294967296 + u0 → T0 = Q0 * D + R0 → R0 < D → X / d = Q * 4294967296 + Q0 ∧ R0 = X % d * 2 ^ sh := fun h1 h2 h3 h4 => kn_fin hD hsp.1 hLe hT1 h1 h2 h3 h4
    have hDd : Unit → D / 2 ^ sh = d := fun _ => by rw [hD, Nat.mul_div_cancel _ hp2]
    have hu0b : u0 < 4294967296 := by rw [hu0]; exact Nat.mod_lt _ (by decide)
    have hu2b : u2 < 4294967296 := by rw [hu2]; exact Nat.mod_lt _ (by decide)
    have hu1b : u1 < 4294967296 := by have h9 := hsp.2; clear hX hXe hH hL hls hHD hD hsp; omega
    have hdb : dl < 4294967296 ∧ 2147483648 ≤ dh ∧ dh < 4294967296 := by clear hX hXe hH hL hls hHD hD hsp hT1; omega
    have hshb : sh ≤ 63 := by clear hX hXe hH hL hls hHD hD hsp hT1; omega
    have hH64 := Nat.lt_trans hHD hDn.2
    have hT1m := msub_T hT1 hu2
    clear hX hXe hH hL hls hD hsp hLe hu0 hu1 hu2 hdh hdl hb1 hb2 hsh hlo hhi hlt
    refine sw_lstore (n := 81) F (L2 := [(21, .long (jL (↑u2))), (15, .long (jL (↑H))), (19, .long (jL (↑u0))), (17, .long (jL (↑u1))), (13, .long (jL (↑dl))), (11, .long (jL (↑dh))), (4, .long (jL (↑D))), (10, .int (jI (↑sh))), (0, .long (jL (↑hi))), (2, .long (jL (↑lo))), (6, .int (jI sg)), (7, .int (jI s)), (8, .int (jI m)), (9, .int (jI s))]) rfl (by decide) dJ8_divideAndRound128_79 rfl ?_
    refine sw_lload (n := 83) F 5 rfl dJ8_divideAndRound128_81 rfl ?_
    refine sw_lconst (n := 84) F 1 (by decide) dJ8_divideAndRound128_83 rfl ?_
    refine sw_lcmp (n := 85) F (by omega) (by decide) dJ8_divideAndRound128_84 rfl ?_
    refine sw_if_ne (n := 88) F (lc_rng _ _) (tgt := 98) dJ8_divideAndRound128_85 (by decide) rfl (fun c_85 => ?_) (fun c_85 => ?_)
    ·
      have c_85 := lc_ne c_85
      have hHr := Nat.mod_lt H (show 0 < dh by omega)
      have hHq := q_dh hD2 (by omega) (by omega) hHD
      refine sw_lload (n := 100) F 1 rfl dJ8_divideAndRound128_98 rfl ?_
      refine sw_top (topLm (show (↑H : Int) % 18446744073709551616 = (wL ↑H) % 18446744073709551616 by exact (wL_s _).2.2.symm)) ?_
      refine sw_lconst (n := 101) F 0 (by decide) dJ8_divideAndRound128_100 rfl ?_
      refine sw_lcmp (n := 102) F (by exact ⟨(wL_s _).1, (wL_s _).2.1⟩) (by decide) dJ8_divideAndRound128_101 rfl ?_
      have K146 : ∀ N146 : Nat, ∀ (qh : Nat) (qr : Nat), (qh * dh + qr = H) → (T1 < (qh + 1) * D) → (qr < 4294967296) → (qh ≤ 4294967297) → ((qh) < N146) → SW x [pl (xg x) M] 8 40 146 [(4, .long (jL (↑D))), (6, .int (jI sg)), (7, .int (jI s)), (8, .int (jI m)), (9, .int (jI s)), (10, .int (jI (↑sh))), (11, .long (jL (↑dh))), (13, .long (jL (↑dl))), (17, .long (jL (↑u1))), (19, .long (jL (↑u0))), (21, .long (jL (↑u2))), (23, .long (jL (↑qh))), (25, .long (jL (↑qr)))] [] := by
        intro N146; induction N146 with
        | zero => intro qh qr hE1 hE2 hqr hqh hmu146; omega
        | succ N146 ih146 =>
          intro qh qr hE1 hE2 hqr hqh hmu146
          refine sw_lload (n := 148) F 11 rfl dJ8_divideAndRound128_146 rfl ?_
          have K198 : ∀ (Q : Nat), (Q * D ≤ T1 ∧ T1 < (Q + 1) * D) → SW x [pl (xg x) M] 8 40 198 [(4, .long (jL (↑D))), (6, .int (jI sg)), (7, .int (jI s)), (8, .int (jI m)), (9, .int (jI s)), (10, .int (jI (↑sh))), (11, .long (jL (↑dh))), (13, .long (jL (↑dl))), (17, .long (jL (↑u1))), (19, .long (jL (↑u0))), (21, .long (jL (↑u2))), (23, .long (jL (↑Q)))] [] := cl_J8_divideAndRound128_198 (x := x) M xx dd hi lo d sg s m X D sh dh dl T1 u0 u1 u2 H dI rfl hPo hPx F hdd hsg hd hm hs hX_ hDn hD2 hKF hDd hu0b hdb hshb hp2 hdI hHD hT1 hT1m hu1b
          refine sw_ldc2 (n := 151) F (4294967296) q2788 (by decide) dJ8_divideAndRound128_148 rfl ?_
          refine sw_lcmp (n := 152) F (by omega) (by decide) dJ8_divideAndRound128_151 rfl ?_
          refine sw_if_ge (n := 155) F (lc_rng _ _) (tgt := 173) dJ8_divideAndRound128_152 (by decide) rfl (fun c_152 => ?_) (fun c_152 => ?_)
          ·
            have c_152 := lc_ge c_152
            have hlt1 : T1 < qh * D := kn_w1 hD2 hT1 hHD (by omega) hE1 (by first | (left; omega) | (right; rw [← hrs, ← hest]; rcases Nat.lt_or_ge rs est with k | k; exact k; rw [if_neg (by omega)] at c_170; omega))
            have hq1 : 1 ≤ qh := by rcases Nat.eq_zero_or_pos qh with k | k; rw [k, Nat.zero_mul] at hlt1; omega; exact k
            have hE1n := kn_d1 hE1 hq1
            have hE2n : T1 < (qh - 1 + 1) * D := by rw [show qh - 1 + 1 = qh by omega]; exact hlt1
            refine sw_lload (n := 175) F 11 rfl dJ8_divideAndRound128_173 rfl ?_
            refine sw_lconst (n := 176) F 1 (by decide) dJ8_divideAndRound128_175 rfl ?_
            refine sw_lsub (n := 177) F dJ8_divideAndRound128_176 rfl ?_
            refine sw_top (topL (show ((↑qh) - 1 : Int) = ↑(qh - 1) by omega)) ?_
            refine sw_lstore (n := 179) F (L2 := [(23, .long (jL (↑(qh - 1)))), (4, .long (jL (↑D))), (6, .int (jI sg)), (7, .int (jI s)), (8, .int (jI m)), (9, .int (jI s)), (10, .int (jI (↑sh))), (11, .long (jL (↑dh))), (13, .long (jL (↑dl))), (17, .long (jL (↑u1))), (19, .long (jL (↑u0))), (21, .long (jL (↑u2))), (25, .long (jL (↑qr)))]) rfl (by decide) dJ8_divideAndRound128_177 rfl ?_
            refine sw_lload (n := 181) F 12 rfl dJ8_divideAndRound128_179 rfl ?_
            refine sw_lload (n := 183) F 7 rfl dJ8_divideAndRound128_181 rfl ?_
            refine sw_ladd (n := 184) F dJ8_divideAndRound128_183 rfl ?_
            refine sw_top (topL (show ((↑qr) + (↑dh) : Int) = ↑(qr + dh) by omega)) ?_
            refine sw_lstore (n := 186) F (L2 := [(25, .long (jL (↑(qr + dh)))), (23, .long (jL (↑(qh - 1)))), (4, .long (jL (↑D))), (6, .int (jI sg)), (7, .int (jI s)), (8, .int (jI m)), (9, .int (jI s)), (10, .int (jI (↑sh))), (11, .long (jL (↑dh))), (13, .long (jL (↑dl))), (17, .long (jL (↑u1))), (19, .long (jL (↑u0))), (21, .long (jL (↑u2)))]) rfl (by decide) dJ8_divideAndRound128_184 rfl ?_
            refine sw_lload (n := 188) F 0 rfl dJ8_divideAndRound128_186 rfl ?_
            refine sw_ldc2 (n := 191) F (4294967296) q2788 (by decide) dJ8_divideAndRound128_188 rfl ?_
            refine sw_lcmp (n := 192) F (by omega) (by decide) dJ8_divideAndRound128_191 rfl ?_
            refine sw_if_lt (n := 195) F (lc_rng _ _) (tgt := 146) dJ8_divideAndRound128_192 (by decide) rfl (fun c_192 => ?_) (fun c_192 => ?_)
            ·
              have c_192 := lc_lt c_192
              refine sw_loc [2, 3, 4, 5, 6, 7, 8, 9, 10, 11, 12, 1, 0] (L2 := [(4, .long (jL (↑D))), (6, .int (jI sg)), (7, .int (jI s)), (8, .int (jI m)), (9, .int (jI s)), (10, .int (jI (↑sh))), (11, .long (jL (↑dh))), (13, .long (jL (↑dl))), (17, .long (jL (↑u1))), (19, .long (jL (↑u0))), (21, .long (jL (↑u2))), (23, .long (jL (↑(qh - 1)))), (25, .long (jL (↑(qr + dh))))]) rfl ?_
              exact ih146 (qh - 1) (qr + dh) (by first | exact hE1n | exact Nat.div_add_mod' _ _) (by first | exact hE2n | exact kn_hi hD2 hT1 (by omega) (Nat.div_add_mod' H dh) hHr | exact kn_hi hD2 hT0 (by omega) (Nat.div_add_mod' R1 dh) hHr) (by omega) (by omega) (by omega)
            ·
              have c_192 := lc_ge c_192
              refine sw_goto F (n := 198) dJ8_divideAndRound128_195 (by decide) ?_
              refine sw_loc [2, 3, 4, 5, 6, 7, 8, 9, 10, 11, 12, 1] (L2 := [(4, .long (jL (↑D))), (6, .int (jI sg)), (7, .int (jI s)), (8, .int (jI m)), (9, .int (jI s)), (10, .int (jI (↑sh))), (11, .long (jL (↑dh))), (13, .long (jL (↑dl))), (17, .long (jL (↑u1))), (19, .long (jL (↑u0))), (21, .long (jL (↑u2))), (23, .long (jL (↑(qh - 1))))]) rfl ?_
              exact K198 (qh - 1) (by exact ⟨kn_w3 hD2 hT1 (by omega) hE1n (by omega) (by omega), hE2n⟩)
          ·
            have c_152 := lc_lt c_152
            refine sw_lload (n := 157) F 11 rfl dJ8_divideAndRound128_155 rfl ?_
            refine sw_lload (n := 159) F 7 rfl dJ8_divideAndRound128_157 rfl ?_
            refine sw_lmul (n := 160) F dJ8_divideAndRound128_159 rfl ?_
            obtain ⟨est, hest⟩ : ∃ z : Nat, z = qh * dl := ⟨_, rfl⟩
            refine sw_top (topL (show ((↑qh) * (↑dl) : Int) = ↑est by rw [hest, Int.natCast_mul])) ?_
            have hmq := ms_p (a := qh) (b := dl) (by omega) (by omega)
            refine sw_lload (n := 162) F 12 rfl dJ8_divideAndRound128_160 rfl ?_
            refine sw_lload (n := 164) F 8 rfl dJ8_divideAndRound128_162 rfl ?_
            refine sw_callS (n := 167) F (ct_J8_make64 (g := xg x) (l := xl x) (↑qr) u1 hu1b) q2779 q2780 q112 q2781 nd_J8_make64 rfl (by decide) [0] rfl [pl (xg x) M] rfl 8 40 ⟨by first | decide | omega, by first | decide | omega⟩ [.long (jL (↑est))] rfl (Nat.le_of_ble_eq_true rfl) dJ8_divideAndRound128_164 rfl (fun _ _ h => h.elim) (fun v Ws h => ?_)
            obtain ⟨rfl, rfl⟩ := h
            show SW x [pl (xg x) M] _ _ _ _ [.long (jL ((↑qr) * 4294967296 + ↑u1)), .long (jL (↑est))]
            obtain ⟨rs, hrs⟩ : ∃ z : Nat, z = qr * 4294967296 + u1 := ⟨_, rfl⟩
            refine sw_top (topL (show ((↑qr) * 4294967296 + ↑u1 : Int) = ↑rs by omega)) ?_
            refine sw_callS (n := 170) F (ct_J8_unsignedLongCompare (g := xg x) (l := xl x) est rs (by first | omega | assumption) (by first | omega | assumption)) q2789 q2790 q112 q2791 nd_J8_unsignedLongCompare rfl (by decide) [0] rfl [pl (xg x) M] rfl 8 40 ⟨by first | decide | omega, by first | decide | omega⟩ [] rfl (Nat.le_of_ble_eq_true rfl) dJ8_divideAndRound128_167 rfl (fun _ _ h => h.elim) (fun v Ws h => ?_)
            obtain ⟨rfl, rfl⟩ := h
            show SW x [pl (xg x) M] _ _ _ _ [.int (jI (if rs < est then 1 else 0))]
            refine sw_if_eq (n := 173) F (by split <;> decide) (tgt := 198) dJ8_divideAndRound128_170 (by decide) rfl (fun c_170 => ?_) (fun c_170 => ?_)
            ·
              refine sw_loc [0, 1, 2, 3, 4, 5, 6, 7, 8, 9, 10, 11] (L2 := [(4, .long (jL (↑D))), (6, .int (jI sg)), (7, .int (jI s)), (8, .int (jI m)), (9, .int (jI s)), (10, .int (jI (↑sh))), (11, .long (jL (↑dh))), (13, .long (jL (↑dl))), (17, .long (jL (↑u1))), (19, .long (jL (↑u0))), (21, .long (jL (↑u2))), (23, .long (jL (↑qh)))]) rfl ?_
              exact K198 qh (by first | exact ⟨kn_w2 hD2 hT1 hE1 (by rw [← hest, ← hrs]; rcases Nat.lt_or_ge rs est with k | k; rw [if_pos k] at c_170; omega; exact k), hE2⟩)
            ·
              have hlt1 : T1 < qh * D := kn_w1 hD2 hT1 hHD (by omega) hE1 (by first | (left; omega) | (right; rw [← hrs, ← hest]; rcases Nat.lt_or_ge rs est with k | k; exact k; rw [if_neg (by omega)] at c_170; omega))
              have hq1 : 1 ≤ qh := by rcases Nat.eq_zero_or_pos qh with k | k; rw [k, Nat.zero_mul] at hlt1; omega; exact k
              have hE1n := kn_d1 hE1 hq1
              have hE2n : T1 < (qh - 1 + 1) * D := by rw [show qh - 1 + 1 = qh by omega]; exact hlt1
              refine sw_lload (n := 175) F 11 rfl dJ8_divideAndRound128_173 rfl ?_
              refine sw_lconst (n := 176) F 1 (by decide) dJ8_divideAndRound128_175 rfl ?_
              refine sw_lsub (n := 177) F dJ8_divideAndRound128_176 rfl ?_
              refine sw_top (topL (show ((↑qh) - 1 : Int) = ↑(qh - 1) by omega)) ?_
              refine sw_lstore (n := 179) F (L2 := [(23, .long (jL (↑(qh - 1)))), (4, .long (jL (↑D))), (6, .int (jI sg)), (7, .int (jI s)), (8, .int (jI m)), (9, .int (jI s)), (10, .int (jI (↑sh))), (11, .long (jL (↑dh))), (13, .long (jL (↑dl))), (17, .long (jL (↑u1))), (19, .long (jL (↑u0))), (21, .long (jL (↑u2))), (25, .long (jL (↑qr)))]) rfl (by decide) dJ8_divideAndRound128_177 rfl ?_
              refine sw_lload (n := 181) F 12 rfl dJ8_divideAndRound128_179 rfl ?_
              refine sw_lload (n := 183) F 7 rfl dJ8_divideAndRound128_181 rfl ?_
              refine sw_ladd (n := 184) F dJ8_divideAndRound128_183 rfl ?_
              refine sw_top (topL (show ((↑qr) + (↑dh) : Int) = ↑(qr + dh) by omega)) ?_
              refine sw_lstore (n := 186) F (L2 := [(25, .long (jL (↑(qr + dh)))), (23, .long (jL (↑(qh - 1)))), (4, .long (jL (↑D))), (6, .int (jI sg)), (7, .int (jI s)), (8, .int (jI m)), (9, .int (jI s)), (10, .int (jI (↑sh))), (11, .long (jL (↑dh))), (13, .long (jL (↑dl))), (17, .long (jL (↑u1))), (19, .long (jL (↑u0))), (21, .long (jL (↑u2)))]) rfl (by decide) dJ8_divideAndRound128_184 rfl ?_
              refine sw_lload (n := 188) F 0 rfl dJ8_divideAndRound128_186 rfl ?_
              refine sw_ldc2 (n := 191) F (4294967296) q2788 (by decide) dJ8_divideAndRound128_188 rfl ?_
              refine sw_lcmp (n := 192) F (by omega) (by decide) dJ8_divideAndRound128_191 rfl ?_
              refine sw_if_lt (n := 195) F (lc_rng _ _) (tgt := 146) dJ8_divideAndRound128_192 (by decide) rfl (fun c_192 => ?_) (fun c_192 => ?_)
              ·
                have c_192 := lc_lt c_192
                refine sw_loc [2, 3, 4, 5, 6, 7, 8, 9, 10, 11, 12, 1, 0] (L2 := [(4, .long (jL (↑D))), (6, .int (jI sg)), (7, .int (jI s)), (8, .int (jI m)), (9, .int (jI s)), (10, .int (jI (↑sh))), (11, .long (jL (↑dh))), (13, .long (jL (↑dl))), (17, .long (jL (↑u1))), (19, .long (jL (↑u0))), (21, .long (jL (↑u2))), (23, .long (jL (↑(qh - 1)))), (25, .long (jL (↑(qr + dh))))]) rfl ?_
                exact ih146 (qh - 1) (qr + dh) (by first | exact hE1n | exact Nat.div_add_mod' _ _) (by first | exact hE2n | exact kn_hi hD2 hT1 (by omega) (Nat.div_add_mod' H dh) hHr | exact kn_hi hD2 hT0 (by omega) (Nat.div_add_mod' R1 dh) hHr) (by omega) (by omega) (by omega)
              ·
                have c_192 := lc_ge c_192
                refine sw_goto F (n := 198) dJ8_divideAndRound128_195 (by decide) ?_
                refine sw_loc [2, 3, 4, 5, 6, 7, 8, 9, 10, 11, 12, 1] (L2 := [(4, .long (jL (↑D))), (6, .int (jI sg)), (7, .int (jI s)), (8, .int (jI m)), (9, .int (jI s)), (10, .int (jI (↑sh))), (11, .long (jL (↑dh))), (13, .long (jL (↑dl))), (17, .long (jL (↑u1))), (19, .long (jL (↑u0))), (21, .long (jL (↑u2))), (23, .long (jL (↑(qh - 1))))]) rfl ?_
                exact K198 (qh - 1) (by exact ⟨kn_w3 hD2 hT1 (by omega) hE1n (by omega) (by omega), hE2n⟩)
      refine sw_if_lt (n := 105) F (lc_rng _ _) (tgt := 125) dJ8_divideAndRound128_102 (by decide) rfl (fun c_102 => ?_) (fun c_102 => ?_)
      ·
        have c_102 := lc_lt c_102
        have hH63 := wl_neg hH64 c_102
        refine sw_lload (n := 127) F 1 rfl dJ8_divideAndRound128_125 rfl ?_
        refine sw_lload (n := 129) F 5 rfl dJ8_divideAndRound128_127 rfl ?_
        refine sw_callS (n := 132) F (ct_J8_divRemNegativeLong (g := xg x) (l := xl x) H dh (by exact hH63) (by first | omega | assumption)) q2785 q2786 q112 q2787 nd_J8_divRemNegativeLong rfl (by decide) [0] rfl [pl (xg x) M] rfl 8 40 ⟨by first | decide | omega, by first | decide | omega⟩ [] rfl (Nat.le_of_ble_eq_true rfl) dJ8_divideAndRound128_129 rfl (fun _ _ h => h.elim) (fun v Ws h => ?_)
        obtain ⟨r1_63, rfl, rfl⟩ := h
        show SW x [aL (xg x) r1_63 2 (va_up (va_up (fun _ => 0) 0 ↑(H % dh)) 1 ↑(H / dh)), pl (xg x) M] _ _ _ _ [.ref r1_63]
        refine sw_astore (n := 134) F (some r1_63) (L2 := [(27, .ref r1_63), (21, .long (jL (↑u2))), (15, .long (jL (↑H))), (19, .long (jL (↑u0))), (17, .long (jL (↑u1))), (13, .long (jL (↑dl))), (11, .long (jL (↑dh))), (4, .long (jL (↑D))), (10, .int (jI (↑sh))), (0, .long (jL (↑hi))), (2, .long (jL (↑lo))), (6, .int (jI sg)), (7, .int (jI s)), (8, .int (jI m)), (9, .int (jI s))]) rfl rfl (by decide) dJ8_divideAndRound128_132 rfl ?_
        refine sw_aload (n := 136) F 0 (some r1_63) rfl rfl dJ8_divideAndRound128_134 rfl ?_
        refine sw_iconst (n := 137) F (1) (by decide) dJ8_divideAndRound128_136 rfl ?_
        refine sw_laloadL (n := 138) F 0 rfl (fun _ => rfl) 1 rfl (by omega) dJ8_divideAndRound128_137 rfl ?_
        refine sw_top (topL (show ((va_up (va_up (fun _ => 0) 0 ↑(H % dh)) 1 ↑(H / dh)) 1 : Int) = ↑(H / dh) by exact vu_eq rfl)) ?_
        refine sw_lstore (n := 140) F (L2 := [(23, .long (jL (↑(H / dh)))), (27, .ref r1_63), (21, .long (jL (↑u2))), (15, .long (jL (↑H))), (19, .long (jL (↑u0))), (17, .long (jL (↑u1))), (13, .long (jL (↑dl))), (11, .long (jL (↑dh))), (4, .long (jL (↑D))), (10, .int (jI (↑sh))), (0, .long (jL (↑hi))), (2, .long (jL (↑lo))), (6, .int (jI sg)), (7, .int (jI s)), (8, .int (jI m)), (9, .int (jI s))]) rfl (by decide) dJ8_divideAndRound128_138 rfl ?_
        refine sw_aload (n := 142) F 1 (some r1_63) rfl rfl dJ8_divideAndRound128_140 rfl ?_
        refine sw_iconst (n := 143) F (0) (by decide) dJ8_divideAndRound128_142 rfl ?_
        refine sw_laloadL (n := 144) F 0 rfl (fun _ => rfl) 0 rfl (by omega) dJ8_divideAndRound128_143 rfl ?_
        refine sw_top (topL (show ((va_up (va_up (fun _ => 0) 0 ↑(H % dh)) 1 ↑(H / dh)) 0 : Int) = ↑(H % dh) by exact (vu_ne (by decide)).trans (vu_eq rfl))) ?_
        refine sw_lstore (n := 146) F (L2 := [(25, .long (jL (↑(H % dh)))), (23, .long (jL (↑(H / dh)))), (27, .ref r1_63), (21, .long (jL (↑u2))), (15, .long (jL (↑H))), (19, .long (jL (↑u0))), (17, .long (jL (↑u1))), (13, .long (jL (↑dl))), (11, .long (jL (↑dh))), (4, .long (jL (↑D))), (10, .int (jI (↑sh))), (0, .long (jL (↑hi))), (2, .long (jL (↑lo))), (6, .int (jI sg)), (7, .int (jI s)), (8, .int (jI m)), (9, .int (jI s))]) rfl (by decide) dJ8_divideAndRound128_144 rfl ?_
        refine sw_drop [1, 0] 1 rfl [pl (xg x) M] rfl ?_
        refine sw_loc [9, 13, 14, 15, 16, 10, 8, 7, 6, 5, 3, 1, 0] (L2 := [(4, .long (jL (↑D))), (6, .int (jI sg)), (7, .int (jI s)), (8, .int (jI m)), (9, .int (jI s)), (10, .int (jI (↑sh))), (11, .long (jL (↑dh))), (13, .long (jL (↑dl))), (17, .long (jL (↑u1))), (19, .long (jL (↑u0))), (21, .long (jL (↑u2))), (23, .long (jL (↑(H / dh)))), (25, .long (jL (↑(H % dh))))]) rfl ?_
        exact K146 _ (H / dh) (H % dh) (by first | exact hE1n | exact Nat.div_add_mod' _ _) (by first | exact hE2n | exact kn_hi hD2 hT1 (by omega) (Nat.div_add_mod' H dh) hHr | exact kn_hi hD2 hT0 (by omega) (Nat.div_add_mod' R1 dh) hHr) (by omega) (by omega) (Nat.lt_succ_self _)
      ·
        have c_102 := lc_ge c_102
        have hH63 := wl_pos hH64 c_102
        refine sw_lload (n := 107) F 1 rfl dJ8_divideAndRound128_105 rfl ?_
        refine sw_lload (n := 109) F 5 rfl dJ8_divideAndRound128_107 rfl ?_
        refine sw_ldivP (n := 110) F (by exact hH63) (by omega) (by omega) dJ8_divideAndRound128_109 rfl ?_
        refine sw_top (topL (show ((↑H) / (↑dh) : Int) = ↑(H / dh) by rw [Int.natCast_ediv])) ?_
        refine sw_lstore (n := 112) F (L2 := [(23, .long (jL (↑(H / dh)))), (21, .long (jL (↑u2))), (15, .long (jL (↑H))), (19, .long (jL (↑u0))), (17, .long (jL (↑u1))), (13, .long (jL (↑dl))), (11, .long (jL (↑dh))), (4, .long (jL (↑D))), (10, .int (jI (↑sh))), (0, .long (jL (↑hi))), (2, .long (jL (↑lo))), (6, .int (jI sg)), (7, .int (jI s)), (8, .int (jI m)), (9, .int (jI s))]) rfl (by decide) dJ8_divideAndRound128_110 rfl ?_
        refine sw_lload (n := 114) F 2 rfl dJ8_divideAndRound128_112 rfl ?_
        refine sw_lload (n := 116) F 0 rfl dJ8_divideAndRound128_114 rfl ?_
        refine sw_lload (n := 118) F 6 rfl dJ8_divideAndRound128_116 rfl ?_
        refine sw_lmul (n := 119) F dJ8_divideAndRound128_118 rfl ?_
        refine sw_lsub (n := 120) F dJ8_divideAndRound128_119 rfl ?_
        refine sw_top (topL (show ((↑H) - ((↑(H / dh)) * (↑dh)) : Int) = ↑(H % dh) by have e9 := Nat.div_add_mod H dh; rw [← Int.natCast_mul, Nat.mul_comm]; omega)) ?_
        refine sw_lstore (n := 122) F (L2 := [(25, .long (jL (↑(H % dh)))), (23, .long (jL (↑(H / dh)))), (21, .long (jL (↑u2))), (15, .long (jL (↑H))), (19, .long (jL (↑u0))), (17, .long (jL (↑u1))), (13, .long (jL (↑dl))), (11, .long (jL (↑dh))), (4, .long (jL (↑D))), (10, .int (jI (↑sh))), (0, .long (jL (↑hi))), (2, .long (jL (↑lo))), (6, .int (jI sg)), (7, .int (jI s)), (8, .int (jI m)), (9, .int (jI s))]) rfl (by decide) dJ8_divideAndRound128_120 rfl ?_
        refine sw_goto F (n := 146) dJ8_divideAndRound128_122 (by decide) ?_
        refine sw_room (bc2 := 8) (bs2 := 40) ⟨by first | decide | omega, by first | decide | omega⟩ ?_
        refine sw_loc [8, 12, 13, 14, 15, 9, 7, 6, 5, 4, 2, 1, 0] (L2 := [(4, .long (jL (↑D))), (6, .int (jI sg)), (7, .int (jI s)), (8, .int (jI m)), (9, .int (jI s)), (10, .int (jI (↑sh))), (11, .long (jL (↑dh))), (13, .long (jL (↑dl))), (17, .long (jL (↑u1))), (19, .long (jL (↑u0))), (21, .long (jL (↑u2))), (23, .long (jL (↑(H / dh)))), (25, .long (jL (↑(H % dh))))]) rfl ?_
        exact K146 _ (H / dh) (H % dh) (by first | exact hE1n | exact Nat.div_add_mod' _ _) (by first | exact hE2n | exact kn_hi hD2 hT1 (by omega) (Nat.div_add_mod' H dh) hHr | exact kn_hi hD2 hT0 (by omega) (Nat.div_add_mod' R1 dh) hHr) (by omega) (by omega) (Nat.lt_succ_self _)
    · exfalso; omega
  · exfalso; omega
