set_option maxRecDepth 100000
def dkwJ35_leftShift_12 : List UInt8 := [167, 0, 11, 42, 16, 32, 29, 100, 182, 0, 118, 177]
abbrev dktJ35_leftShift_12 : List UInt8 := dkwJ35_leftShift_12 ++ []
def dkwJ35_leftShift_11 : List UInt8 := [21, 5, 181, 0, 21, 29, 154, 0, 4, 177, 29, 16, 32, 21, 4, 100, 163, 0, 11, 42, 29, 182, 0, 115]
abbrev dktJ35_leftShift_11 : List UInt8 := dkwJ35_leftShift_11 ++ dktJ35_leftShift_12
def dkwJ35_leftShift_10 : List UInt8 := [162, 0, 17, 42, 180, 0, 17, 21, 6, 3, 79, 132, 6, 1, 167, 255, 238, 42, 3, 181, 0, 11, 42]
abbrev dktJ35_leftShift_10 : List UInt8 := dkwJ35_leftShift_10 ++ dktJ35_leftShift_11
def dkwJ35_leftShift_9 : List UInt8 := [180, 0, 11, 21, 6, 96, 46, 79, 132, 6, 1, 167, 255, 225, 42, 180, 0, 21, 54, 6, 21, 6, 21, 5]
abbrev dktJ35_leftShift_9 : List UInt8 := dkwJ35_leftShift_9 ++ dktJ35_leftShift_10
def dkwJ35_leftShift_8 : List UInt8 := [54, 6, 21, 6, 42, 180, 0, 21, 162, 0, 28, 42, 180, 0, 17, 21, 6, 42, 180, 0, 17, 42]
abbrev dktJ35_leftShift_8 : List UInt8 := dkwJ35_leftShift_8 ++ dktJ35_leftShift_9
def dkwJ35_leftShift_7 : List UInt8 := [42, 180, 0, 11, 42, 180, 0, 21, 96, 21, 6, 96, 3, 79, 132, 6, 1, 167, 255, 223, 167, 0, 72, 3]
abbrev dktJ35_leftShift_7 : List UInt8 := dkwJ35_leftShift_7 ++ dktJ35_leftShift_8
def dkwJ35_leftShift_6 : List UInt8 := [21, 5, 161, 0, 45, 3, 54, 6, 21, 6, 21, 5, 42, 180, 0, 21, 100, 162, 0, 27, 42, 180, 0, 17]
abbrev dktJ35_leftShift_6 : List UInt8 := dkwJ35_leftShift_6 ++ dktJ35_leftShift_7
def dkwJ35_leftShift_5 : List UInt8 := [167, 255, 227, 42, 25, 6, 21, 5, 182, 0, 124, 167, 0, 129, 42, 180, 0, 17, 190, 42, 180, 0, 11, 100]
abbrev dktJ35_leftShift_5 : List UInt8 := dkwJ35_leftShift_5 ++ dktJ35_leftShift_6
def dkwJ35_leftShift_4 : List UInt8 := [162, 0, 26, 25, 6, 21, 7, 42, 180, 0, 17, 42, 180, 0, 11, 21, 7, 96, 46, 79, 132, 7, 1]
abbrev dktJ35_leftShift_4 : List UInt8 := dkwJ35_leftShift_4 ++ dktJ35_leftShift_5
def dkwJ35_leftShift_3 : List UInt8 := [180, 0, 17, 190, 21, 5, 162, 0, 55, 21, 5, 188, 10, 58, 6, 3, 54, 7, 21, 7, 42, 180, 0, 21]
abbrev dktJ35_leftShift_3 : List UInt8 := dkwJ35_leftShift_3 ++ dktJ35_leftShift_4
def dkwJ35_leftShift_2 : List UInt8 := [42, 180, 0, 21, 28, 96, 4, 96, 54, 5, 29, 16, 32, 21, 4, 100, 163, 0, 6, 132, 5, 255, 42]
abbrev dktJ35_leftShift_2 : List UInt8 := dkwJ35_leftShift_2 ++ dktJ35_leftShift_3
def dkwJ35_leftShift_1 : List UInt8 := [180, 0, 11, 46, 184, 0, 112, 54, 4, 27, 16, 32, 21, 4, 100, 163, 0, 9, 42, 29, 182, 0, 115, 177]
abbrev dktJ35_leftShift_1 : List UInt8 := dkwJ35_leftShift_1 ++ dktJ35_leftShift_2
def dkwJ35_leftShift_0 : List UInt8 := [42, 180, 0, 21, 154, 0, 4, 177, 27, 8, 124, 61, 27, 16, 31, 126, 62, 42, 180, 0, 17, 42]
abbrev dktJ35_leftShift_0 : List UInt8 := dkwJ35_leftShift_0 ++ dktJ35_leftShift_1
theorem dksJ35_leftShift_0 : cJ35_leftShift.data.toList.drop 0 = dktJ35_leftShift_0 := by decide +kernel
theorem dksJ35_leftShift_1 : cJ35_leftShift.data.toList.drop 22 = dktJ35_leftShift_1 := dk_seg dksJ35_leftShift_0 22 rfl rfl
theorem dksJ35_leftShift_2 : cJ35_leftShift.data.toList.drop 46 = dktJ35_leftShift_2 := dk_seg dksJ35_leftShift_1 24 rfl rfl
theorem dksJ35_leftShift_3 : cJ35_leftShift.data.toList.drop 69 = dktJ35_leftShift_3 := dk_seg dksJ35_leftShift_2 23 rfl rfl
theorem dksJ35_leftShift_4 : cJ35_leftShift.data.toList.drop 93 = dktJ35_leftShift_4 := dk_seg dksJ35_leftShift_3 24 rfl rfl
theorem dksJ35_leftShift_5 : cJ35_leftShift.data.toList.drop 116 = dktJ35_leftShift_5 := dk_seg dksJ35_leftShift_4 23 rfl rfl
theorem dksJ35_leftShift_6 : cJ35_leftShift.data.toList.drop 140 = dktJ35_leftShift_6 := dk_seg dksJ35_leftShift_5 24 rfl rfl
theorem dksJ35_leftShift_7 : cJ35_leftShift.data.toList.drop 164 = dktJ35_leftShift_7 := dk_seg dksJ35_leftShift_6 24 rfl rfl
theorem dksJ35_leftShift_8 : cJ35_leftShift.data.toList.drop 188 = dktJ35_leftShift_8 := dk_seg dksJ35_leftShift_7 24 rfl rfl
theorem dksJ35_leftShift_9 : cJ35_leftShift.data.toList.drop 210 = dktJ35_leftShift_9 := dk_seg dksJ35_leftShift_8 22 rfl rfl
theorem dksJ35_leftShift_10 : cJ35_leftShift.data.toList.drop 234 = dktJ35_leftShift_10 := dk_seg dksJ35_leftShift_9 24 rfl rfl
theorem dksJ35_leftShift_11 : cJ35_leftShift.data.toList.drop 257 = dktJ35_leftShift_11 := dk_seg dksJ35_leftShift_10 23 rfl rfl
theorem dksJ35_leftShift_12 : cJ35_leftShift.data.toList.drop 281 = dktJ35_leftShift_12 := dk_seg dksJ35_leftShift_11 24 rfl rfl
theorem dJ35_leftShift_0 : decode cJ35_leftShift 0 = .ok (.aload_n 0, 1) := dk_42 (dk_at dksJ35_leftShift_0 0 rfl rfl)
theorem dJ35_leftShift_1 : decode cJ35_leftShift 1 = .ok (.getfield 21, 3) := dk_180 0 21 (dk_at dksJ35_leftShift_0 1 rfl rfl)
theorem dJ35_leftShift_4 : decode cJ35_leftShift 4 = .ok (.ifCond .ne 4, 3) := dk_154 0 4 (dk_at dksJ35_leftShift_0 4 rfl rfl)
theorem dJ35_leftShift_7 : decode cJ35_leftShift 7 = .ok (.return_, 1) := dk_177 (dk_at dksJ35_leftShift_0 7 rfl rfl)
theorem dJ35_leftShift_8 : decode cJ35_leftShift 8 = .ok (.iload_n 1, 1) := dk_27 (dk_at dksJ35_leftShift_0 8 rfl rfl)
theorem dJ35_leftShift_9 : decode cJ35_leftShift 9 = .ok (.iconst 5, 1) := dk_8 (dk_at dksJ35_leftShift_0 9 rfl rfl)
theorem dJ35_leftShift_10 : decode cJ35_leftShift 10 = .ok (.iushr, 1) := dk_124 (dk_at dksJ35_leftShift_0 10 rfl rfl)
theorem dJ35_leftShift_11 : decode cJ35_leftShift 11 = .ok (.istore_n 2, 1) := dk_61 (dk_at dksJ35_leftShift_0 11 rfl rfl)
theorem dJ35_leftShift_12 : decode cJ35_leftShift 12 = .ok (.iload_n 1, 1) := dk_27 (dk_at dksJ35_leftShift_0 12 rfl rfl)
theorem dJ35_leftShift_13 : decode cJ35_leftShift 13 = .ok (.bipush 31, 2) := dk_16 31 (dk_at dksJ35_leftShift_0 13 rfl rfl)
theorem dJ35_leftShift_15 : decode cJ35_leftShift 15 = .ok (.iand, 1) := dk_126 (dk_at dksJ35_leftShift_0 15 rfl rfl)
theorem dJ35_leftShift_16 : decode cJ35_leftShift 16 = .ok (.istore_n 3, 1) := dk_62 (dk_at dksJ35_leftShift_0 16 rfl rfl)
theorem dJ35_leftShift_17 : decode cJ35_leftShift 17 = .ok (.aload_n 0, 1) := dk_42 (dk_at dksJ35_leftShift_0 17 rfl rfl)
theorem dJ35_leftShift_18 : decode cJ35_leftShift 18 = .ok (.getfield 17, 3) := dk_180 0 17 (dk_at dksJ35_leftShift_0 18 rfl rfl)
theorem dJ35_leftShift_21 : decode cJ35_leftShift 21 = .ok (.aload_n 0, 1) := dk_42 (dk_at dksJ35_leftShift_0 21 rfl rfl)
theorem dJ35_leftShift_22 : decode cJ35_leftShift 22 = .ok (.getfield 11, 3) := dk_180 0 11 (dk_at dksJ35_leftShift_1 0 rfl rfl)
theorem dJ35_leftShift_25 : decode cJ35_leftShift 25 = .ok (.iaload, 1) := dk_46 (dk_at dksJ35_leftShift_1 3 rfl rfl)
theorem dJ35_leftShift_26 : decode cJ35_leftShift 26 = .ok (.invokestatic 112, 3) := dk_184 0 112 (dk_at dksJ35_leftShift_1 4 rfl rfl)
theorem dJ35_leftShift_29 : decode cJ35_leftShift 29 = .ok (.istore 4, 2) := dk_54 4 (dk_at dksJ35_leftShift_1 7 rfl rfl)
theorem dJ35_leftShift_31 : decode cJ35_leftShift 31 = .ok (.iload_n 1, 1) := dk_27 (dk_at dksJ35_leftShift_1 9 rfl rfl)
theorem dJ35_leftShift_32 : decode cJ35_leftShift 32 = .ok (.bipush 32, 2) := dk_16 32 (dk_at dksJ35_leftShift_1 10 rfl rfl)
theorem dJ35_leftShift_34 : decode cJ35_leftShift 34 = .ok (.iload 4, 2) := dk_21 4 (dk_at dksJ35_leftShift_1 12 rfl rfl)
theorem dJ35_leftShift_36 : decode cJ35_leftShift 36 = .ok (.isub, 1) := dk_100 (dk_at dksJ35_leftShift_1 14 rfl rfl)
theorem dJ35_leftShift_37 : decode cJ35_leftShift 37 = .ok (.if_icmp .gt 9, 3) := dk_163 0 9 (dk_at dksJ35_leftShift_1 15 rfl rfl)
theorem dJ35_leftShift_40 : decode cJ35_leftShift 40 = .ok (.aload_n 0, 1) := dk_42 (dk_at dksJ35_leftShift_1 18 rfl rfl)
theorem dJ35_leftShift_41 : decode cJ35_leftShift 41 = .ok (.iload_n 3, 1) := dk_29 (dk_at dksJ35_leftShift_1 19 rfl rfl)
theorem dJ35_leftShift_42 : decode cJ35_leftShift 42 = .ok (.invokevirtual 115, 3) := dk_182 0 115 (dk_at dksJ35_leftShift_1 20 rfl rfl)
theorem dJ35_leftShift_45 : decode cJ35_leftShift 45 = .ok (.return_, 1) := dk_177 (dk_at dksJ35_leftShift_1 23 rfl rfl)
theorem dJ35_leftShift_46 : decode cJ35_leftShift 46 = .ok (.aload_n 0, 1) := dk_42 (dk_at dksJ35_leftShift_2 0 rfl rfl)
theorem dJ35_leftShift_47 : decode cJ35_leftShift 47 = .ok (.getfield 21, 3) := dk_180 0 21 (dk_at dksJ35_leftShift_2 1 rfl rfl)
theorem dJ35_leftShift_50 : decode cJ35_leftShift 50 = .ok (.iload_n 2, 1) := dk_28 (dk_at dksJ35_leftShift_2 4 rfl rfl)
theorem dJ35_leftShift_51 : decode cJ35_leftShift 51 = .ok (.iadd, 1) := dk_96 (dk_at dksJ35_leftShift_2 5 rfl rfl)
theorem dJ35_leftShift_52 : decode cJ35_leftShift 52 = .ok (.iconst 1, 1) := dk_4 (dk_at dksJ35_leftShift_2 6 rfl rfl)
theorem dJ35_leftShift_53 : decode cJ35_leftShift 53 = .ok (.iadd, 1) := dk_96 (dk_at dksJ35_leftShift_2 7 rfl rfl)
theorem dJ35_leftShift_54 : decode cJ35_leftShift 54 = .ok (.istore 5, 2) := dk_54 5 (dk_at dksJ35_leftShift_2 8 rfl rfl)
theorem dJ35_leftShift_56 : decode cJ35_leftShift 56 = .ok (.iload_n 3, 1) := dk_29 (dk_at dksJ35_leftShift_2 10 rfl rfl)
theorem dJ35_leftShift_57 : decode cJ35_leftShift 57 = .ok (.bipush 32, 2) := dk_16 32 (dk_at dksJ35_leftShift_2 11 rfl rfl)
theorem dJ35_leftShift_59 : decode cJ35_leftShift 59 = .ok (.iload 4, 2) := dk_21 4 (dk_at dksJ35_leftShift_2 13 rfl rfl)
theorem dJ35_leftShift_61 : decode cJ35_leftShift 61 = .ok (.isub, 1) := dk_100 (dk_at dksJ35_leftShift_2 15 rfl rfl)
theorem dJ35_leftShift_62 : decode cJ35_leftShift 62 = .ok (.if_icmp .gt 6, 3) := dk_163 0 6 (dk_at dksJ35_leftShift_2 16 rfl rfl)
theorem dJ35_leftShift_65 : decode cJ35_leftShift 65 = .ok (.iinc 5 (-1), 3) := dk_132 5 255 (dk_at dksJ35_leftShift_2 19 rfl rfl)
theorem dJ35_leftShift_68 : decode cJ35_leftShift 68 = .ok (.aload_n 0, 1) := dk_42 (dk_at dksJ35_leftShift_2 22 rfl rfl)
theorem dJ35_leftShift_69 : decode cJ35_leftShift 69 = .ok (.getfield 17, 3) := dk_180 0 17 (dk_at dksJ35_leftShift_3 0 rfl rfl)
theorem dJ35_leftShift_72 : decode cJ35_leftShift 72 = .ok (.arraylength, 1) := dk_190 (dk_at dksJ35_leftShift_3 3 rfl rfl)
theorem dJ35_leftShift_73 : decode cJ35_leftShift 73 = .ok (.iload 5, 2) := dk_21 5 (dk_at dksJ35_leftShift_3 4 rfl rfl)
theorem dJ35_leftShift_75 : decode cJ35_leftShift 75 = .ok (.if_icmp .ge 55, 3) := dk_162 0 55 (dk_at dksJ35_leftShift_3 6 rfl rfl)
theorem dJ35_leftShift_78 : decode cJ35_leftShift 78 = .ok (.iload 5, 2) := dk_21 5 (dk_at dksJ35_leftShift_3 9 rfl rfl)
theorem dJ35_leftShift_80 : decode cJ35_leftShift 80 = .ok (.newarray .int, 2) := dk_188_10 (dk_at dksJ35_leftShift_3 11 rfl rfl)
theorem dJ35_leftShift_82 : decode cJ35_leftShift 82 = .ok (.astore 6, 2) := dk_58 6 (dk_at dksJ35_leftShift_3 13 rfl rfl)
theorem dJ35_leftShift_84 : decode cJ35_leftShift 84 = .ok (.iconst 0, 1) := dk_3 (dk_at dksJ35_leftShift_3 15 rfl rfl)
theorem dJ35_leftShift_85 : decode cJ35_leftShift 85 = .ok (.istore 7, 2) := dk_54 7 (dk_at dksJ35_leftShift_3 16 rfl rfl)
theorem dJ35_leftShift_87 : decode cJ35_leftShift 87 = .ok (.iload 7, 2) := dk_21 7 (dk_at dksJ35_leftShift_3 18 rfl rfl)
theorem dJ35_leftShift_89 : decode cJ35_leftShift 89 = .ok (.aload_n 0, 1) := dk_42 (dk_at dksJ35_leftShift_3 20 rfl rfl)
theorem dJ35_leftShift_90 : decode cJ35_leftShift 90 = .ok (.getfield 21, 3) := dk_180 0 21 (dk_at dksJ35_leftShift_3 21 rfl rfl)
theorem dJ35_leftShift_93 : decode cJ35_leftShift 93 = .ok (.if_icmp .ge 26, 3) := dk_162 0 26 (dk_at dksJ35_leftShift_4 0 rfl rfl)
theorem dJ35_leftShift_96 : decode cJ35_leftShift 96 = .ok (.aload 6, 2) := dk_25 6 (dk_at dksJ35_leftShift_4 3 rfl rfl)
theorem dJ35_leftShift_98 : decode cJ35_leftShift 98 = .ok (.iload 7, 2) := dk_21 7 (dk_at dksJ35_leftShift_4 5 rfl rfl)
theorem dJ35_leftShift_100 : decode cJ35_leftShift 100 = .ok (.aload_n 0, 1) := dk_42 (dk_at dksJ35_leftShift_4 7 rfl rfl)
theorem dJ35_leftShift_101 : decode cJ35_leftShift 101 = .ok (.getfield 17, 3) := dk_180 0 17 (dk_at dksJ35_leftShift_4 8 rfl rfl)
theorem dJ35_leftShift_104 : decode cJ35_leftShift 104 = .ok (.aload_n 0, 1) := dk_42 (dk_at dksJ35_leftShift_4 11 rfl rfl)
theorem dJ35_leftShift_105 : decode cJ35_leftShift 105 = .ok (.getfield 11, 3) := dk_180 0 11 (dk_at dksJ35_leftShift_4 12 rfl rfl)
theorem dJ35_leftShift_108 : decode cJ35_leftShift 108 = .ok (.iload 7, 2) := dk_21 7 (dk_at dksJ35_leftShift_4 15 rfl rfl)
theorem dJ35_leftShift_110 : decode cJ35_leftShift 110 = .ok (.iadd, 1) := dk_96 (dk_at dksJ35_leftShift_4 17 rfl rfl)
theorem dJ35_leftShift_111 : decode cJ35_leftShift 111 = .ok (.iaload, 1) := dk_46 (dk_at dksJ35_leftShift_4 18 rfl rfl)
theorem dJ35_leftShift_112 : decode cJ35_leftShift 112 = .ok (.iastore, 1) := dk_79 (dk_at dksJ35_leftShift_4 19 rfl rfl)
theorem dJ35_leftShift_113 : decode cJ35_leftShift 113 = .ok (.iinc 7 1, 3) := dk_132 7 1 (dk_at dksJ35_leftShift_4 20 rfl rfl)
theorem dJ35_leftShift_116 : decode cJ35_leftShift 116 = .ok (.goto (-29), 3) := dk_167 255 227 (dk_at dksJ35_leftShift_5 0 rfl rfl)
theorem dJ35_leftShift_119 : decode cJ35_leftShift 119 = .ok (.aload_n 0, 1) := dk_42 (dk_at dksJ35_leftShift_5 3 rfl rfl)
theorem dJ35_leftShift_120 : decode cJ35_leftShift 120 = .ok (.aload 6, 2) := dk_25 6 (dk_at dksJ35_leftShift_5 4 rfl rfl)
theorem dJ35_leftShift_122 : decode cJ35_leftShift 122 = .ok (.iload 5, 2) := dk_21 5 (dk_at dksJ35_leftShift_5 6 rfl rfl)
theorem dJ35_leftShift_124 : decode cJ35_leftShift 124 = .ok (.invokevirtual 124, 3) := dk_182 0 124 (dk_at dksJ35_leftShift_5 8 rfl rfl)
theorem dJ35_leftShift_127 : decode cJ35_leftShift 127 = .ok (.goto 129, 3) := dk_167 0 129 (dk_at dksJ35_leftShift_5 11 rfl rfl)
theorem dJ35_leftShift_130 : decode cJ35_leftShift 130 = .ok (.aload_n 0, 1) := dk_42 (dk_at dksJ35_leftShift_5 14 rfl rfl)
theorem dJ35_leftShift_131 : decode cJ35_leftShift 131 = .ok (.getfield 17, 3) := dk_180 0 17 (dk_at dksJ35_leftShift_5 15 rfl rfl)
theorem dJ35_leftShift_134 : decode cJ35_leftShift 134 = .ok (.arraylength, 1) := dk_190 (dk_at dksJ35_leftShift_5 18 rfl rfl)
theorem dJ35_leftShift_135 : decode cJ35_leftShift 135 = .ok (.aload_n 0, 1) := dk_42 (dk_at dksJ35_leftShift_5 19 rfl rfl)
theorem dJ35_leftShift_136 : decode cJ35_leftShift 136 = .ok (.getfield 11, 3) := dk_180 0 11 (dk_at dksJ35_leftShift_5 20 rfl rfl)
theorem dJ35_leftShift_139 : decode cJ35_leftShift 139 = .ok (.isub, 1) := dk_100 (dk_at dksJ35_leftShift_5 23 rfl rfl)
theorem dJ35_leftShift_140 : decode cJ35_leftShift 140 = .ok (.iload 5, 2) := dk_21 5 (dk_at dksJ35_leftShift_6 0 rfl rfl)
theorem dJ35_leftShift_142 : decode cJ35_leftShift 142 = .ok (.if_icmp .lt 45, 3) := dk_161 0 45 (dk_at dksJ35_leftShift_6 2 rfl rfl)
theorem dJ35_leftShift_145 : decode cJ35_leftShift 145 = .ok (.iconst 0, 1) := dk_3 (dk_at dksJ35_leftShift_6 5 rfl rfl)
theorem dJ35_leftShift_146 : decode cJ35_leftShift 146 = .ok (.istore 6, 2) := dk_54 6 (dk_at dksJ35_leftShift_6 6 rfl rfl)
theorem dJ35_leftShift_148 : decode cJ35_leftShift 148 = .ok (.iload 6, 2) := dk_21 6 (dk_at dksJ35_leftShift_6 8 rfl rfl)
theorem dJ35_leftShift_150 : decode cJ35_leftShift 150 = .ok (.iload 5, 2) := dk_21 5 (dk_at dksJ35_leftShift_6 10 rfl rfl)
theorem dJ35_leftShift_152 : decode cJ35_leftShift 152 = .ok (.aload_n 0, 1) := dk_42 (dk_at dksJ35_leftShift_6 12 rfl rfl)
theorem dJ35_leftShift_153 : decode cJ35_leftShift 153 = .ok (.getfield 21, 3) := dk_180 0 21 (dk_at dksJ35_leftShift_6 13 rfl rfl)
theorem dJ35_leftShift_156 : decode cJ35_leftShift 156 = .ok (.isub, 1) := dk_100 (dk_at dksJ35_leftShift_6 16 rfl rfl)
theorem dJ35_leftShift_157 : decode cJ35_leftShift 157 = .ok (.if_icmp .ge 27, 3) := dk_162 0 27 (dk_at dksJ35_leftShift_6 17 rfl rfl)
theorem dJ35_leftShift_160 : decode cJ35_leftShift 160 = .ok (.aload_n 0, 1) := dk_42 (dk_at dksJ35_leftShift_6 20 rfl rfl)
theorem dJ35_leftShift_161 : decode cJ35_leftShift 161 = .ok (.getfield 17, 3) := dk_180 0 17 (dk_at dksJ35_leftShift_6 21 rfl rfl)
theorem dJ35_leftShift_164 : decode cJ35_leftShift 164 = .ok (.aload_n 0, 1) := dk_42 (dk_at dksJ35_leftShift_7 0 rfl rfl)
theorem dJ35_leftShift_165 : decode cJ35_leftShift 165 = .ok (.getfield 11, 3) := dk_180 0 11 (dk_at dksJ35_leftShift_7 1 rfl rfl)
theorem dJ35_leftShift_168 : decode cJ35_leftShift 168 = .ok (.aload_n 0, 1) := dk_42 (dk_at dksJ35_leftShift_7 4 rfl rfl)
theorem dJ35_leftShift_169 : decode cJ35_leftShift 169 = .ok (.getfield 21, 3) := dk_180 0 21 (dk_at dksJ35_leftShift_7 5 rfl rfl)
theorem dJ35_leftShift_172 : decode cJ35_leftShift 172 = .ok (.iadd, 1) := dk_96 (dk_at dksJ35_leftShift_7 8 rfl rfl)
theorem dJ35_leftShift_173 : decode cJ35_leftShift 173 = .ok (.iload 6, 2) := dk_21 6 (dk_at dksJ35_leftShift_7 9 rfl rfl)
theorem dJ35_leftShift_175 : decode cJ35_leftShift 175 = .ok (.iadd, 1) := dk_96 (dk_at dksJ35_leftShift_7 11 rfl rfl)
theorem dJ35_leftShift_176 : decode cJ35_leftShift 176 = .ok (.iconst 0, 1) := dk_3 (dk_at dksJ35_leftShift_7 12 rfl rfl)
theorem dJ35_leftShift_177 : decode cJ35_leftShift 177 = .ok (.iastore, 1) := dk_79 (dk_at dksJ35_leftShift_7 13 rfl rfl)
theorem dJ35_leftShift_178 : decode cJ35_leftShift 178 = .ok (.iinc 6 1, 3) := dk_132 6 1 (dk_at dksJ35_leftShift_7 14 rfl rfl)
theorem dJ35_leftShift_181 : decode cJ35_leftShift 181 = .ok (.goto (-33), 3) := dk_167 255 223 (dk_at dksJ35_leftShift_7 17 rfl rfl)
theorem dJ35_leftShift_184 : decode cJ35_leftShift 184 = .ok (.goto 72, 3) := dk_167 0 72 (dk_at dksJ35_leftShift_7 20 rfl rfl)
theorem dJ35_leftShift_187 : decode cJ35_leftShift 187 = .ok (.iconst 0, 1) := dk_3 (dk_at dksJ35_leftShift_7 23 rfl rfl)
theorem dJ35_leftShift_188 : decode cJ35_leftShift 188 = .ok (.istore 6, 2) := dk_54 6 (dk_at dksJ35_leftShift_8 0 rfl rfl)
theorem dJ35_leftShift_190 : decode cJ35_leftShift 190 = .ok (.iload 6, 2) := dk_21 6 (dk_at dksJ35_leftShift_8 2 rfl rfl)
theorem dJ35_leftShift_192 : decode cJ35_leftShift 192 = .ok (.aload_n 0, 1) := dk_42 (dk_at dksJ35_leftShift_8 4 rfl rfl)
theorem dJ35_leftShift_193 : decode cJ35_leftShift 193 = .ok (.getfield 21, 3) := dk_180 0 21 (dk_at dksJ35_leftShift_8 5 rfl rfl)
theorem dJ35_leftShift_196 : decode cJ35_leftShift 196 = .ok (.if_icmp .ge 28, 3) := dk_162 0 28 (dk_at dksJ35_leftShift_8 8 rfl rfl)
theorem dJ35_leftShift_199 : decode cJ35_leftShift 199 = .ok (.aload_n 0, 1) := dk_42 (dk_at dksJ35_leftShift_8 11 rfl rfl)
theorem dJ35_leftShift_200 : decode cJ35_leftShift 200 = .ok (.getfield 17, 3) := dk_180 0 17 (dk_at dksJ35_leftShift_8 12 rfl rfl)
theorem dJ35_leftShift_203 : decode cJ35_leftShift 203 = .ok (.iload 6, 2) := dk_21 6 (dk_at dksJ35_leftShift_8 15 rfl rfl)
theorem dJ35_leftShift_205 : decode cJ35_leftShift 205 = .ok (.aload_n 0, 1) := dk_42 (dk_at dksJ35_leftShift_8 17 rfl rfl)
theorem dJ35_leftShift_206 : decode cJ35_leftShift 206 = .ok (.getfield 17, 3) := dk_180 0 17 (dk_at dksJ35_leftShift_8 18 rfl rfl)
theorem dJ35_leftShift_209 : decode cJ35_leftShift 209 = .ok (.aload_n 0, 1) := dk_42 (dk_at dksJ35_leftShift_8 21 rfl rfl)
theorem dJ35_leftShift_210 : decode cJ35_leftShift 210 = .ok (.getfield 11, 3) := dk_180 0 11 (dk_at dksJ35_leftShift_9 0 rfl rfl)
theorem dJ35_leftShift_213 : decode cJ35_leftShift 213 = .ok (.iload 6, 2) := dk_21 6 (dk_at dksJ35_leftShift_9 3 rfl rfl)
theorem dJ35_leftShift_215 : decode cJ35_leftShift 215 = .ok (.iadd, 1) := dk_96 (dk_at dksJ35_leftShift_9 5 rfl rfl)
theorem dJ35_leftShift_216 : decode cJ35_leftShift 216 = .ok (.iaload, 1) := dk_46 (dk_at dksJ35_leftShift_9 6 rfl rfl)
theorem dJ35_leftShift_217 : decode cJ35_leftShift 217 = .ok (.iastore, 1) := dk_79 (dk_at dksJ35_leftShift_9 7 rfl rfl)
theorem dJ35_leftShift_218 : decode cJ35_leftShift 218 = .ok (.iinc 6 1, 3) := dk_132 6 1 (dk_at dksJ35_leftShift_9 8 rfl rfl)
theorem dJ35_leftShift_221 : decode cJ35_leftShift 221 = .ok (.goto (-31), 3) := dk_167 255 225 (dk_at dksJ35_leftShift_9 11 rfl rfl)
theorem dJ35_leftShift_224 : decode cJ35_leftShift 224 = .ok (.aload_n 0, 1) := dk_42 (dk_at dksJ35_leftShift_9 14 rfl rfl)
theorem dJ35_leftShift_225 : decode cJ35_leftShift 225 = .ok (.getfield 21, 3) := dk_180 0 21 (dk_at dksJ35_leftShift_9 15 rfl rfl)
theorem dJ35_leftShift_228 : decode cJ35_leftShift 228 = .ok (.istore 6, 2) := dk_54 6 (dk_at dksJ35_leftShift_9 18 rfl rfl)
theorem dJ35_leftShift_230 : decode cJ35_leftShift 230 = .ok (.iload 6, 2) := dk_21 6 (dk_at dksJ35_leftShift_9 20 rfl rfl)
theorem dJ35_leftShift_232 : decode cJ35_leftShift 232 = .ok (.iload 5, 2) := dk_21 5 (dk_at dksJ35_leftShift_9 22 rfl rfl)
theorem dJ35_leftShift_234 : decode cJ35_leftShift 234 = .ok (.if_icmp .ge 17, 3) := dk_162 0 17 (dk_at dksJ35_leftShift_10 0 rfl rfl)
theorem dJ35_leftShift_237 : decode cJ35_leftShift 237 = .ok (.aload_n 0, 1) := dk_42 (dk_at dksJ35_leftShift_10 3 rfl rfl)
theorem dJ35_leftShift_238 : decode cJ35_leftShift 238 = .ok (.getfield 17, 3) := dk_180 0 17 (dk_at dksJ35_leftShift_10 4 rfl rfl)
theorem dJ35_leftShift_241 : decode cJ35_leftShift 241 = .ok (.iload 6, 2) := dk_21 6 (dk_at dksJ35_leftShift_10 7 rfl rfl)
theorem dJ35_leftShift_243 : decode cJ35_leftShift 243 = .ok (.iconst 0, 1) := dk_3 (dk_at dksJ35_leftShift_10 9 rfl rfl)
theorem dJ35_leftShift_244 : decode cJ35_leftShift 244 = .ok (.iastore, 1) := dk_79 (dk_at dksJ35_leftShift_10 10 rfl rfl)
theorem dJ35_leftShift_245 : decode cJ35_leftShift 245 = .ok (.iinc 6 1, 3) := dk_132 6 1 (dk_at dksJ35_leftShift_10 11 rfl rfl)
theorem dJ35_leftShift_248 : decode cJ35_leftShift 248 = .ok (.goto (-18), 3) := dk_167 255 238 (dk_at dksJ35_leftShift_10 14 rfl rfl)
theorem dJ35_leftShift_251 : decode cJ35_leftShift 251 = .ok (.aload_n 0, 1) := dk_42 (dk_at dksJ35_leftShift_10 17 rfl rfl)
theorem dJ35_leftShift_252 : decode cJ35_leftShift 252 = .ok (.iconst 0, 1) := dk_3 (dk_at dksJ35_leftShift_10 18 rfl rfl)
theorem dJ35_leftShift_253 : decode cJ35_leftShift 253 = .ok (.putfield 11, 3) := dk_181 0 11 (dk_at dksJ35_leftShift_10 19 rfl rfl)
theorem dJ35_leftShift_256 : decode cJ35_leftShift 256 = .ok (.aload_n 0, 1) := dk_42 (dk_at dksJ35_leftShift_10 22 rfl rfl)
theorem dJ35_leftShift_257 : decode cJ35_leftShift 257 = .ok (.iload 5, 2) := dk_21 5 (dk_at dksJ35_leftShift_11 0 rfl rfl)
theorem dJ35_leftShift_259 : decode cJ35_leftShift 259 = .ok (.putfield 21, 3) := dk_181 0 21 (dk_at dksJ35_leftShift_11 2 rfl rfl)
theorem dJ35_leftShift_262 : decode cJ35_leftShift 262 = .ok (.iload_n 3, 1) := dk_29 (dk_at dksJ35_leftShift_11 5 rfl rfl)
theorem dJ35_leftShift_263 : decode cJ35_leftShift 263 = .ok (.ifCond .ne 4, 3) := dk_154 0 4 (dk_at dksJ35_leftShift_11 6 rfl rfl)
theorem dJ35_leftShift_266 : decode cJ35_leftShift 266 = .ok (.return_, 1) := dk_177 (dk_at dksJ35_leftShift_11 9 rfl rfl)
theorem dJ35_leftShift_267 : decode cJ35_leftShift 267 = .ok (.iload_n 3, 1) := dk_29 (dk_at dksJ35_leftShift_11 10 rfl rfl)
theorem dJ35_leftShift_268 : decode cJ35_leftShift 268 = .ok (.bipush 32, 2) := dk_16 32 (dk_at dksJ35_leftShift_11 11 rfl rfl)
theorem dJ35_leftShift_270 : decode cJ35_leftShift 270 = .ok (.iload 4, 2) := dk_21 4 (dk_at dksJ35_leftShift_11 13 rfl rfl)
theorem dJ35_leftShift_272 : decode cJ35_leftShift 272 = .ok (.isub, 1) := dk_100 (dk_at dksJ35_leftShift_11 15 rfl rfl)
theorem dJ35_leftShift_273 : decode cJ35_leftShift 273 = .ok (.if_icmp .gt 11, 3) := dk_163 0 11 (dk_at dksJ35_leftShift_11 16 rfl rfl)
theorem dJ35_leftShift_276 : decode cJ35_leftShift 276 = .ok (.aload_n 0, 1) := dk_42 (dk_at dksJ35_leftShift_11 19 rfl rfl)
theorem dJ35_leftShift_277 : decode cJ35_leftShift 277 = .ok (.iload_n 3, 1) := dk_29 (dk_at dksJ35_leftShift_11 20 rfl rfl)
theorem dJ35_leftShift_278 : decode cJ35_leftShift 278 = .ok (.invokevirtual 115, 3) := dk_182 0 115 (dk_at dksJ35_leftShift_11 21 rfl rfl)
theorem dJ35_leftShift_281 : decode cJ35_leftShift 281 = .ok (.goto 11, 3) := dk_167 0 11 (dk_at dksJ35_leftShift_12 0 rfl rfl)
theorem dJ35_leftShift_284 : decode cJ35_leftShift 284 = .ok (.aload_n 0, 1) := dk_42 (dk_at dksJ35_leftShift_12 3 rfl rfl)
theorem dJ35_leftShift_285 : decode cJ35_leftShift 285 = .ok (.bipush 32, 2) := dk_16 32 (dk_at dksJ35_leftShift_12 4 rfl rfl)
theorem dJ35_leftShift_287 : decode cJ35_leftShift 287 = .ok (.iload_n 3, 1) := dk_29 (dk_at dksJ35_leftShift_12 6 rfl rfl)
theorem dJ35_leftShift_288 : decode cJ35_leftShift 288 = .ok (.isub, 1) := dk_100 (dk_at dksJ35_leftShift_12 7 rfl rfl)
theorem dJ35_leftShift_289 : decode cJ35_leftShift 289 = .ok (.invokevirtual 118, 3) := dk_182 0 118 (dk_at dksJ35_leftShift_12 8 rfl rfl)
theorem dJ35_leftShift_292 : decode cJ35_leftShift 292 = .ok (.return_, 1) := dk_177 (dk_at dksJ35_leftShift_12 11 rfl rfl)
def dkwJ35_rightShift_3 : List UInt8 := [167, 0, 8, 42, 29, 182, 0, 118, 177]
abbrev dktJ35_rightShift_3 : List UInt8 := dkwJ35_rightShift_3 ++ []
def dkwJ35_rightShift_2 : List UInt8 := [21, 4, 161, 0, 24, 42, 16, 32, 29, 100, 182, 0, 115, 42, 89, 180, 0, 21, 4, 100, 181, 0, 21]
abbrev dktJ35_rightShift_2 : List UInt8 := dkwJ35_rightShift_2 ++ dktJ35_rightShift_3
def dkwJ35_rightShift_1 : List UInt8 := [181, 0, 21, 29, 154, 0, 4, 177, 42, 180, 0, 17, 42, 180, 0, 11, 46, 184, 0, 112, 54, 4, 29]
abbrev dktJ35_rightShift_1 : List UInt8 := dkwJ35_rightShift_1 ++ dktJ35_rightShift_2
def dkwJ35_rightShift_0 : List UInt8 := [42, 180, 0, 21, 154, 0, 4, 177, 27, 8, 124, 61, 27, 16, 31, 126, 62, 42, 89, 180, 0, 21, 28, 100]
abbrev dktJ35_rightShift_0 : List UInt8 := dkwJ35_rightShift_0 ++ dktJ35_rightShift_1
theorem dksJ35_rightShift_0 : cJ35_rightShift.data.toList.drop 0 = dktJ35_rightShift_0 := by decide +kernel
theorem dksJ35_rightShift_1 : cJ35_rightShift.data.toList.drop 24 = dktJ35_rightShift_1 := dk_seg dksJ35_rightShift_0 24 rfl rfl
theorem dksJ35_rightShift_2 : cJ35_rightShift.data.toList.drop 47 = dktJ35_rightShift_2 := dk_seg dksJ35_rightShift_1 23 rfl rfl
theorem dksJ35_rightShift_3 : cJ35_rightShift.data.toList.drop 70 = dktJ35_rightShift_3 := dk_seg dksJ35_rightShift_2 23 rfl rfl
theorem dJ35_rightShift_0 : decode cJ35_rightShift 0 = .ok (.aload_n 0, 1) := dk_42 (dk_at dksJ35_rightShift_0 0 rfl rfl)
theorem dJ35_rightShift_1 : decode cJ35_rightShift 1 = .ok (.getfield 21, 3) := dk_180 0 21 (dk_at dksJ35_rightShift_0 1 rfl rfl)
theorem dJ35_rightShift_4 : decode cJ35_rightShift 4 = .ok (.ifCond .ne 4, 3) := dk_154 0 4 (dk_at dksJ35_rightShift_0 4 rfl rfl)
theorem dJ35_rightShift_7 : decode cJ35_rightShift 7 = .ok (.return_, 1) := dk_177 (dk_at dksJ35_rightShift_0 7 rfl rfl)
theorem dJ35_rightShift_8 : decode cJ35_rightShift 8 = .ok (.iload_n 1, 1) := dk_27 (dk_at dksJ35_rightShift_0 8 rfl rfl)
theorem dJ35_rightShift_9 : decode cJ35_rightShift 9 = .ok (.iconst 5, 1) := dk_8 (dk_at dksJ35_rightShift_0 9 rfl rfl)
theorem dJ35_rightShift_10 : decode cJ35_rightShift 10 = .ok (.iushr, 1) := dk_124 (dk_at dksJ35_rightShift_0 10 rfl rfl)
theorem dJ35_rightShift_11 : decode cJ35_rightShift 11 = .ok (.istore_n 2, 1) := dk_61 (dk_at dksJ35_rightShift_0 11 rfl rfl)
theorem dJ35_rightShift_12 : decode cJ35_rightShift 12 = .ok (.iload_n 1, 1) := dk_27 (dk_at dksJ35_rightShift_0 12 rfl rfl)
theorem dJ35_rightShift_13 : decode cJ35_rightShift 13 = .ok (.bipush 31, 2) := dk_16 31 (dk_at dksJ35_rightShift_0 13 rfl rfl)
theorem dJ35_rightShift_15 : decode cJ35_rightShift 15 = .ok (.iand, 1) := dk_126 (dk_at dksJ35_rightShift_0 15 rfl rfl)
theorem dJ35_rightShift_16 : decode cJ35_rightShift 16 = .ok (.istore_n 3, 1) := dk_62 (dk_at dksJ35_rightShift_0 16 rfl rfl)
theorem dJ35_rightShift_17 : decode cJ35_rightShift 17 = .ok (.aload_n 0, 1) := dk_42 (dk_at dksJ35_rightShift_0 17 rfl rfl)
theorem dJ35_rightShift_18 : decode cJ35_rightShift 18 = .ok (.dup, 1) := dk_89 (dk_at dksJ35_rightShift_0 18 rfl rfl)
theorem dJ35_rightShift_19 : decode cJ35_rightShift 19 = .ok (.getfield 21, 3) := dk_180 0 21 (dk_at dksJ35_rightShift_0 19 rfl rfl)
theorem dJ35_rightShift_22 : decode cJ35_rightShift 22 = .ok (.iload_n 2, 1) := dk_28 (dk_at dksJ35_rightShift_0 22 rfl rfl)
theorem dJ35_rightShift_23 : decode cJ35_rightShift 23 = .ok (.isub, 1) := dk_100 (dk_at dksJ35_rightShift_0 23 rfl rfl)
theorem dJ35_rightShift_24 : decode cJ35_rightShift 24 = .ok (.putfield 21, 3) := dk_181 0 21 (dk_at dksJ35_rightShift_1 0 rfl rfl)
theorem dJ35_rightShift_27 : decode cJ35_rightShift 27 = .ok (.iload_n 3, 1) := dk_29 (dk_at dksJ35_rightShift_1 3 rfl rfl)
theorem dJ35_rightShift_28 : decode cJ35_rightShift 28 = .ok (.ifCond .ne 4, 3) := dk_154 0 4 (dk_at dksJ35_rightShift_1 4 rfl rfl)
theorem dJ35_rightShift_31 : decode cJ35_rightShift 31 = .ok (.return_, 1) := dk_177 (dk_at dksJ35_rightShift_1 7 rfl rfl)
theorem dJ35_rightShift_32 : decode cJ35_rightShift 32 = .ok (.aload_n 0, 1) := dk_42 (dk_at dksJ35_rightShift_1 8 rfl rfl)
theorem dJ35_rightShift_33 : decode cJ35_rightShift 33 = .ok (.getfield 17, 3) := dk_180 0 17 (dk_at dksJ35_rightShift_1 9 rfl rfl)
theorem dJ35_rightShift_36 : decode cJ35_rightShift 36 = .ok (.aload_n 0, 1) := dk_42 (dk_at dksJ35_rightShift_1 12 rfl rfl)
theorem dJ35_rightShift_37 : decode cJ35_rightShift 37 = .ok (.getfield 11, 3) := dk_180 0 11 (dk_at dksJ35_rightShift_1 13 rfl rfl)
theorem dJ35_rightShift_40 : decode cJ35_rightShift 40 = .ok (.iaload, 1) := dk_46 (dk_at dksJ35_rightShift_1 16 rfl rfl)
theorem dJ35_rightShift_41 : decode cJ35_rightShift 41 = .ok (.invokestatic 112, 3) := dk_184 0 112 (dk_at dksJ35_rightShift_1 17 rfl rfl)
theorem dJ35_rightShift_44 : decode cJ35_rightShift 44 = .ok (.istore 4, 2) := dk_54 4 (dk_at dksJ35_rightShift_1 20 rfl rfl)
theorem dJ35_rightShift_46 : decode cJ35_rightShift 46 = .ok (.iload_n 3, 1) := dk_29 (dk_at dksJ35_rightShift_1 22 rfl rfl)
theorem dJ35_rightShift_47 : decode cJ35_rightShift 47 = .ok (.iload 4, 2) := dk_21 4 (dk_at dksJ35_rightShift_2 0 rfl rfl)
theorem dJ35_rightShift_49 : decode cJ35_rightShift 49 = .ok (.if_icmp .lt 24, 3) := dk_161 0 24 (dk_at dksJ35_rightShift_2 2 rfl rfl)
theorem dJ35_rightShift_52 : decode cJ35_rightShift 52 = .ok (.aload_n 0, 1) := dk_42 (dk_at dksJ35_rightShift_2 5 rfl rfl)
theorem dJ35_rightShift_53 : decode cJ35_rightShift 53 = .ok (.bipush 32, 2) := dk_16 32 (dk_at dksJ35_rightShift_2 6 rfl rfl)
theorem dJ35_rightShift_55 : decode cJ35_rightShift 55 = .ok (.iload_n 3, 1) := dk_29 (dk_at dksJ35_rightShift_2 8 rfl rfl)
theorem dJ35_rightShift_56 : decode cJ35_rightShift 56 = .ok (.isub, 1) := dk_100 (dk_at dksJ35_rightShift_2 9 rfl rfl)
theorem dJ35_rightShift_57 : decode cJ35_rightShift 57 = .ok (.invokevirtual 115, 3) := dk_182 0 115 (dk_at dksJ35_rightShift_2 10 rfl rfl)
theorem dJ35_rightShift_60 : decode cJ35_rightShift 60 = .ok (.aload_n 0, 1) := dk_42 (dk_at dksJ35_rightShift_2 13 rfl rfl)
theorem dJ35_rightShift_61 : decode cJ35_rightShift 61 = .ok (.dup, 1) := dk_89 (dk_at dksJ35_rightShift_2 14 rfl rfl)
theorem dJ35_rightShift_62 : decode cJ35_rightShift 62 = .ok (.getfield 21, 3) := dk_180 0 21 (dk_at dksJ35_rightShift_2 15 rfl rfl)
theorem dJ35_rightShift_65 : decode cJ35_rightShift 65 = .ok (.iconst 1, 1) := dk_4 (dk_at dksJ35_rightShift_2 18 rfl rfl)
theorem dJ35_rightShift_66 : decode cJ35_rightShift 66 = .ok (.isub, 1) := dk_100 (dk_at dksJ35_rightShift_2 19 rfl rfl)
theorem dJ35_rightShift_67 : decode cJ35_rightShift 67 = .ok (.putfield 21, 3) := dk_181 0 21 (dk_at dksJ35_rightShift_2 20 rfl rfl)
theorem dJ35_rightShift_70 : decode cJ35_rightShift 70 = .ok (.goto 8, 3) := dk_167 0 8 (dk_at dksJ35_rightShift_3 0 rfl rfl)
theorem dJ35_rightShift_73 : decode cJ35_rightShift 73 = .ok (.aload_n 0, 1) := dk_42 (dk_at dksJ35_rightShift_3 3 rfl rfl)
theorem dJ35_rightShift_74 : decode cJ35_rightShift 74 = .ok (.iload_n 3, 1) := dk_29 (dk_at dksJ35_rightShift_3 4 rfl rfl)
theorem dJ35_rightShift_75 : decode cJ35_rightShift 75 = .ok (.invokevirtual 118, 3) := dk_182 0 118 (dk_at dksJ35_rightShift_3 5 rfl rfl)
theorem dJ35_rightShift_78 : decode cJ35_rightShift 78 = .ok (.return_, 1) := dk_177 (dk_at dksJ35_rightShift_3 8 rfl rfl)
theorem bw_pow (t r : Nat) : bw t * 2 ^ r = 2 ^ (32 * t + r) := by
  unfold bw
  rw [show (4294967296 : Nat) = 2 ^ 32 from by decide, ← Nat.pow_mul, ← Nat.pow_add]
theorem bw_sh (k : Nat) : bw (k / 32) * 2 ^ (k % 32) = 2 ^ k := by rw [bw_pow, show 32 * (k / 32) + k % 32 = k by omega]
theorem mw_app (f : Nat → Nat) (o m t : Nat) : mw f o (m + t) = mw f o m * bw t + mw f (o + m) t := by
  unfold mw
  rw [wv_app]
  congr 1
  exact wv_cong fun j _ => by rw [Nat.add_assoc]
theorem mw_zero {f : Nat → Nat} {o t : Nat} (h : ∀ j, j < t → f (o + j) = 0) : mw f o t = 0 := wv_zero _ t h
theorem mw_cong {f g : Nat → Nat} {o p m : Nat} (h : ∀ j, j < m → f (o + j) = g (p + j)) : mw f o m = mw g p m := wv_cong h
theorem mw_lt {f : Nat → Nat} {o m N : Nat} (hf : ∀ k, k < N → f k < 4294967296) (h : o + m ≤ N) : mw f o m < bw m := wv_lt fun k hk => hf _ (by omega)
/-- zeros behind -/
theorem mw_pad {f g : Nat → Nat} {o p m t : Nat} (h : ∀ j, j < m → g (p + j) = f (o + j)) (hz : ∀ j, m ≤ j → j < m + t → g (p + j) = 0) : mw g p (m + t) = mw f o m * bw t := by
  rw [mw_app, mw_zero (f := g) (o := p + m) (t := t) (fun j hj => by rw [Nat.add_assoc]; exact hz _ (by omega) (by omega)), mw_cong h, Nat.add_zero]
theorem bl_fit {v k : Nat} (h : blen v ≤ k) : v < 2 ^ k := Nat.lt_of_lt_of_le (blen_lt v) (Nat.pow_le_pow_right (by decide) h)
theorem bl_pos {v : Nat} (h : v ≠ 0) : 1 ≤ blen v := by
  rw [blen_s h]; omega
theorem shr_pw {X t r : Nat} (hr : r ≤ 32) : X * bw (t + 1) / 2 ^ (32 - r) = X * (bw t * 2 ^ r) := by
  have e : bw (t + 1) = bw t * 2 ^ r * 2 ^ (32 - r) := by
    rw [bw_s, Nat.mul_assoc, ← Nat.pow_add, show r + (32 - r) = 32 by omega]
  rw [e, ← Nat.mul_assoc, Nat.mul_div_cancel _ (Nat.pow_pos (by decide))]
theorem mw_div {f : Nat → Nat} {o m t N : Nat} (hf : ∀ k, k < N → f k < 4294967296) (h : o + m ≤ N) (ht : t ≤ m) : mw f o (m - t) = mw f o m / bw t := by
  have e := mw_app f o (m - t) t
  rw [show m - t + t = m by omega] at e
  have h2 := mw_lt (o := o + (m - t)) (m := t) hf (by omega)
  rw [e, Nat.mul_comm, Nat.mul_add_div (bw_pos t), Nat.div_eq_of_lt h2, Nat.add_zero]
theorem shr_all {X k : Nat} : X / bw (k / 32) / 2 ^ (k % 32) = X / 2 ^ k := by rw [Nat.div_div_eq_div_mul, bw_sh]
theorem shl_all {X k r : Nat} (hr : r = k % 32) (h : 1 ≤ r) : X / bw (k / 32) * 2 ^ (32 - r) / bw 1 = X / 2 ^ k := by
  have e : bw 1 = 2 ^ r * 2 ^ (32 - r) := by rw [bw_1, ← Nat.pow_add, show r + (32 - r) = 32 by omega]
  rw [e, Nat.mul_div_mul_right _ _ (Nat.pow_pos (by decide)), hr, shr_all]
theorem lsh_ge {f : Nat → Nat} {o m sh m1 X : Nat} (hm : 0 < m) (h0 : f o ≠ 0) (hX : X = mw f o m * 2 ^ sh) (h : 32 * (m1 - 1) ≤ 32 * (m - 1) + (blen (f o) - 1) + sh) : bw (m1 - 1) ≤ X := by
  obtain ⟨k, rfl⟩ : ∃ k, m = k + 1 := ⟨m - 1, by omega⟩
  have e := mw_app f o 1 k
  have e1 : mw f o 1 = f o := by show 0 * 4294967296 + f (o + 0) = f o; rw [Nat.zero_mul, Nat.zero_add]; rfl
  rw [e1, Nat.add_comm 1 k] at e
  have h1 := blen_le h0
  have h2 : 2 ^ (blen (f o) - 1) * bw k * 2 ^ sh ≤ mw f o (k + 1) * 2 ^ sh := Nat.mul_le_mul_right _ (by rw [e]; exact Nat.le_trans (Nat.mul_le_mul_right _ h1) (Nat.le_add_right _ _))
  have h3 : 2 ^ (blen (f o) - 1) * bw k * 2 ^ sh = 2 ^ (32 * k + (blen (f o) - 1) + sh) := by rw [Nat.mul_comm (2 ^ (blen (f o) - 1)) (bw k), bw_pow, ← Nat.pow_add]
  have h4 : bw (m1 - 1) = 2 ^ (32 * (m1 - 1)) := by have h9 := bw_pow (m1 - 1) 0; rw [Nat.pow_zero, Nat.mul_one, Nat.add_zero] at h9; exact h9
  rw [hX, h4]
  exact Nat.le_trans (Nat.pow_le_pow_right (by decide) (by omega)) (h3 ▸ h2)
theorem nd_J35_leftShift : yJ35_leftShift.cls ≠ "java/lang/invoke/MethodHandle" ∧ yJ35_leftShift.cls ≠ "java/lang/invoke/VarHandle" ∧ (parseMethodDescriptor yJ35_leftShift.desc).map (fun d => d.parameters.length) = some 1 := by decide +kernel
set_option maxRecDepth 100000 in
set_option maxHeartbeats 16000000 in
theorem ct_J35_leftShift {g : GG} {l : Launch} (q : Nat) (a : Nat) (N : Nat) (f : Nat → Nat) (m : Nat) (o : Nat) (sh : Nat) (hN : o + m ≤ N ∧ N ≤ 64) (hf : ∀ k, k < N → f k < 4294967296) (hm : 0 < m ∧ m ≤ 8) (hk : 1 ≤ sh ∧ sh ≤ 63) (h0 : f o ≠ 0) : Ct g l yJ35_leftShift (ws_ yJ35_leftShift cJ35_leftShift 8 (Option.none : Option Jvm.ClassFile.FieldType)) 3 53 1 11 [.ref q, .int (jI (↑sh))] [ob g q 19 [.ref a, .int (jI (↑m)), .int (jI (↑o))], aN g 0 a N f] (fun v9 Ws9 => ∃ a1 : Nat, ∃ N1 : Nat, ∃ f1 : Nat → Nat, ∃ m1 : Nat, ∃ o1 : Nat, v9 = none ∧ (o1 + m1 ≤ N1 ∧ N1 ≤ 64) ∧ (∀ k, k < N1 → f1 k < 4294967296) ∧ (mw f1 o1 m1 = mw f o m * 2 ^ sh) ∧ (N = m + 1 ∧ o = 1 ∧ sh < 32 → N1 = N ∧ ((m1 = m ∧ o1 = 1) ∨ (m1 = m + 1 ∧ o1 = 0))) ∧ (bw (m1 - 1) ≤ mw f1 o1 m1 ∧ m1 ≤ m + 2 ∧ N1 ≤ N + m + 2) ∧ Ws9 = [ob g q 19 [.ref a1, .int (jI (↑m1)), .int (jI (↑o1))], aN g 0 a1 N1 f1]) (nox) := by
  refine Ct.of (cc := cJ35_leftShift) (nL := 8) (ret := (Option.none : Option Jvm.ClassFile.FieldType)) (by decide) rfl (Nat.le_of_ble_eq_true rfl) ?_
  intro x hg hl hPo hPx hmc hms F
  subst hg; subst hl
  refine SW.cast (L' := [(0, .ref q), (1, .int (jI (↑sh)))]) ?_ rfl rfl rfl
  have hfo : f o < 4294967296 := hf _ (by omega)
  have hbl := blen_w hfo
  have hbp := bl_pos h0
  refine sw_aload_n (n := 1) F 0 (some q) rfl rfl rfl dJ35_leftShift_0 rfl ?_
  refine sw_get (n := 4) F 0 rfl (k := 1) ⟨(RJ35, TJ35, 3), rfl, by decide, q1837, in_J35, Or.inl rfl⟩ rfl dJ35_leftShift_1 rfl ?_
  refine sw_if_ne (n := 7) F (by omega) (tgt := 8) dJ35_leftShift_4 (by decide) rfl (fun c_4 => ?_) (fun c_4 => ?_)
  ·
    refine sw_iload_n (n := 9) F 1 rfl rfl dJ35_leftShift_8 rfl ?_
    refine sw_iconst (n := 10) F (5) (by decide) dJ35_leftShift_9 rfl ?_
    refine sw_iushr (n := 11) F (jI ((↑sh) / 32)) (by have h7s := jI_ushrPQ (z := ↑sh) (c := 5) (P := 32) (k := 5) (by omega) (by decide) (by decide); exact h7s) dJ35_leftShift_10 rfl ?_
    refine sw_istore_n (n := 12) F (L2 := [(2, .int (jI ((↑sh) / 32))), (0, .ref q), (1, .int (jI (↑sh)))]) rfl (by decide) rfl dJ35_leftShift_11 rfl ?_
    refine sw_iload_n (n := 13) F 2 rfl rfl dJ35_leftShift_12 rfl ?_
    refine sw_bipush (n := 15) F (31) (by decide) dJ35_leftShift_13 rfl ?_
    refine sw_iand (n := 16) F (jI ((↑sh) % 32)) (jI_and 5 (by decide) (by rfl)) dJ35_leftShift_15 rfl ?_
    refine sw_istore_n (n := 17) F (L2 := [(3, .int (jI ((↑sh) % 32))), (2, .int (jI ((↑sh) / 32))), (0, .ref q), (1, .int (jI (↑sh)))]) rfl (by decide) rfl dJ35_leftShift_16 rfl ?_
    refine sw_aload_n (n := 18) F 2 (some q) rfl rfl rfl dJ35_leftShift_17 rfl ?_
    refine sw_get (n := 21) F 0 rfl (k := 0) ⟨(RJ35, TJ35, 3), rfl, by decide, q1836, in_J35, Or.inl rfl⟩ rfl dJ35_leftShift_18 rfl ?_
    refine sw_aload_n (n := 22) F 2 (some q) rfl rfl rfl dJ35_leftShift_21 rfl ?_
    refine sw_get (n := 25) F 0 rfl (k := 2) ⟨(RJ35, TJ35, 3), rfl, by decide, q1838, in_J35, Or.inl rfl⟩ rfl dJ35_leftShift_22 rfl ?_
    refine sw_ialoadN (n := 26) F 1 rfl (fun _ => rfl) o rfl (by omega) dJ35_leftShift_25 rfl ?_
    refine sw_callS (n := 29) F (ct_J19_bitLengthForInt (g := xg x) (l := xl x) (f o) hfo) q1886 q1222 q127 q1223 nd_J19_bitLengthForInt rfl (by decide) [0, 1] rfl [ob (xg x) q 19 [.ref a, .int (jI (↑m)), .int (jI (↑o))], aN (xg x) 0 a N f] rfl 1 11 ⟨by omega, by omega⟩ [] rfl (Nat.le_of_ble_eq_true rfl) dJ35_leftShift_26 rfl (fun _ _ h => h.elim) (fun v Ws h => ?_)
    obtain ⟨rfl, rfl⟩ := h
    show SW x [ob (xg x) q 19 [.ref a, .int (jI (↑m)), .int (jI (↑o))], aN (xg x) 0 a N f] _ _ _ _ [.int (jI (↑(blen (f o))))]
    refine sw_istore (n := 31) F (L2 := [(4, .int (jI (↑(blen (f o))))), (3, .int (jI ((↑sh) % 32))), (2, .int (jI ((↑sh) / 32))), (0, .ref q), (1, .int (jI (↑sh)))]) rfl (by decide) dJ35_leftShift_29 rfl ?_
    refine sw_iload_n (n := 32) F 4 rfl rfl dJ35_leftShift_31 rfl ?_
    refine sw_bipush (n := 34) F (32) (by decide) dJ35_leftShift_32 rfl ?_
    refine sw_iload (n := 36) F 0 rfl dJ35_leftShift_34 rfl ?_
    refine sw_isub (n := 37) F dJ35_leftShift_36 rfl ?_
    refine sw_icmp_gt (n := 40) F (by omega) (by omega) (tgt := 46) dJ35_leftShift_37 (by decide) rfl (fun c_37 => ?_) (fun c_37 => ?_)
    ·
      refine sw_aload_n (n := 47) F 3 (some q) rfl rfl rfl dJ35_leftShift_46 rfl ?_
      refine sw_get (n := 50) F 0 rfl (k := 1) ⟨(RJ35, TJ35, 3), rfl, by decide, q1837, in_J35, Or.inl rfl⟩ rfl dJ35_leftShift_47 rfl ?_
      refine sw_iload_n (n := 51) F 2 rfl rfl dJ35_leftShift_50 rfl ?_
      refine sw_iadd (n := 52) F dJ35_leftShift_51 rfl ?_
      refine sw_iconst (n := 53) F (1) (by decide) dJ35_leftShift_52 rfl ?_
      refine sw_iadd (n := 54) F dJ35_leftShift_53 rfl ?_
      refine sw_istore (n := 56) F (L2 := [(5, .int (jI (((↑m) + ((↑sh) / 32)) + 1))), (4, .int (jI (↑(blen (f o))))), (3, .int (jI ((↑sh) % 32))), (2, .int (jI ((↑sh) / 32))), (0, .ref q), (1, .int (jI (↑sh)))]) rfl (by decide) dJ35_leftShift_54 rfl ?_
      refine sw_iload_n (n := 57) F 2 rfl rfl dJ35_leftShift_56 rfl ?_
      have K68 : ∀ (nl : Nat), ((nl = m + sh / 32 + 1 ∧ 32 < sh % 32 + blen (f o)) ∨ (nl = m + sh / 32 ∧ sh % 32 + blen (f o) ≤ 32 ∧ 32 < sh + blen (f o))) → SW x [ob (xg x) q 19 [.ref a, .int (jI (↑m)), .int (jI (↑o))], aN (xg x) 0 a N f] 1 11 68 [(0, .ref q), (3, .int (jI ((↑sh) % 32))), (4, .int (jI (↑(blen (f o))))), (5, .int (jI (↑nl)))] [] := by
        intro nl hnl
        refine sw_aload_n (n := 69) F 0 (some q) rfl rfl rfl dJ35_leftShift_68 rfl ?_
        have K256 : ∀ (a2 : Nat) (N2 : Nat) (f2 : Nat → Nat) (m2 : Int) (o2 : Nat), (o2 + nl ≤ N2 ∧ N2 ≤ 64 ∧ N2 ≤ N + m + 2) → (∀ k, k < N2 → f2 k < 4294967296) → (f2 o2 = f o) → (mw f2 o2 nl = mw f o m * bw (nl - m)) → (N = m + 1 ∧ o = 1 ∧ sh < 32 → N2 = N ∧ o2 = 0) → SW x [ob (xg x) q 19 [.ref a2, .int (jI (↑m2)), .int (jI (↑o2))], aN (xg x) 0 a2 N2 f2] 0 0 256 [(0, .ref q), (3, .int (jI ((↑sh) % 32))), (4, .int (jI (↑(blen (f o))))), (5, .int (jI (↑nl)))] [] := by
          intro a2 N2 f2 m2 o2 hN2 hf2 hh2 hv2 he2
          have hfo2 : f2 o2 < 4294967296 := by rw [hh2]; exact hfo
          refine sw_aload_n (n := 257) F 0 (some q) rfl rfl rfl dJ35_leftShift_256 rfl ?_
          refine sw_iload (n := 259) F 3 rfl dJ35_leftShift_257 rfl ?_
          refine sw_put (n := 262) F 0 rfl (k := 1) ⟨(RJ35, TJ35, 3), rfl, by decide, q1837, in_J35, Or.inl rfl⟩ .int ⟨(RJ35, TJ35, 3), rfl, rfl, tyJ35_ok 1 (by decide), nmJ35, tyJ35, tyJ35_ok⟩ rfl rfl (Nat.le_of_ble_eq_true rfl) rfl [ob (xg x) q 19 [.ref a2, .int (jI (↑nl)), .int (jI (↑o2))], aN (xg x) 0 a2 N2 f2] rfl dJ35_leftShift_259 rfl ?_
          refine sw_iload_n (n := 263) F 1 rfl rfl dJ35_leftShift_262 rfl ?_
          refine sw_if_ne (n := 266) F (by omega) (tgt := 267) dJ35_leftShift_263 (by decide) rfl (fun c_263 => ?_) (fun c_263 => ?_)
          ·
            refine sw_iload_n (n := 268) F 1 rfl rfl dJ35_leftShift_267 rfl ?_
            refine sw_bipush (n := 270) F (32) (by decide) dJ35_leftShift_268 rfl ?_
            refine sw_iload (n := 272) F 2 rfl dJ35_leftShift_270 rfl ?_
            refine sw_isub (n := 273) F dJ35_leftShift_272 rfl ?_
            refine sw_icmp_gt (n := 276) F (by omega) (by omega) (tgt := 284) dJ35_leftShift_273 (by decide) rfl (fun c_273 => ?_) (fun c_273 => ?_)
            ·
              refine sw_aload_n (n := 285) F 0 (some q) rfl rfl rfl dJ35_leftShift_284 rfl ?_
              refine sw_bipush (n := 287) F (32) (by decide) dJ35_leftShift_285 rfl ?_
              refine sw_iload_n (n := 288) F 1 rfl rfl dJ35_leftShift_287 rfl ?_
              refine sw_isub (n := 289) F dJ35_leftShift_288 rfl ?_
              rw [show (32 - ((↑sh) % 32) : Int) = ↑(32 - ((sh) % 32)) by omega]
              refine sw_callV (n := 292) F (ct_J35_primitiveRightShift (g := xg x) (l := xl x) q a2 N2 f2 nl o2 (32 - ((sh) % 32)) (by omega) hf2 (by first | omega | assumption) (by first | omega | assumption)) (rcv_ob F 0 rfl rfl) q1895 q1897 qs19 q144 q1898 nd_J35_primitiveRightShift rfl (by decide) [0, 1] rfl [] rfl 0 0 ⟨by omega, by omega⟩ [] rfl (Nat.le_of_ble_eq_true rfl) dJ35_leftShift_289 rfl (fun _ _ h => h.elim) (fun v Ws h => ?_)
              obtain ⟨f1_1, rfl, hf1_2, hv1_3, ho1_4, rfl⟩ := h
              show SW x [ob (xg x) q 19 [.ref a2, .int (jI (↑nl)), .int (jI (↑o2))], aN (xg x) 0 a2 N2 f1_1] _ _ _ _ []
              have hvE : mw f1_1 o2 nl = mw f o m * 2 ^ sh := by rw [hv1_3, hv2, show nl - m = sh / 32 + 1 by omega, shr_pw (by omega), bw_sh]
              exact sw_vret F rfl dJ35_leftShift_292 (by rw [hPo]; exact ⟨a2, N2, f1_1, nl, o2, rfl, (by first | omega | assumption), hf1_2, hvE, (by intro h9; first | omega | (have h8 := he2 h9; omega)), (by exact ⟨lsh_ge hm.1 h0 hvE (by omega), by omega, by omega⟩), rfl⟩)
            ·
              refine sw_aload_n (n := 277) F 0 (some q) rfl rfl rfl dJ35_leftShift_276 rfl ?_
              refine sw_iload_n (n := 278) F 1 rfl rfl dJ35_leftShift_277 rfl ?_
              rw [show ((↑sh) % 32 : Int) = ↑((sh) % 32) by omega]
              refine sw_callV (n := 281) F (ct_J35_primitiveLeftShift (g := xg x) (l := xl x) q a2 N2 f2 nl o2 ((sh) % 32) (by omega) hf2 (by first | omega | assumption) (by first | omega | assumption) (by rw [hh2]; exact bl_fit (by omega))) (rcv_ob F 0 rfl rfl) q1887 q1889 qs18 q144 q1890 nd_J35_primitiveLeftShift rfl (by decide) [0, 1] rfl [] rfl 0 0 ⟨by omega, by omega⟩ [] rfl (Nat.le_of_ble_eq_true rfl) dJ35_leftShift_278 rfl (fun _ _ h => h.elim) (fun v Ws h => ?_)
              obtain ⟨f1_5, rfl, hf1_6, hv1_7, ho1_8, rfl⟩ := h
              show SW x [ob (xg x) q 19 [.ref a2, .int (jI (↑nl)), .int (jI (↑o2))], aN (xg x) 0 a2 N2 f1_5] _ _ _ _ []
              refine sw_goto F (n := 292) dJ35_leftShift_281 (by decide) ?_
              have hvE : mw f1_5 o2 nl = mw f o m * 2 ^ sh := by rw [hv1_7, hv2, show nl - m = sh / 32 by omega, Nat.mul_assoc, bw_sh]
              exact sw_vret F rfl dJ35_leftShift_292 (by rw [hPo]; exact ⟨a2, N2, f1_5, nl, o2, rfl, (by first | omega | assumption), hf1_6, hvE, (by intro h9; first | omega | (have h8 := he2 h9; omega)), (by exact ⟨lsh_ge hm.1 h0 hvE (by omega), by omega, by omega⟩), rfl⟩)
          ·
            exact sw_vret F rfl dJ35_leftShift_266 (by rw [hPo]; exact ⟨a2, N2, f2, nl, o2, rfl, (by first | omega | assumption), hf2, (by rw [hv2, ← bw_sh sh, show sh % 32 = 0 by omega, Nat.pow_zero, Nat.mul_one, show nl - m = sh / 32 by omega]), (by intro h9; first | omega | (have h8 := he2 h9; omega)), (by refine ⟨lsh_ge (sh := sh) hm.1 h0 ?_ (by omega), by omega, by omega⟩; rw [hv2, ← bw_sh sh, show sh % 32 = 0 by omega, Nat.pow_zero, Nat.mul_one, show nl - m = sh / 32 by omega]), rfl⟩)
        refine sw_get (n := 72) F 0 rfl (k := 0) ⟨(RJ35, TJ35, 3), rfl, by decide, q1836, in_J35, Or.inl rfl⟩ rfl dJ35_leftShift_69 rfl ?_
        refine sw_alen (n := 73) F 1 rfl (fun _ => rfl) dJ35_leftShift_72 rfl ?_
        refine sw_iload (n := 75) F 3 rfl dJ35_leftShift_73 rfl ?_
        refine sw_icmp_ge (n := 78) F (by omega) (by omega) (tgt := 130) dJ35_leftShift_75 (by decide) rfl (fun c_75 => ?_) (fun c_75 => ?_)
        ·
          refine sw_aload_n (n := 131) F 0 (some q) rfl rfl rfl dJ35_leftShift_130 rfl ?_
          refine sw_get (n := 134) F 0 rfl (k := 0) ⟨(RJ35, TJ35, 3), rfl, by decide, q1836, in_J35, Or.inl rfl⟩ rfl dJ35_leftShift_131 rfl ?_
          refine sw_alen (n := 135) F 1 rfl (fun _ => rfl) dJ35_leftShift_134 rfl ?_
          refine sw_aload_n (n := 136) F 0 (some q) rfl rfl rfl dJ35_leftShift_135 rfl ?_
          refine sw_get (n := 139) F 0 rfl (k := 2) ⟨(RJ35, TJ35, 3), rfl, by decide, q1838, in_J35, Or.inl rfl⟩ rfl dJ35_leftShift_136 rfl ?_
          refine sw_isub (n := 140) F dJ35_leftShift_139 rfl ?_
          refine sw_iload (n := 142) F 3 rfl dJ35_leftShift_140 rfl ?_
          refine sw_icmp_lt (n := 145) F (by omega) (by omega) (tgt := 187) dJ35_leftShift_142 (by decide) rfl (fun c_142 => ?_) (fun c_142 => ?_)
          ·
            refine sw_iconst (n := 188) F (0) (by decide) dJ35_leftShift_187 rfl ?_
            refine sw_istore (n := 190) F (L2 := [(6, .int (jI 0)), (0, .ref q), (3, .int (jI ((↑sh) % 32))), (4, .int (jI (↑(blen (f o))))), (5, .int (jI (↑nl)))]) rfl (by decide) dJ35_leftShift_188 rfl ?_
            have K190 : ∀ N190 : Nat, ∀ (t : Nat) (g : Nat → Nat), (t ≤ m) → (∀ k, k < N → g k < 4294967296) → (∀ j, j < t → g j = f (o + j)) → (∀ j, t ≤ j → g j = f j) → ((m - t) < N190) → SW x [ob (xg x) q 19 [.ref a, .int (jI (↑m)), .int (jI (↑o))], aN (xg x) 0 a N g] 0 0 190 [(0, .ref q), (3, .int (jI ((↑sh) % 32))), (4, .int (jI (↑(blen (f o))))), (5, .int (jI (↑nl))), (6, .int (jI (↑t)))] [] := by
              intro N190; induction N190 with
              | zero => intro t g ht hgb hg hz hmu190; omega
              | succ N190 ih190 =>
                intro t g ht hgb hg hz hmu190
                refine sw_iload (n := 192) F 4 rfl dJ35_leftShift_190 rfl ?_
                refine sw_aload_n (n := 193) F 0 (some q) rfl rfl rfl dJ35_leftShift_192 rfl ?_
                refine sw_get (n := 196) F 0 rfl (k := 1) ⟨(RJ35, TJ35, 3), rfl, by decide, q1837, in_J35, Or.inl rfl⟩ rfl dJ35_leftShift_193 rfl ?_
                refine sw_icmp_ge (n := 199) F (by omega) (by omega) (tgt := 224) dJ35_leftShift_196 (by decide) rfl (fun c_196 => ?_) (fun c_196 => ?_)
                ·
                  refine sw_aload_n (n := 225) F 0 (some q) rfl rfl rfl dJ35_leftShift_224 rfl ?_
                  refine sw_get (n := 228) F 0 rfl (k := 1) ⟨(RJ35, TJ35, 3), rfl, by decide, q1837, in_J35, Or.inl rfl⟩ rfl dJ35_leftShift_225 rfl ?_
                  refine sw_istore (n := 230) F (L2 := [(6, .int (jI (↑m))), (0, .ref q), (3, .int (jI ((↑sh) % 32))), (4, .int (jI (↑(blen (f o))))), (5, .int (jI (↑nl)))]) rfl (by decide) dJ35_leftShift_228 rfl ?_
                  have K230 : ∀ N230 : Nat, ∀ (t : Nat) (g2 : Nat → Nat), (m ≤ t ∧ t ≤ nl) → (∀ k, k < N → g2 k < 4294967296) → (∀ j, j < m → g2 j = f (o + j)) → (∀ j, m ≤ j → j < t → g2 j = 0) → ((nl - t) < N230) → SW x [ob (xg x) q 19 [.ref a, .int (jI (↑m)), .int (jI (↑o))], aN (xg x) 0 a N g2] 0 0 230 [(0, .ref q), (3, .int (jI ((↑sh) % 32))), (4, .int (jI (↑(blen (f o))))), (5, .int (jI (↑nl))), (6, .int (jI (↑t)))] [] := by
                    intro N230; induction N230 with
                    | zero => intro t g2 ht hgb2 hg2 hz2 hmu230; omega
                    | succ N230 ih230 =>
                      intro t g2 ht hgb2 hg2 hz2 hmu230
                      refine sw_iload (n := 232) F 4 rfl dJ35_leftShift_230 rfl ?_
                      refine sw_iload (n := 234) F 3 rfl dJ35_leftShift_232 rfl ?_
                      refine sw_icmp_ge (n := 237) F (by omega) (by omega) (tgt := 251) dJ35_leftShift_234 (by decide) rfl (fun c_234 => ?_) (fun c_234 => ?_)
                      ·
                        refine sw_aload_n (n := 252) F 0 (some q) rfl rfl rfl dJ35_leftShift_251 rfl ?_
                        refine sw_iconst (n := 253) F (0) (by decide) dJ35_leftShift_252 rfl ?_
                        refine sw_put (n := 256) F 0 rfl (k := 2) ⟨(RJ35, TJ35, 3), rfl, by decide, q1838, in_J35, Or.inl rfl⟩ .int ⟨(RJ35, TJ35, 3), rfl, rfl, tyJ35_ok 2 (by decide), nmJ35, tyJ35, tyJ35_ok⟩ rfl rfl (Nat.le_of_ble_eq_true rfl) rfl [ob (xg x) q 19 [.ref a, .int (jI (↑m)), .int (jI 0)], aN (xg x) 0 a N g2] rfl dJ35_leftShift_253 rfl ?_
                        refine sw_loc [0, 1, 2, 3] (L2 := [(0, .ref q), (3, .int (jI ((↑sh) % 32))), (4, .int (jI (↑(blen (f o))))), (5, .int (jI (↑nl)))]) rfl ?_
                        exact K256 a N g2 m 0 (by first | omega | assumption) (by exact hgb2) (by rw [hg2 0 (by omega)]; rfl) (by have e := mw_pad (f := f) (g := g2) (o := o) (p := 0) (m := m) (t := nl - m) (fun j hj => by rw [Nat.zero_add]; exact hg2 j (by omega)) (fun j h1 h2 => by rw [Nat.zero_add]; exact hz2 j h1 (by omega)); rw [show m + (nl - m) = nl by omega] at e; exact e) (by first | omega | assumption)
                      ·
                        refine sw_aload_n (n := 238) F 0 (some q) rfl rfl rfl dJ35_leftShift_237 rfl ?_
                        refine sw_get (n := 241) F 0 rfl (k := 0) ⟨(RJ35, TJ35, 3), rfl, by decide, q1836, in_J35, Or.inl rfl⟩ rfl dJ35_leftShift_238 rfl ?_
                        refine sw_iload (n := 243) F 4 rfl dJ35_leftShift_241 rfl ?_
                        refine sw_iconst (n := 244) F (0) (by decide) dJ35_leftShift_243 rfl ?_
                        refine sw_iastoreW (n := 245) F 1 rfl (fun _ => rfl) t rfl (by omega) 0 (by first | omega | rfl) [ob (xg x) q 19 [.ref a, .int (jI (↑m)), .int (jI (↑o))], aN (xg x) 0 a N (va_up g2 t 0)] (by rfl) dJ35_leftShift_244 rfl ?_
                        refine sw_iinc (n := 248) F 4 (L2 := [(6, .int (jI (↑t + 1))), (0, .ref q), (3, .int (jI ((↑sh) % 32))), (4, .int (jI (↑(blen (f o))))), (5, .int (jI (↑nl)))]) rfl rfl (by decide) dJ35_leftShift_245 rfl ?_
                        refine sw_goto F (n := 230) dJ35_leftShift_248 (by decide) ?_
                        refine sw_loc [1, 2, 3, 4, 0] (L2 := [(0, .ref q), (3, .int (jI ((↑sh) % 32))), (4, .int (jI (↑(blen (f o))))), (5, .int (jI (↑nl))), (6, .int (jI (↑t + 1)))]) rfl ?_
                        rw [show (↑t + 1 : Int) = ↑(t + 1) by omega]
                        exact ih230 (t + 1) (va_up g2 t 0) (by first | omega | assumption) (by exact up_lt hgb2 (by decide)) (by intro j hj; rw [vu_ne (by omega)]; exact hg2 j hj) (by intro j h1 h2; rcases Nat.lt_or_ge j t with c | c; rw [vu_ne (by omega)]; exact hz2 j h1 c; exact vu_eq (by omega)) (by omega)
                  refine sw_loc [1, 2, 3, 4, 0] (L2 := [(0, .ref q), (3, .int (jI ((↑sh) % 32))), (4, .int (jI (↑(blen (f o))))), (5, .int (jI (↑nl))), (6, .int (jI (↑m)))]) rfl ?_
                  exact K230 _ m g (by first | omega | assumption) (by exact hgb) (by intro j hj; exact hg j (by omega)) (by intro j h1 h2; omega) (Nat.lt_succ_self _)
                ·
                  refine sw_aload_n (n := 200) F 0 (some q) rfl rfl rfl dJ35_leftShift_199 rfl ?_
                  refine sw_get (n := 203) F 0 rfl (k := 0) ⟨(RJ35, TJ35, 3), rfl, by decide, q1836, in_J35, Or.inl rfl⟩ rfl dJ35_leftShift_200 rfl ?_
                  refine sw_iload (n := 205) F 4 rfl dJ35_leftShift_203 rfl ?_
                  refine sw_aload_n (n := 206) F 0 (some q) rfl rfl rfl dJ35_leftShift_205 rfl ?_
                  refine sw_get (n := 209) F 0 rfl (k := 0) ⟨(RJ35, TJ35, 3), rfl, by decide, q1836, in_J35, Or.inl rfl⟩ rfl dJ35_leftShift_206 rfl ?_
                  refine sw_aload_n (n := 210) F 0 (some q) rfl rfl rfl dJ35_leftShift_209 rfl ?_
                  refine sw_get (n := 213) F 0 rfl (k := 2) ⟨(RJ35, TJ35, 3), rfl, by decide, q1838, in_J35, Or.inl rfl⟩ rfl dJ35_leftShift_210 rfl ?_
                  refine sw_iload (n := 215) F 4 rfl dJ35_leftShift_213 rfl ?_
                  refine sw_iadd (n := 216) F dJ35_leftShift_215 rfl ?_
                  refine sw_ialoadN (n := 217) F 1 rfl (fun _ => rfl) ((o) + (t)) (by omega) (by omega) dJ35_leftShift_216 rfl ?_
                  refine sw_iastoreW (n := 218) F 1 rfl (fun _ => rfl) t rfl (by omega) (f (o + t)) (by rw [hz _ (by omega)]) [ob (xg x) q 19 [.ref a, .int (jI (↑m)), .int (jI (↑o))], aN (xg x) 0 a N (va_up g t (f (o + t)))] (by rfl) dJ35_leftShift_217 rfl ?_
                  refine sw_iinc (n := 221) F 4 (L2 := [(6, .int (jI (↑t + 1))), (0, .ref q), (3, .int (jI ((↑sh) % 32))), (4, .int (jI (↑(blen (f o))))), (5, .int (jI (↑nl)))]) rfl rfl (by decide) dJ35_leftShift_218 rfl ?_
                  refine sw_goto F (n := 190) dJ35_leftShift_221 (by decide) ?_
                  refine sw_loc [1, 2, 3, 4, 0] (L2 := [(0, .ref q), (3, .int (jI ((↑sh) % 32))), (4, .int (jI (↑(blen (f o))))), (5, .int (jI (↑nl))), (6, .int (jI (↑t + 1)))]) rfl ?_
                  rw [show (↑t + 1 : Int) = ↑(t + 1) by omega]
                  exact ih190 (t + 1) (va_up g t (f (o + t))) (by first | omega | assumption) (by exact up_lt hgb (hf _ (by omega))) (by intro j hj; rcases Nat.lt_or_ge j t with c | c; rw [vu_ne (by omega)]; exact hg j c; rw [show j = t by omega, vu_eq rfl]) (by intro j hj; rw [vu_ne (by omega)]; exact hz j (by omega)) (by omega)
            refine sw_room (bc2 := 0) (bs2 := 0) ⟨by omega, by omega⟩ ?_
            refine sw_loc [1, 2, 3, 4, 0] (L2 := [(0, .ref q), (3, .int (jI ((↑sh) % 32))), (4, .int (jI (↑(blen (f o))))), (5, .int (jI (↑nl))), (6, .int (jI 0))]) rfl ?_
            exact K190 _ 0 f (by first | omega | assumption) (by exact hf) (by intro j hj; omega) (by intro j _; rfl) (Nat.lt_succ_self _)
          ·
            refine sw_iconst (n := 146) F (0) (by decide) dJ35_leftShift_145 rfl ?_
            refine sw_istore (n := 148) F (L2 := [(6, .int (jI 0)), (0, .ref q), (3, .int (jI ((↑sh) % 32))), (4, .int (jI (↑(blen (f o))))), (5, .int (jI (↑nl)))]) rfl (by decide) dJ35_leftShift_146 rfl ?_
            have K148 : ∀ N148 : Nat, ∀ (t : Nat) (g : Nat → Nat), (t ≤ nl - m) → (∀ k, k < N → g k < 4294967296) → (∀ j, j < o + m → g j = f j) → (∀ j, m ≤ j → j < m + t → g (o + j) = 0) → ((nl - m - t) < N148) → SW x [ob (xg x) q 19 [.ref a, .int (jI (↑m)), .int (jI (↑o))], aN (xg x) 0 a N g] 0 0 148 [(0, .ref q), (3, .int (jI ((↑sh) % 32))), (4, .int (jI (↑(blen (f o))))), (5, .int (jI (↑nl))), (6, .int (jI (↑t)))] [] := by
              intro N148; induction N148 with
              | zero => intro t g ht hgb hg hz hmu148; omega
              | succ N148 ih148 =>
                intro t g ht hgb hg hz hmu148
                refine sw_iload (n := 150) F 4 rfl dJ35_leftShift_148 rfl ?_
                refine sw_iload (n := 152) F 3 rfl dJ35_leftShift_150 rfl ?_
                refine sw_aload_n (n := 153) F 0 (some q) rfl rfl rfl dJ35_leftShift_152 rfl ?_
                refine sw_get (n := 156) F 0 rfl (k := 1) ⟨(RJ35, TJ35, 3), rfl, by decide, q1837, in_J35, Or.inl rfl⟩ rfl dJ35_leftShift_153 rfl ?_
                refine sw_isub (n := 157) F dJ35_leftShift_156 rfl ?_
                refine sw_icmp_ge (n := 160) F (by omega) (by omega) (tgt := 184) dJ35_leftShift_157 (by decide) rfl (fun c_157 => ?_) (fun c_157 => ?_)
                ·
                  refine sw_goto F (n := 256) dJ35_leftShift_184 (by decide) ?_
                  refine sw_loc [0, 1, 2, 3] (L2 := [(0, .ref q), (3, .int (jI ((↑sh) % 32))), (4, .int (jI (↑(blen (f o))))), (5, .int (jI (↑nl)))]) rfl ?_
                  exact K256 a N g m o (by first | omega | assumption) (by exact hgb) (by exact hg o (by omega)) (by have e := mw_pad (f := f) (g := g) (o := o) (p := o) (m := m) (t := nl - m) (fun j hj => hg _ (by omega)) (fun j h1 h2 => hz j h1 (by omega)); rw [show m + (nl - m) = nl by omega] at e; exact e) (by first | omega | assumption)
                ·
                  refine sw_aload_n (n := 161) F 0 (some q) rfl rfl rfl dJ35_leftShift_160 rfl ?_
                  refine sw_get (n := 164) F 0 rfl (k := 0) ⟨(RJ35, TJ35, 3), rfl, by decide, q1836, in_J35, Or.inl rfl⟩ rfl dJ35_leftShift_161 rfl ?_
                  refine sw_aload_n (n := 165) F 0 (some q) rfl rfl rfl dJ35_leftShift_164 rfl ?_
                  refine sw_get (n := 168) F 0 rfl (k := 2) ⟨(RJ35, TJ35, 3), rfl, by decide, q1838, in_J35, Or.inl rfl⟩ rfl dJ35_leftShift_165 rfl ?_
                  refine sw_aload_n (n := 169) F 0 (some q) rfl rfl rfl dJ35_leftShift_168 rfl ?_
                  refine sw_get (n := 172) F 0 rfl (k := 1) ⟨(RJ35, TJ35, 3), rfl, by decide, q1837, in_J35, Or.inl rfl⟩ rfl dJ35_leftShift_169 rfl ?_
                  refine sw_iadd (n := 173) F dJ35_leftShift_172 rfl ?_
                  refine sw_iload (n := 175) F 4 rfl dJ35_leftShift_173 rfl ?_
                  refine sw_iadd (n := 176) F dJ35_leftShift_175 rfl ?_
                  refine sw_iconst (n := 177) F (0) (by decide) dJ35_leftShift_176 rfl ?_
                  refine sw_iastoreW (n := 178) F 1 rfl (fun _ => rfl) (((o) + (m)) + (t)) (by omega) (by omega) 0 (by first | omega | rfl) [ob (xg x) q 19 [.ref a, .int (jI (↑m)), .int (jI (↑o))], aN (xg x) 0 a N (va_up g (((o) + (m)) + (t)) 0)] (by rfl) dJ35_leftShift_177 rfl ?_
                  refine sw_iinc (n := 181) F 4 (L2 := [(6, .int (jI (↑t + 1))), (0, .ref q), (3, .int (jI ((↑sh) % 32))), (4, .int (jI (↑(blen (f o))))), (5, .int (jI (↑nl)))]) rfl rfl (by decide) dJ35_leftShift_178 rfl ?_
                  refine sw_goto F (n := 148) dJ35_leftShift_181 (by decide) ?_
                  refine sw_loc [1, 2, 3, 4, 0] (L2 := [(0, .ref q), (3, .int (jI ((↑sh) % 32))), (4, .int (jI (↑(blen (f o))))), (5, .int (jI (↑nl))), (6, .int (jI (↑t + 1)))]) rfl ?_
                  rw [show (↑t + 1 : Int) = ↑(t + 1) by omega]
                  exact ih148 (t + 1) (va_up g (((o) + (m)) + (t)) 0) (by first | omega | assumption) (by exact up_lt hgb (by decide)) (by intro j hj; rw [vu_ne (by omega)]; exact hg j hj) (by intro j h1 h2; rcases Nat.lt_or_ge j (m + t) with c | c; rw [vu_ne (by omega)]; exact hz j h1 c; exact vu_eq (by omega)) (by omega)
            refine sw_room (bc2 := 0) (bs2 := 0) ⟨by omega, by omega⟩ ?_
            refine sw_loc [1, 2, 3, 4, 0] (L2 := [(0, .ref q), (3, .int (jI ((↑sh) % 32))), (4, .int (jI (↑(blen (f o))))), (5, .int (jI (↑nl))), (6, .int (jI 0))]) rfl ?_
            exact K148 _ 0 f (by first | omega | assumption) (by exact hf) (by intro j _; rfl) (by intro j h1 h2; omega) (Nat.lt_succ_self _)
        ·
          refine sw_iload (n := 80) F 3 rfl dJ35_leftShift_78 rfl ?_
          refine sw_newaN (n := 82) F (nl) (by first | omega | rfl) (by omega) 0 0 ⟨by omega, by omega⟩ dJ35_leftShift_80 rfl (fun q_9 => ?_)
          refine sw_astore (n := 84) F (some q_9) (L2 := [(6, .ref q_9), (0, .ref q), (3, .int (jI ((↑sh) % 32))), (4, .int (jI (↑(blen (f o))))), (5, .int (jI (↑nl)))]) rfl rfl (by decide) dJ35_leftShift_82 rfl ?_
          refine sw_iconst (n := 85) F (0) (by decide) dJ35_leftShift_84 rfl ?_
          refine sw_istore (n := 87) F (L2 := [(7, .int (jI 0)), (6, .ref q_9), (0, .ref q), (3, .int (jI ((↑sh) % 32))), (4, .int (jI (↑(blen (f o))))), (5, .int (jI (↑nl)))]) rfl (by decide) dJ35_leftShift_85 rfl ?_
          have K87 : ∀ N87 : Nat, ∀ (t : Nat) (g : Nat → Nat) (b2 : Nat), (t ≤ m) → (∀ j, j < t → g j = f (o + j)) → (∀ j, t ≤ j → g j = 0) → ((m - t) < N87) → SW x [aN (xg x) 0 b2 nl g, ob (xg x) q 19 [.ref a, .int (jI (↑m)), .int (jI (↑o))], aN (xg x) 0 a N f] 0 0 87 [(0, .ref q), (3, .int (jI ((↑sh) % 32))), (4, .int (jI (↑(blen (f o))))), (5, .int (jI (↑nl))), (6, .ref b2), (7, .int (jI (↑t)))] [] := by
            intro N87; induction N87 with
            | zero => intro t g b2 ht hg hz hmu87; omega
            | succ N87 ih87 =>
              intro t g b2 ht hg hz hmu87
              refine sw_iload (n := 89) F 5 rfl dJ35_leftShift_87 rfl ?_
              refine sw_aload_n (n := 90) F 0 (some q) rfl rfl rfl dJ35_leftShift_89 rfl ?_
              refine sw_get (n := 93) F 1 rfl (k := 1) ⟨(RJ35, TJ35, 3), rfl, by decide, q1837, in_J35, Or.inl rfl⟩ rfl dJ35_leftShift_90 rfl ?_
              refine sw_icmp_ge (n := 96) F (by omega) (by omega) (tgt := 119) dJ35_leftShift_93 (by decide) rfl (fun c_93 => ?_) (fun c_93 => ?_)
              ·
                refine sw_aload_n (n := 120) F 0 (some q) rfl rfl rfl dJ35_leftShift_119 rfl ?_
                refine sw_aload (n := 122) F 4 (some b2) rfl rfl dJ35_leftShift_120 rfl ?_
                refine sw_iload (n := 124) F 3 rfl dJ35_leftShift_122 rfl ?_
                refine sw_callV (n := 127) F (ct_J35_setValue (g := xg x) (l := xl x) q a b2 nl (↑m) (↑o) ) (rcv_ob F 1 rfl rfl) q1891 q1892 q1893 q144 q1894 nd_J35_setValue rfl (by decide) [1, 0, 2] rfl [aN (xg x) 0 b2 nl g, aN (xg x) 0 a N f] rfl 0 0 ⟨by omega, by omega⟩ [] rfl (Nat.le_of_ble_eq_true rfl) dJ35_leftShift_124 rfl (fun _ _ h => h.elim) (fun v Ws h => ?_)
                obtain ⟨rfl, rfl⟩ := h
                show SW x [ob (xg x) q 19 [.ref b2, .int (jI (↑nl)), .int (jI 0)], aN (xg x) 0 b2 nl g, aN (xg x) 0 a N f] _ _ _ _ []
                refine sw_goto F (n := 256) dJ35_leftShift_127 (by decide) ?_
                refine sw_drop [0, 1, 2] 2 rfl [ob (xg x) q 19 [.ref b2, .int (jI (↑nl)), .int (jI 0)], aN (xg x) 0 b2 nl g] rfl ?_
                refine sw_loc [0, 1, 2, 3] (L2 := [(0, .ref q), (3, .int (jI ((↑sh) % 32))), (4, .int (jI (↑(blen (f o))))), (5, .int (jI (↑nl)))]) rfl ?_
                exact K256 b2 nl g nl 0 (by first | omega | assumption) (by intro k hk2; rcases Nat.lt_or_ge k m with c | c; rw [hg k (by omega)]; exact hf _ (by omega); rw [hz k (by omega)]; decide) (by rw [hg 0 (by omega)]; rfl) (by have e := mw_pad (f := f) (g := g) (o := o) (p := 0) (m := m) (t := nl - m) (fun j hj => by rw [Nat.zero_add]; exact hg j (by omega)) (fun j h1 h2 => by rw [Nat.zero_add]; exact hz j (by omega)); rw [show m + (nl - m) = nl by omega] at e; exact e) (by first | omega | assumption)
              ·
                refine sw_aload (n := 98) F 4 (some b2) rfl rfl dJ35_leftShift_96 rfl ?_
                refine sw_iload (n := 100) F 5 rfl dJ35_leftShift_98 rfl ?_
                refine sw_aload_n (n := 101) F 0 (some q) rfl rfl rfl dJ35_leftShift_100 rfl ?_
                refine sw_get (n := 104) F 1 rfl (k := 0) ⟨(RJ35, TJ35, 3), rfl, by decide, q1836, in_J35, Or.inl rfl⟩ rfl dJ35_leftShift_101 rfl ?_
                refine sw_aload_n (n := 105) F 0 (some q) rfl rfl rfl dJ35_leftShift_104 rfl ?_
                refine sw_get (n := 108) F 1 rfl (k := 2) ⟨(RJ35, TJ35, 3), rfl, by decide, q1838, in_J35, Or.inl rfl⟩ rfl dJ35_leftShift_105 rfl ?_
                refine sw_iload (n := 110) F 5 rfl dJ35_leftShift_108 rfl ?_
                refine sw_iadd (n := 111) F dJ35_leftShift_110 rfl ?_
                refine sw_ialoadN (n := 112) F 2 rfl (fun _ => rfl) ((o) + (t)) (by omega) (by omega) dJ35_leftShift_111 rfl ?_
                refine sw_iastoreW (n := 113) F 0 rfl (fun _ => rfl) t rfl (by omega) (f (o + t)) (by first | omega | rfl) [aN (xg x) 0 b2 nl (va_up g t (f (o + t))), ob (xg x) q 19 [.ref a, .int (jI (↑m)), .int (jI (↑o))], aN (xg x) 0 a N f] (by rfl) dJ35_leftShift_112 rfl ?_
                refine sw_iinc (n := 116) F 5 (L2 := [(7, .int (jI (↑t + 1))), (0, .ref q), (3, .int (jI ((↑sh) % 32))), (4, .int (jI (↑(blen (f o))))), (5, .int (jI (↑nl))), (6, .ref b2)]) rfl rfl (by decide) dJ35_leftShift_113 rfl ?_
                refine sw_goto F (n := 87) dJ35_leftShift_116 (by decide) ?_
                refine sw_loc [1, 2, 3, 4, 5, 0] (L2 := [(0, .ref q), (3, .int (jI ((↑sh) % 32))), (4, .int (jI (↑(blen (f o))))), (5, .int (jI (↑nl))), (6, .ref b2), (7, .int (jI (↑t + 1)))]) rfl ?_
                rw [show (↑t + 1 : Int) = ↑(t + 1) by omega]
                exact ih87 (t + 1) (va_up g t (f (o + t))) b2 (by first | omega | assumption) (by intro j hj; rcases Nat.lt_or_ge j t with c | c; rw [vu_ne (by omega)]; exact hg j c; rw [show j = t by omega, vu_eq rfl]) (by intro j hj; rw [vu_ne (by omega)]; exact hz j (by omega)) (by omega)
          refine sw_loc [2, 3, 4, 5, 1, 0] (L2 := [(0, .ref q), (3, .int (jI ((↑sh) % 32))), (4, .int (jI (↑(blen (f o))))), (5, .int (jI (↑nl))), (6, .ref q_9), (7, .int (jI 0))]) rfl ?_
          exact K87 _ 0 (fun _ => 0) q_9 (by first | omega | assumption) (by intro j hj; omega) (by intro j _; rfl) (Nat.lt_succ_self _)
      refine sw_bipush (n := 59) F (32) (by decide) dJ35_leftShift_57 rfl ?_
      refine sw_iload (n := 61) F 1 rfl dJ35_leftShift_59 rfl ?_
      refine sw_isub (n := 62) F dJ35_leftShift_61 rfl ?_
      refine sw_icmp_gt (n := 65) F (by omega) (by omega) (tgt := 68) dJ35_leftShift_62 (by decide) rfl (fun c_62 => ?_) (fun c_62 => ?_)
      ·
        refine sw_loc [4, 2, 1, 0] (L2 := [(0, .ref q), (3, .int (jI ((↑sh) % 32))), (4, .int (jI (↑(blen (f o))))), (5, .int (jI (((↑m) + ((↑sh) / 32)) + 1)))]) rfl ?_
        rw [show (((↑m) + ((↑sh) / 32)) + 1 : Int) = ↑(((m) + ((sh) / 32)) + 1) by omega]
        exact K68 (((m) + ((sh) / 32)) + 1) (by first | (left; omega) | (right; omega))
      ·
        refine sw_iinc (n := 68) F 0 (L2 := [(5, .int (jI (((↑m) + ((↑sh) / 32)) + 1 + (-1)))), (4, .int (jI (↑(blen (f o))))), (3, .int (jI ((↑sh) % 32))), (2, .int (jI ((↑sh) / 32))), (0, .ref q), (1, .int (jI (↑sh)))]) rfl rfl (by decide) dJ35_leftShift_65 rfl ?_
        refine sw_loc [4, 2, 1, 0] (L2 := [(0, .ref q), (3, .int (jI ((↑sh) % 32))), (4, .int (jI (↑(blen (f o))))), (5, .int (jI (((↑m) + ((↑sh) / 32)) + 1 + (-1))))]) rfl ?_
        rw [show (((↑m) + ((↑sh) / 32)) + 1 + (-1) : Int) = ↑(((m) + ((sh) / 32)) + 1 - 1) by omega]
        exact K68 (((m) + ((sh) / 32)) + 1 - 1) (by first | (left; omega) | (right; omega))
    ·
      refine sw_aload_n (n := 41) F 3 (some q) rfl rfl rfl dJ35_leftShift_40 rfl ?_
      refine sw_iload_n (n := 42) F 1 rfl rfl dJ35_leftShift_41 rfl ?_
      rw [show ((↑sh) % 32 : Int) = ↑((sh) % 32) by omega]
      refine sw_callV (n := 45) F (ct_J35_primitiveLeftShift (g := xg x) (l := xl x) q a N f m o ((sh) % 32) (by omega) hf (by first | omega | assumption) (by omega) (by exact bl_fit (by omega))) (rcv_ob F 0 rfl rfl) q1887 q1889 qs18 q144 q1890 nd_J35_primitiveLeftShift rfl (by decide) [0, 1] rfl [] rfl 1 11 ⟨by omega, by omega⟩ [] rfl (Nat.le_of_ble_eq_true rfl) dJ35_leftShift_42 rfl (fun _ _ h => h.elim) (fun v Ws h => ?_)
      obtain ⟨f1_10, rfl, hf1_11, hv1_12, ho1_13, rfl⟩ := h
      show SW x [ob (xg x) q 19 [.ref a, .int (jI (↑m)), .int (jI (↑o))], aN (xg x) 0 a N f1_10] _ _ _ _ []
      have hvE : mw f1_10 o m = mw f o m * 2 ^ sh := by rw [hv1_12, show sh % 32 = sh by omega]
      exact sw_vret F rfl dJ35_leftShift_45 (by rw [hPo]; exact ⟨a, N, f1_10, m, o, rfl, hN, hf1_11, hvE, (by intro h9; first | omega | (have h8 := he2 h9; omega)), (by exact ⟨lsh_ge hm.1 h0 hvE (by omega), by omega, by omega⟩), rfl⟩)
  · exfalso; omega
theorem tp_pos {v k : Nat} (hv : v ≠ 0) (h : k < blen v) : v / 2 ^ k ≠ 0 := by
  have h1 := blen_le hv
  have h2 : 2 ^ k ≤ 2 ^ (blen v - 1) := Nat.pow_le_pow_right (by decide) (by omega)
  have h3 := (Nat.div_pos_iff (a := v) (b := 2 ^ k)).mpr ⟨Nat.pow_pos (by decide), Nat.le_trans h2 h1⟩
  omega
theorem tp_pos2 {v k c : Nat} (hv : v ≠ 0) (hk : k ≤ 32) (h : v < 2 ^ k) : v * 2 ^ (32 - k) % 4294967296 + c ≠ 0 := by
  have hPQ : 2 ^ k * 2 ^ (32 - k) = 4294967296 := by rw [← Nat.pow_add, show k + (32 - k) = 32 by omega]
  have hp : 0 < 2 ^ (32 - k) := Nat.pow_pos (by decide)
  have h1 : v * 2 ^ (32 - k) < 4294967296 := by rw [← hPQ]; exact Nat.mul_lt_mul_of_pos_right h hp
  have h2 : 1 * 2 ^ (32 - k) ≤ v * 2 ^ (32 - k) := Nat.mul_le_mul_right _ (by omega)
  rw [Nat.mod_eq_of_lt h1]; omega
theorem nd_J35_rightShift : yJ35_rightShift.cls ≠ "java/lang/invoke/MethodHandle" ∧ yJ35_rightShift.cls ≠ "java/lang/invoke/VarHandle" ∧ (parseMethodDescriptor yJ35_rightShift.desc).map (fun d => d.parameters.length) = some 1 := by decide +kernel
set_option maxRecDepth 100000 in
set_option maxHeartbeats 16000000 in
theorem ct_J35_rightShift {g : GG} {l : Launch} (q : Nat) (a : Nat) (N : Nat) (f : Nat → Nat) (m : Nat) (o : Nat) (sh : Nat) (hN : o + m ≤ N ∧ N ≤ 64) (hf : ∀ k, k < N → f k < 4294967296) (hm : sh / 32 < m ∧ m ≤ 64) (hk : sh ≤ 63) : Ct g l yJ35_rightShift (ws_ yJ35_rightShift cJ35_rightShift 5 (Option.none : Option Jvm.ClassFile.FieldType)) 3 53 0 0 [.ref q, .int (jI (↑sh))] [ob g q 19 [.ref a, .int (jI (↑m)), .int (jI (↑o))], aN g 0 a N f] (fun v9 Ws9 => ∃ f1 : Nat → Nat, ∃ m1 : Nat, v9 = none ∧ (m1 ≤ m ∧ o + m1 ≤ N) ∧ (∀ k, k < N → f1 k < 4294967296) ∧ (mw f1 o m1 = mw f o m / 2 ^ sh) ∧ (f o ≠ 0 → 0 < m1 → f1 o ≠ 0) ∧ Ws9 = [ob g q 19 [.ref a, .int (jI (↑m1)), .int (jI (↑o))], aN g 0 a N f1]) (nox) := by
  refine Ct.of (cc := cJ35_rightShift) (nL := 5) (ret := (Option.none : Option Jvm.ClassFile.FieldType)) (by decide) rfl (Nat.le_of_ble_eq_true rfl) ?_
  intro x hg hl hPo hPx hmc hms F
  subst hg; subst hl
  refine SW.cast (L' := [(0, .ref q), (1, .int (jI (↑sh)))]) ?_ rfl rfl rfl
  have hfo : f o < 4294967296 := hf _ (by omega)
  have hbl := blen_w hfo
  refine sw_aload_n (n := 1) F 0 (some q) rfl rfl rfl dJ35_rightShift_0 rfl ?_
  refine sw_get (n := 4) F 0 rfl (k := 1) ⟨(RJ35, TJ35, 3), rfl, by decide, q1837, in_J35, Or.inl rfl⟩ rfl dJ35_rightShift_1 rfl ?_
  refine sw_if_ne (n := 7) F (by omega) (tgt := 8) dJ35_rightShift_4 (by decide) rfl (fun c_4 => ?_) (fun c_4 => ?_)
  ·
    refine sw_iload_n (n := 9) F 1 rfl rfl dJ35_rightShift_8 rfl ?_
    refine sw_iconst (n := 10) F (5) (by decide) dJ35_rightShift_9 rfl ?_
    refine sw_iushr (n := 11) F (jI ((↑sh) / 32)) (by have h7s := jI_ushrPQ (z := ↑sh) (c := 5) (P := 32) (k := 5) (by omega) (by decide) (by decide); exact h7s) dJ35_rightShift_10 rfl ?_
    refine sw_istore_n (n := 12) F (L2 := [(2, .int (jI ((↑sh) / 32))), (0, .ref q), (1, .int (jI (↑sh)))]) rfl (by decide) rfl dJ35_rightShift_11 rfl ?_
    refine sw_iload_n (n := 13) F 2 rfl rfl dJ35_rightShift_12 rfl ?_
    refine sw_bipush (n := 15) F (31) (by decide) dJ35_rightShift_13 rfl ?_
    refine sw_iand (n := 16) F (jI ((↑sh) % 32)) (jI_and 5 (by decide) (by rfl)) dJ35_rightShift_15 rfl ?_
    refine sw_istore_n (n := 17) F (L2 := [(3, .int (jI ((↑sh) % 32))), (2, .int (jI ((↑sh) / 32))), (0, .ref q), (1, .int (jI (↑sh)))]) rfl (by decide) rfl dJ35_rightShift_16 rfl ?_
    refine sw_aload_n (n := 18) F 2 (some q) rfl rfl rfl dJ35_rightShift_17 rfl ?_
    refine sw_dup (n := 19) F rfl dJ35_rightShift_18 rfl ?_
    refine sw_get (n := 22) F 0 rfl (k := 1) ⟨(RJ35, TJ35, 3), rfl, by decide, q1837, in_J35, Or.inl rfl⟩ rfl dJ35_rightShift_19 rfl ?_
    refine sw_iload_n (n := 23) F 1 rfl rfl dJ35_rightShift_22 rfl ?_
    refine sw_isub (n := 24) F dJ35_rightShift_23 rfl ?_
    refine sw_top (topI (show ((↑m) - ((↑sh) / 32) : Int) = ↑(m - sh / 32) by omega)) ?_
    refine sw_put (n := 27) F 0 rfl (k := 1) ⟨(RJ35, TJ35, 3), rfl, by decide, q1837, in_J35, Or.inl rfl⟩ .int ⟨(RJ35, TJ35, 3), rfl, rfl, tyJ35_ok 1 (by decide), nmJ35, tyJ35, tyJ35_ok⟩ rfl rfl (Nat.le_of_ble_eq_true rfl) rfl [ob (xg x) q 19 [.ref a, .int (jI (↑(m - sh / 32))), .int (jI (↑o))], aN (xg x) 0 a N f] rfl dJ35_rightShift_24 rfl ?_
    refine sw_iload_n (n := 28) F 0 rfl rfl dJ35_rightShift_27 rfl ?_
    refine sw_if_ne (n := 31) F (by omega) (tgt := 32) dJ35_rightShift_28 (by decide) rfl (fun c_28 => ?_) (fun c_28 => ?_)
    ·
      refine sw_aload_n (n := 33) F 2 (some q) rfl rfl rfl dJ35_rightShift_32 rfl ?_
      refine sw_get (n := 36) F 0 rfl (k := 0) ⟨(RJ35, TJ35, 3), rfl, by decide, q1836, in_J35, Or.inl rfl⟩ rfl dJ35_rightShift_33 rfl ?_
      refine sw_aload_n (n := 37) F 2 (some q) rfl rfl rfl dJ35_rightShift_36 rfl ?_
      refine sw_get (n := 40) F 0 rfl (k := 2) ⟨(RJ35, TJ35, 3), rfl, by decide, q1838, in_J35, Or.inl rfl⟩ rfl dJ35_rightShift_37 rfl ?_
      refine sw_ialoadN (n := 41) F 1 rfl (fun _ => rfl) o rfl (by omega) dJ35_rightShift_40 rfl ?_
      refine sw_callS (n := 44) F (ct_J19_bitLengthForInt (g := xg x) (l := xl x) (f o) hfo) q1886 q1222 q127 q1223 nd_J19_bitLengthForInt rfl (by decide) [0, 1] rfl [ob (xg x) q 19 [.ref a, .int (jI (↑(m - sh / 32))), .int (jI (↑o))], aN (xg x) 0 a N f] rfl 0 0 ⟨by omega, by omega⟩ [] rfl (Nat.le_of_ble_eq_true rfl) dJ35_rightShift_41 rfl (fun _ _ h => h.elim) (fun v Ws h => ?_)
      obtain ⟨rfl, rfl⟩ := h
      show SW x [ob (xg x) q 19 [.ref a, .int (jI (↑(m - sh / 32))), .int (jI (↑o))], aN (xg x) 0 a N f] _ _ _ _ [.int (jI (↑(blen (f o))))]
      refine sw_istore (n := 46) F (L2 := [(4, .int (jI (↑(blen (f o))))), (3, .int (jI ((↑sh) % 32))), (2, .int (jI ((↑sh) / 32))), (0, .ref q), (1, .int (jI (↑sh)))]) rfl (by decide) dJ35_rightShift_44 rfl ?_
      refine sw_iload_n (n := 47) F 1 rfl rfl dJ35_rightShift_46 rfl ?_
      refine sw_iload (n := 49) F 0 rfl dJ35_rightShift_47 rfl ?_
      refine sw_icmp_lt (n := 52) F (by omega) (by omega) (tgt := 73) dJ35_rightShift_49 (by decide) rfl (fun c_49 => ?_) (fun c_49 => ?_)
      ·
        refine sw_aload_n (n := 74) F 3 (some q) rfl rfl rfl dJ35_rightShift_73 rfl ?_
        refine sw_iload_n (n := 75) F 1 rfl rfl dJ35_rightShift_74 rfl ?_
        rw [show ((↑sh) % 32 : Int) = ↑((sh) % 32) by omega]
        refine sw_callV (n := 78) F (ct_J35_primitiveRightShift (g := xg x) (l := xl x) q a N f (m - sh / 32) o ((sh) % 32) (by first | omega | assumption) hf (by first | omega | assumption) (by first | omega | assumption)) (rcv_ob F 0 rfl rfl) q1895 q1897 qs19 q144 q1898 nd_J35_primitiveRightShift rfl (by decide) [0, 1] rfl [] rfl 0 0 ⟨by omega, by omega⟩ [] rfl (Nat.le_of_ble_eq_true rfl) dJ35_rightShift_75 rfl (fun _ _ h => h.elim) (fun v Ws h => ?_)
        obtain ⟨f1_1, rfl, hf1_2, hv1_3, ho1_4, rfl⟩ := h
        show SW x [ob (xg x) q 19 [.ref a, .int (jI (↑(m - sh / 32))), .int (jI (↑o))], aN (xg x) 0 a N f1_1] _ _ _ _ []
        have hvE : mw f1_1 o (m - sh / 32) = mw f o m / 2 ^ sh := by rw [hv1_3, mw_div (N := N) hf (by omega) (by omega)]; exact shr_all
        have hwE : f o ≠ 0 → 0 < m - sh / 32 → f1_1 o ≠ 0 := by intro h8 h9; rw [ho1_4]; exact tp_pos h8 (by omega)
        exact sw_vret F rfl dJ35_rightShift_78 (by rw [hPo]; exact ⟨f1_1, m - sh / 32, rfl, (by first | omega | assumption), hf1_2, (by exact hvE), (by exact hwE), rfl⟩)
      ·
        refine sw_aload_n (n := 53) F 3 (some q) rfl rfl rfl dJ35_rightShift_52 rfl ?_
        refine sw_bipush (n := 55) F (32) (by decide) dJ35_rightShift_53 rfl ?_
        refine sw_iload_n (n := 56) F 1 rfl rfl dJ35_rightShift_55 rfl ?_
        refine sw_isub (n := 57) F dJ35_rightShift_56 rfl ?_
        rw [show (32 - ((↑sh) % 32) : Int) = ↑(32 - ((sh) % 32)) by omega]
        refine sw_callV (n := 60) F (ct_J35_primitiveLeftShift (g := xg x) (l := xl x) q a N f (m - sh / 32) o (32 - ((sh) % 32)) (by first | omega | assumption) hf (by first | omega | assumption) (by first | omega | assumption) (by rw [show 32 - (32 - sh % 32) = sh % 32 by omega]; exact bl_fit (by omega))) (rcv_ob F 0 rfl rfl) q1887 q1889 qs18 q144 q1890 nd_J35_primitiveLeftShift rfl (by decide) [0, 1] rfl [] rfl 0 0 ⟨by omega, by omega⟩ [] rfl (Nat.le_of_ble_eq_true rfl) dJ35_rightShift_57 rfl (fun _ _ h => h.elim) (fun v Ws h => ?_)
        obtain ⟨f1_5, rfl, hf1_6, hv1_7, ho1_8, rfl⟩ := h
        show SW x [ob (xg x) q 19 [.ref a, .int (jI (↑(m - sh / 32))), .int (jI (↑o))], aN (xg x) 0 a N f1_5] _ _ _ _ []
        refine sw_aload_n (n := 61) F 3 (some q) rfl rfl rfl dJ35_rightShift_60 rfl ?_
        refine sw_dup (n := 62) F rfl dJ35_rightShift_61 rfl ?_
        refine sw_get (n := 65) F 0 rfl (k := 1) ⟨(RJ35, TJ35, 3), rfl, by decide, q1837, in_J35, Or.inl rfl⟩ rfl dJ35_rightShift_62 rfl ?_
        refine sw_iconst (n := 66) F (1) (by decide) dJ35_rightShift_65 rfl ?_
        refine sw_isub (n := 67) F dJ35_rightShift_66 rfl ?_
        refine sw_top (topI (show ((↑(m - sh / 32)) - 1 : Int) = ↑(m - sh / 32 - 1) by omega)) ?_
        refine sw_put (n := 70) F 0 rfl (k := 1) ⟨(RJ35, TJ35, 3), rfl, by decide, q1837, in_J35, Or.inl rfl⟩ .int ⟨(RJ35, TJ35, 3), rfl, rfl, tyJ35_ok 1 (by decide), nmJ35, tyJ35, tyJ35_ok⟩ rfl rfl (Nat.le_of_ble_eq_true rfl) rfl [ob (xg x) q 19 [.ref a, .int (jI (↑(m - sh / 32 - 1))), .int (jI (↑o))], aN (xg x) 0 a N f1_5] rfl dJ35_rightShift_67 rfl ?_
        refine sw_goto F (n := 78) dJ35_rightShift_70 (by decide) ?_
        have hvE : mw f1_5 o (m - sh / 32 - 1) = mw f o m / 2 ^ sh := by rw [mw_div (N := N) hf1_6 (by omega) (by omega), hv1_7, mw_div (N := N) hf (by omega) (by omega)]; exact shl_all rfl (by omega)
        have hwE : f o ≠ 0 → 0 < m - sh / 32 - 1 → f1_5 o ≠ 0 := by intro h8 h9; rw [ho1_8]; exact tp_pos2 h8 (by omega) (bl_fit (by omega))
        exact sw_vret F rfl dJ35_rightShift_78 (by rw [hPo]; exact ⟨f1_5, m - sh / 32 - 1, rfl, (by first | omega | assumption), hf1_6, (by exact hvE), (by exact hwE), rfl⟩)
    ·
      exact sw_vret F rfl dJ35_rightShift_31 (by rw [hPo]; exact ⟨f, m - sh / 32, rfl, (by first | omega | assumption), hf, (by rw [mw_div (N := N) hf (by omega) (by omega), ← shr_all (X := mw f o m) (k := sh), show sh % 32 = 0 by omega, Nat.pow_zero, Nat.div_one]), (by intro h8 _; exact h8), rfl⟩)
  · exfalso; omega
